/-! SPEC: small laws -/
set_option maxRecDepth 100000
theorem iR14 (v : Int32) : v = nI 0 ∨ v = nI 1 ∨ v = nI 10 ∨ v = nI 11 ∨ v = nI 12 ∨ v = nI 13 ∨ (¬ v = 0 ∧ ¬ v = 1 ∧ iR v 2 = none ∧ wIn v.toInt64 (lN 10) (lN 13) = false ∧ ∀ i, iR v 14 = some i → ¬ (i < 2 ∨ 10 ≤ i)) := by
  have key : ∀ i, iR v 14 = some i → v = nI i := fun i h => (iR_some h).2
  by_cases h : ∃ i, iR v 14 = some i ∧ (i < 2 ∨ 10 ≤ i)
  · obtain ⟨i, h1, h2⟩ := h
    have h3 := (iR_some h1).1
    rcases (show i = 0 ∨ i = 1 ∨ i = 10 ∨ i = 11 ∨ i = 12 ∨ i = 13 by omega) with q | q | q | q | q | q <;> subst q
    · exact Or.inl (key _ h1)
    · exact Or.inr (Or.inl (key _ h1))
    · exact Or.inr (Or.inr (Or.inl (key _ h1)))
    · exact Or.inr (Or.inr (Or.inr (Or.inl (key _ h1))))
    · exact Or.inr (Or.inr (Or.inr (Or.inr (Or.inl (key _ h1)))))
    · exact Or.inr (Or.inr (Or.inr (Or.inr (Or.inr (Or.inl (key _ h1))))))
  · have hn : ∀ i, iR v 14 = some i → ¬ (i < 2 ∨ 10 ≤ i) := fun i h1 h2 => h ⟨i, h1, h2⟩
    have hint : ∀ z : Int, 0 ≤ z → z < 14 → v.toInt = z → ¬ (z < 2 ∨ 10 ≤ z) := by
      intro z z0 z1 hz hc
      have h1 : iR v 14 = some v.toNatClampNeg := by unfold iR; rw [if_pos ⟨by omega, by omega⟩]
      have h2 := (iR_some h1).2
      have h3 : v.toInt = (v.toNatClampNeg : Int) := by rw [h2, nI_clamp (by have := (iR_some h1).1; omega), nI_toInt (by have := (iR_some h1).1; omega)]
      exact hn _ h1 (by omega)
    refine Or.inr (Or.inr (Or.inr (Or.inr (Or.inr (Or.inr ⟨fun q => ?_, fun q => ?_, ?_, ?_, hn⟩)))))
    · subst q; exact hint 0 (by decide) (by decide) (by decide +kernel) (Or.inl (by decide))
    · subst q; exact hint 1 (by decide) (by decide) (by decide +kernel) (Or.inl (by decide))
    · cases hq : iR v 2 with
      | none => rfl
      | some j =>
        have h2 := iR_some hq
        exact absurd (Or.inl (by omega)) (hint j (by omega) (by omega) (by rw [h2.2, nI_toInt (by omega)]))
    · refine decide_eq_false (fun q => ?_)
      rw [i2l_int, lN_toInt (by decide), lN_toInt (by decide)] at q
      exact hint v.toInt (by omega) (by omega) rfl (Or.inr (by omega))
theorem shStep_env {P kd : Nat} {xs ys : Nat → Nat} {T : Talk} {f g : Nat → Bool} {v : Nat} {b : Bool} (hl : layd xs ys P (tW T)) (hk : kd = tKind T (v / 2)) (hb : b = decide (v % 2 = 1)) (hf : ∀ w, w < tP T → f w = g w) : ∀ w, w < tP T → ansW P (slW kd xs ys) f b w = shStep T v g w := by
  subst hb
  exact ansW_env hl hk hf
/-! THE MODEL, 11: soonest, shortest -/
set_option maxRecDepth 100000
theorem shg0 (c : Nat) : ((decide (0 < c) && decide (c = 1)) = true) = (decide (c = 1) = true) := by
  apply propext
  simp only [Bool.and_eq_true, decide_eq_true_eq]
  omega
section
variable {l : Launch} {D : va_G} {cl : List vw_C} {tys : List (ClassId × FieldType)} {mi : Nat} {cI cJ cZ : ClassId} {ma : Nat → Nat} {known fresh_ saved images : Nat → Int32} {isImage : Nat → Bool} {thrown : Nat} {tape : Nat → Nat} {taped size_ at_ begin_ token value open_ bad badPlace faultKind : Nat} {faultPlace : Int32} {xs ys : Nat → Nat} {pairs : Nat} {rows : Nat → Int64} {top : Nat} {heaps : Nat → Nat} {endsBehind : Nat → Int32} {path order firstOrder : Nat → Nat} {ordersMany : Nat} {tSort : Nat → Int32} {tMany : Nat → Nat} {numbers : Nat → Int64}
set_option maxHeartbeats 4000000 in
/-- a set of speakers -/
theorem ct_areSpeakers (T : Talk) (x0 : Int32) (hK : KIs known T) : CT l D cl tys yX10_areSpeakers cX10_areSpeakers 2 (some .boolean) ({ frames := 1, cells := 0, slots := 0, locals := 25 } : Room) [.ref (ma 0), .int x0] (HM D cl tys mi cI cJ cZ ma known fresh_ saved images isImage thrown tape taped size_ at_ begin_ token value open_ bad badPlace faultKind faultPlace xs ys pairs rows top heaps endsBehind path order firstOrder ordersMany tSort tMany numbers) (Qi (fun (v : Int32) (u : Unit) => v = bI (iR x0 (2 ^ tNS T)).isSome) (fun (u : Unit) => HM D cl tys mi cI cJ cZ ma known fresh_ saved images isImage thrown tape taped size_ at_ begin_ token value open_ bad badPlace faultKind faultPlace xs ys pairs rows top heaps endsBehind path order firstOrder ordersMany tSort tMany numbers) (AM ma)) (AM ma) := by
  obtain ⟨⟨o1, o2, o3, o4, o5, o6, o7, o8, o9, o10⟩, k0, k1, k2, k3, k4, k5, k6, k7, k8⟩ := id hK
  refine CT.of (L := [(0, .ref (ma 0)), (1, .int x0)]) rfl (by decide +kernel) rfl (Nat.le_of_ble_eq_true rfl) ?_
  refine g_iload_n 1 dX10_areSpeakers_0 rfl rfl ?_
  refine g_i2l dX10_areSpeakers_1 rfl ?_
  refine g_lconst (v := lN 0) dX10_areSpeakers_2 (by decide +kernel) ?_
  refine g_iconst (v := nI 1) dX10_areSpeakers_3 (by decide +kernel) ?_
  refine g_aload_n 0 dX10_areSpeakers_4 rfl rfl ?_
  refine m_get_known dX10_areSpeakers_5 ?_
  refine g_iconst (v := nI 5) dX10_areSpeakers_8 (by decide +kernel) ?_
  refine m_ld_known dX10_areSpeakers_9 (by omega) ?_
  refine GG.topi k5 ?_
  refine g_ishl dX10_areSpeakers_10 ?_
  refine GG.topi (pow2_Ns o6) ?_
  refine g_iconst (v := nI 1) dX10_areSpeakers_11 (by decide +kernel) ?_
  refine g_isub dX10_areSpeakers_12 ?_
  refine g_i2l dX10_areSpeakers_13 rfl ?_
  refine m_cSi (ct_within _ _ _) hsX10_within hyX10_within rfl ⟨Nat.le_of_ble_eq_true rfl, Nat.le_of_ble_eq_true rfl⟩ ⟨Nat.zero_le _, Nat.zero_le _⟩ rfl (Nat.le_of_ble_eq_true rfl) dX10_areSpeakers_14 (fun r u hp => ?_)
  obtain rfl := hp
  exact g_zret () dX10_areSpeakers_17 (Nat.le_refl _) (Nat.le_refl _) (by rw [wIn_iR x0 (Nat.lt_of_le_of_lt (Nat.pow_le_pow_right (by decide) o6) (by decide))]) (fun _ h => h)
set_option maxHeartbeats 4000000 in
/-- by which turns one knows soonest -/
theorem ct_soonest (T : Talk) (w0 wan hid k0a : Int32) (hK : KIs known T) : CT l D cl tys yX10_soonest cX10_soonest 6 (some .int) ({ frames := 11, cells := 0, slots := 0, locals := 345 } : Room) [.ref (ma 0), .int w0, .int wan, .int hid, .int k0a] (HM D cl tys mi cI cJ cZ ma known fresh_ saved images isImage thrown tape taped size_ at_ begin_ token value open_ bad badPlace faultKind faultPlace xs ys pairs rows top heaps endsBehind path order firstOrder ordersMany tSort tMany numbers) (Qi (fun (v : Int32) (u : (Nat × (Nat → Nat) × (Nat → Nat) × Nat × (Nat → Int64) × Nat × (Nat → Nat)) × (Nat → Nat)) => isSoonest T w0 wan hid k0a u.1.1 v) (fun (u : (Nat × (Nat → Nat) × (Nat → Nat) × Nat × (Nat → Int64) × Nat × (Nat → Nat)) × (Nat → Nat)) => HM D cl tys mi cI cJ cZ ma known fresh_ saved images isImage u.1.1 tape taped size_ at_ begin_ token value open_ bad badPlace faultKind faultPlace u.1.2.1 u.1.2.2.1 u.1.2.2.2.1 u.1.2.2.2.2.1 u.1.2.2.2.2.2.1 u.1.2.2.2.2.2.2 endsBehind u.2 order firstOrder ordersMany tSort tMany numbers) (AM ma)) (AM ma) := by
  obtain ⟨⟨o1, o2, o3, o4, o5, o6, o7, o8, o9, o10⟩, k0, k1, k2, k3, k4, k5, k6, k7, k8⟩ := id hK
  refine CT.of (L := [(0, .ref (ma 0)), (1, .int w0), (2, .int wan), (3, .int hid), (4, .int k0a)]) rfl (by decide +kernel) rfl (Nat.le_of_ble_eq_true rfl) ?_
  rcases hiw : iR w0 (tP T) with _ | j
  · skip
    refine g_aload_n 0 dX10_soonest_0 rfl rfl ?_
    refine g_aload_n 0 dX10_soonest_1 rfl rfl ?_
    refine g_iload_n 1 dX10_soonest_2 rfl rfl ?_
    refine m_cVi (ct_isWorld _ (tLow T) (tHigh T) (tMost T) (tUn T) k1 k2 k3 k4 o1 o2 o3 o4 o5) hvX10_isWorld hyX10_isWorld rfl ⟨Nat.le_of_ble_eq_true rfl, Nat.le_of_ble_eq_true rfl⟩ ⟨Nat.zero_le _, Nat.zero_le _⟩ rfl (Nat.le_of_ble_eq_true rfl) dX10_soonest_3 m_rec (fun r ul hld => ?_)
    obtain ⟨xsL, ysL, pairsL⟩ := ul
    dsimp only
    obtain ⟨hl, hr9⟩ := hld
    have hl : layd xsL ysL pairsL (tW T) := hl
    have hW := layd_OK hl o1 o3
    have hP : pairsL ≤ 1830 := hW.1
    have hPT : pairsL = tP T := hl.1
    subst hr9
    refine GG.topi (y := nI 0) (by show bI (iR _ (tP T)).isSome = _; rw [hiw]; rfl) ?_
    refine g_if_ne_n (tgt := 13) dX10_soonest_6 (by decide) (by decide) (fun h => absurd h (by decide)) (fun _ => ?_)
    refine g_iconst (v := nI 1) dX10_soonest_9 (by decide +kernel) ?_
    refine g_goto (tgt := 34) dX10_soonest_10 (by decide) ?_
    refine m_put_thrown dX10_soonest_34 ?_
    refine g_aload_n 0 dX10_soonest_37 rfl rfl ?_
    refine m_get_thrown dX10_soonest_38 ?_
    refine g_if_le_n (tgt := 46) dX10_soonest_41 (by decide) (by decide) (fun h => absurd h (by decide)) (fun _ => ?_)
    refine g_iconst (v := nI 0) dX10_soonest_44 (by decide +kernel) ?_
    exact g_iret ((_, _, _, _, _, _, _), _) dX10_soonest_45 (Nat.le_refl _) (Nat.le_refl _) (by unfold isSoonest; rw [hiw]) (fun _ h => h)
  · skip
    obtain ⟨hj, ej⟩ := iR_some hiw
    subst ej
    rcases hwa : iR wan (2 ^ tNS T) with _ | y1
    · skip
      refine g_aload_n 0 dX10_soonest_0 rfl rfl ?_
      refine g_aload_n 0 dX10_soonest_1 rfl rfl ?_
      refine g_iload_n 1 dX10_soonest_2 rfl rfl ?_
      refine m_cVi (ct_isWorld _ (tLow T) (tHigh T) (tMost T) (tUn T) k1 k2 k3 k4 o1 o2 o3 o4 o5) hvX10_isWorld hyX10_isWorld rfl ⟨Nat.le_of_ble_eq_true rfl, Nat.le_of_ble_eq_true rfl⟩ ⟨Nat.zero_le _, Nat.zero_le _⟩ rfl (Nat.le_of_ble_eq_true rfl) dX10_soonest_3 m_rec (fun r ul hld => ?_)
      obtain ⟨xsL, ysL, pairsL⟩ := ul
      dsimp only
      obtain ⟨hl, hr9⟩ := hld
      have hl : layd xsL ysL pairsL (tW T) := hl
      have hW := layd_OK hl o1 o3
      have hP : pairsL ≤ 1830 := hW.1
      have hPT : pairsL = tP T := hl.1
      subst hr9
      refine GG.topi (y := nI 1) (by show bI (iR _ (tP T)).isSome = _; rw [hiw]; rfl) ?_
      refine g_if_ne_n (tgt := 13) dX10_soonest_6 (by decide) (by decide) (fun _ => ?_) (fun h => absurd h (by decide))
      refine g_aload_n 0 dX10_soonest_13 rfl rfl ?_
      refine g_iload_n 2 dX10_soonest_14 rfl rfl ?_
      refine m_cVi (ct_areSpeakers T _ hK) hvX10_areSpeakers hyX10_areSpeakers rfl ⟨Nat.le_of_ble_eq_true rfl, Nat.le_of_ble_eq_true rfl⟩ ⟨Nat.zero_le _, Nat.zero_le _⟩ rfl (Nat.le_of_ble_eq_true rfl) dX10_soonest_15 m_rec (fun r u9 hp => ?_)
      obtain rfl := hp
      refine GG.topi (y := nI 0) (by rw [hwa]; rfl) ?_
      refine g_if_eq_n (tgt := 33) dX10_soonest_18 (by decide) (by decide) (fun _ => ?_) (fun h => absurd h (by decide))
      refine g_iconst (v := nI 2) dX10_soonest_33 (by decide +kernel) ?_
      refine m_put_thrown dX10_soonest_34 ?_
      refine g_aload_n 0 dX10_soonest_37 rfl rfl ?_
      refine m_get_thrown dX10_soonest_38 ?_
      refine g_if_le_n (tgt := 46) dX10_soonest_41 (by decide) (by decide) (fun h => absurd h (by decide)) (fun _ => ?_)
      refine g_iconst (v := nI 0) dX10_soonest_44 (by decide +kernel) ?_
      exact g_iret ((_, _, _, _, _, _, _), _) dX10_soonest_45 (Nat.le_refl _) (Nat.le_refl _) (by unfold isSoonest; rw [hiw]; dsimp only; rw [if_neg (fun q => by have q1 := q.1; rw [hwa] at q1; cases q1)]) (fun _ h => h)
    · skip
      rcases hhi : iR hid (2 ^ tNS T) with _ | y2
      · skip
        refine g_aload_n 0 dX10_soonest_0 rfl rfl ?_
        refine g_aload_n 0 dX10_soonest_1 rfl rfl ?_
        refine g_iload_n 1 dX10_soonest_2 rfl rfl ?_
        refine m_cVi (ct_isWorld _ (tLow T) (tHigh T) (tMost T) (tUn T) k1 k2 k3 k4 o1 o2 o3 o4 o5) hvX10_isWorld hyX10_isWorld rfl ⟨Nat.le_of_ble_eq_true rfl, Nat.le_of_ble_eq_true rfl⟩ ⟨Nat.zero_le _, Nat.zero_le _⟩ rfl (Nat.le_of_ble_eq_true rfl) dX10_soonest_3 m_rec (fun r ul hld => ?_)
        obtain ⟨xsL, ysL, pairsL⟩ := ul
        dsimp only
        obtain ⟨hl, hr9⟩ := hld
        have hl : layd xsL ysL pairsL (tW T) := hl
        have hW := layd_OK hl o1 o3
        have hP : pairsL ≤ 1830 := hW.1
        have hPT : pairsL = tP T := hl.1
        subst hr9
        refine GG.topi (y := nI 1) (by show bI (iR _ (tP T)).isSome = _; rw [hiw]; rfl) ?_
        refine g_if_ne_n (tgt := 13) dX10_soonest_6 (by decide) (by decide) (fun _ => ?_) (fun h => absurd h (by decide))
        refine g_aload_n 0 dX10_soonest_13 rfl rfl ?_
        refine g_iload_n 2 dX10_soonest_14 rfl rfl ?_
        refine m_cVi (ct_areSpeakers T _ hK) hvX10_areSpeakers hyX10_areSpeakers rfl ⟨Nat.le_of_ble_eq_true rfl, Nat.le_of_ble_eq_true rfl⟩ ⟨Nat.zero_le _, Nat.zero_le _⟩ rfl (Nat.le_of_ble_eq_true rfl) dX10_soonest_15 m_rec (fun r u9 hp => ?_)
        obtain rfl := hp
        refine GG.topi (y := nI 1) (by rw [hwa]; rfl) ?_
        refine g_if_eq_n (tgt := 33) dX10_soonest_18 (by decide) (by decide) (fun h => absurd h (by decide)) (fun _ => ?_)
        refine g_aload_n 0 dX10_soonest_21 rfl rfl ?_
        refine g_iload_n 3 dX10_soonest_22 rfl rfl ?_
        refine m_cVi (ct_areSpeakers T _ hK) hvX10_areSpeakers hyX10_areSpeakers rfl ⟨Nat.le_of_ble_eq_true rfl, Nat.le_of_ble_eq_true rfl⟩ ⟨Nat.zero_le _, Nat.zero_le _⟩ rfl (Nat.le_of_ble_eq_true rfl) dX10_soonest_23 m_rec (fun r u9 hp => ?_)
        obtain rfl := hp
        refine GG.topi (y := nI 0) (by rw [hhi]; rfl) ?_
        refine g_if_eq_n (tgt := 33) dX10_soonest_26 (by decide) (by decide) (fun _ => ?_) (fun h => absurd h (by decide))
        refine g_iconst (v := nI 2) dX10_soonest_33 (by decide +kernel) ?_
        refine m_put_thrown dX10_soonest_34 ?_
        refine g_aload_n 0 dX10_soonest_37 rfl rfl ?_
        refine m_get_thrown dX10_soonest_38 ?_
        refine g_if_le_n (tgt := 46) dX10_soonest_41 (by decide) (by decide) (fun h => absurd h (by decide)) (fun _ => ?_)
        refine g_iconst (v := nI 0) dX10_soonest_44 (by decide +kernel) ?_
        exact g_iret ((_, _, _, _, _, _, _), _) dX10_soonest_45 (Nat.le_refl _) (Nat.le_refl _) (by unfold isSoonest; rw [hiw]; dsimp only; rw [if_neg (fun q => by have q1 := q.2; rw [hhi] at q1; cases q1)]) (fun _ h => h)
      · skip
        refine g_aload_n 0 dX10_soonest_0 rfl rfl ?_
        refine g_aload_n 0 dX10_soonest_1 rfl rfl ?_
        refine g_iload_n 1 dX10_soonest_2 rfl rfl ?_
        refine m_cVi (ct_isWorld _ (tLow T) (tHigh T) (tMost T) (tUn T) k1 k2 k3 k4 o1 o2 o3 o4 o5) hvX10_isWorld hyX10_isWorld rfl ⟨Nat.le_of_ble_eq_true rfl, Nat.le_of_ble_eq_true rfl⟩ ⟨Nat.zero_le _, Nat.zero_le _⟩ rfl (Nat.le_of_ble_eq_true rfl) dX10_soonest_3 m_rec (fun r ul hld => ?_)
        obtain ⟨xsL, ysL, pairsL⟩ := ul
        dsimp only
        obtain ⟨hl, hr9⟩ := hld
        have hl : layd xsL ysL pairsL (tW T) := hl
        have hW := layd_OK hl o1 o3
        have hP : pairsL ≤ 1830 := hW.1
        have hPT : pairsL = tP T := hl.1
        subst hr9
        refine GG.topi (y := nI 1) (by show bI (iR _ (tP T)).isSome = _; rw [hiw]; rfl) ?_
        refine g_if_ne_n (tgt := 13) dX10_soonest_6 (by decide) (by decide) (fun _ => ?_) (fun h => absurd h (by decide))
        refine g_aload_n 0 dX10_soonest_13 rfl rfl ?_
        refine g_iload_n 2 dX10_soonest_14 rfl rfl ?_
        refine m_cVi (ct_areSpeakers T _ hK) hvX10_areSpeakers hyX10_areSpeakers rfl ⟨Nat.le_of_ble_eq_true rfl, Nat.le_of_ble_eq_true rfl⟩ ⟨Nat.zero_le _, Nat.zero_le _⟩ rfl (Nat.le_of_ble_eq_true rfl) dX10_soonest_15 m_rec (fun r u9 hp => ?_)
        obtain rfl := hp
        refine GG.topi (y := nI 1) (by rw [hwa]; rfl) ?_
        refine g_if_eq_n (tgt := 33) dX10_soonest_18 (by decide) (by decide) (fun h => absurd h (by decide)) (fun _ => ?_)
        refine g_aload_n 0 dX10_soonest_21 rfl rfl ?_
        refine g_iload_n 3 dX10_soonest_22 rfl rfl ?_
        refine m_cVi (ct_areSpeakers T _ hK) hvX10_areSpeakers hyX10_areSpeakers rfl ⟨Nat.le_of_ble_eq_true rfl, Nat.le_of_ble_eq_true rfl⟩ ⟨Nat.zero_le _, Nat.zero_le _⟩ rfl (Nat.le_of_ble_eq_true rfl) dX10_soonest_23 m_rec (fun r u9 hp => ?_)
        obtain rfl := hp
        refine GG.topi (y := nI 1) (by rw [hhi]; rfl) ?_
        refine g_if_eq_n (tgt := 33) dX10_soonest_26 (by decide) (by decide) (fun h => absurd h (by decide)) (fun _ => ?_)
        refine g_iconst (v := nI 0) dX10_soonest_29 (by decide +kernel) ?_
        refine g_goto (tgt := 34) dX10_soonest_30 (by decide) ?_
        refine m_put_thrown dX10_soonest_34 ?_
        refine g_aload_n 0 dX10_soonest_37 rfl rfl ?_
        refine m_get_thrown dX10_soonest_38 ?_
        refine g_if_le_n (tgt := 46) dX10_soonest_41 (by decide) (by decide) (fun _ => ?_) (fun h => absurd h (by decide))
        refine g_aload_n 0 dX10_soonest_46 rfl rfl ?_
        refine g_iconst (v := nI 0) dX10_soonest_47 (by decide +kernel) ?_
        refine g_iconst (v := nI 1) dX10_soonest_48 (by decide +kernel) ?_
        refine m_cVv (ct_fills _ true (by omega) (by omega)) hvX10_fills hyX10_fills rfl ⟨Nat.le_of_ble_eq_true rfl, Nat.le_of_ble_eq_true rfl⟩ ⟨Nat.zero_le _, Nat.zero_le _⟩ rfl (Nat.le_of_ble_eq_true rfl) dX10_soonest_49 m_rec (fun rowsF hF => ?_)
        have hF0 : ∀ v, v < tP T → rbt rowsF 0 v = true := fun v hv => by rw [rowsUp_in hF hP (by omega)]
        refine g_iconst (v := nI 0) dX10_soonest_52 (by decide +kernel) ?_
        refine g_istore (L' := [(0, _), (1, _), (2, _), (3, _), (4, _), (5, _)]) dX10_soonest_53 (by decide) rfl rfl ?_
        have loop55 : ∀ (q55 : Nat) (n : Nat) (heaps1 : Nat → Nat) (rows1 : Nat → Int64) (path1 : Nat → Nat), 6 - n < q55 → (n ≤ 6) → (firstG (fun l => snF T wan hid j l allT) n = none) → (∀ v, v < tP T → rbt rows1 0 v = true) → GG l D cl tys cX10_soonest 6 (some .int) RX10 ({ frames := 11, cells := 0, slots := 0, locals := 345 } : Room) (AM ma) MT (QM (Qi (fun (v : Int32) (u : (Nat × (Nat → Nat) × (Nat → Nat) × Nat × (Nat → Int64) × Nat × (Nat → Nat)) × (Nat → Nat)) => isSoonest T (nI j) wan hid k0a u.1.1 v) (fun (u : (Nat × (Nat → Nat) × (Nat → Nat) × Nat × (Nat → Int64) × Nat × (Nat → Nat)) × (Nat → Nat)) => HM D cl tys mi cI cJ cZ ma known fresh_ saved images isImage u.1.1 tape taped size_ at_ begin_ token value open_ bad badPlace faultKind faultPlace u.1.2.1 u.1.2.2.1 u.1.2.2.2.1 u.1.2.2.2.2.1 u.1.2.2.2.2.2.1 u.1.2.2.2.2.2.2 endsBehind u.2 order firstOrder ordersMany tSort tMany numbers) (AM ma)) 0 0 (AM ma)) (HM D cl tys mi cI cJ cZ ma known fresh_ saved images isImage 0 tape taped size_ at_ begin_ token value open_ bad badPlace faultKind faultPlace xsL ysL pairsL rows1 top heaps1 endsBehind path1 order firstOrder ordersMany tSort tMany numbers) 0 0 55 [(0, .ref (ma 0)), (1, .int (nI j)), (2, .int wan), (3, .int hid), (4, .int k0a), (5, .int (nI n))] [] := by
          intro q55
          induction q55 with
          | zero => intro n heaps1 rows1 path1 hq55; exact absurd hq55 (Nat.not_lt_zero _)
          | succ q55 ih55 =>
            intro n heaps1 rows1 path1 hq55 hn hi h0
            refine g_iload dX10_soonest_55 rfl ?_
            refine g_iconst (v := nI 5) dX10_soonest_57 (by decide +kernel) ?_
            refine g_icmp_gt_n (tgt := 118) dX10_soonest_58 (by decide) (by omega) (by omega) (fun c58 => ?_) (fun c58 => ?_)
            · skip
              refine g_iconst (v := -1) dX10_soonest_118 (by decide +kernel) ?_
              exact g_iret ((_, _, _, _, _, _, _), _) dX10_soonest_119 (Nat.le_refl _) (Nat.le_refl _) (by unfold isSoonest; rw [hiw]; dsimp only; rw [if_pos ⟨by rw [hwa]; rfl, by rw [hhi]; rfl⟩]; rw [show firstG (fun l => snF T wan hid j l allT) 6 = none by rw [← show n = 6 by omega]; exact hi]; exact ⟨rfl, rfl⟩) (fun _ h => h)
            · skip
              refine g_aload_n 0 dX10_soonest_61 rfl rfl ?_
              refine g_iload_n 1 dX10_soonest_62 rfl rfl ?_
              refine g_iload_n 2 dX10_soonest_63 rfl rfl ?_
              refine g_iload_n 3 dX10_soonest_64 rfl rfl ?_
              refine g_iconst (v := nI 0) dX10_soonest_65 (by decide +kernel) ?_
              refine g_iload dX10_soonest_66 rfl ?_
              refine m_cVi (sn_all T wan hid j n 0 allT hK hl hj (by omega) h0) hvX10_soon hyX10_soon rfl ⟨by dsimp only; omega, by dsimp only; omega⟩ ⟨Nat.zero_le _, Nat.zero_le _⟩ rfl (Nat.le_of_ble_eq_true rfl) dX10_soonest_68 m_rec (fun r us hus => ?_)
              obtain ⟨heaps5, rows5, path5⟩ := us
              dsimp only
              obtain ⟨hr9, hg9⟩ := hus
              subst hr9
              have hg9 : went path1 path5 rows1 rows5 (tP T) 0 n _ := hg9
              refine g_if_eq_b (tgt := 112) dX10_soonest_71 (by decide) (fun c71 => ?_) (fun c71 => ?_)
              · skip
                refine g_iinc_n (b := 1) (L' := [(0, _), (1, _), (2, _), (3, _), (4, _), (5, _)]) dX10_soonest_112 rfl rfl (by decide) rfl rfl ?_
                refine g_goto (tgt := 55) dX10_soonest_115 (by decide) ?_
                exact ih55 (n + 1) heaps5 rows5 path5 (by omega) (by omega) (firstG_none hi (Option.isSome_eq_false_iff.mp c71 |> Option.isNone_iff_eq_none.mp)) (fun v hv => by rw [hg9.1 0 v (Nat.le_refl _) (by omega)]; exact h0 v hv)
              · skip
                refine g_iload dX10_soonest_74 rfl ?_
                refine g_iconst (v := -1) dX10_soonest_76 (by decide +kernel) ?_
                refine g_icmp_ne (tgt := 85) dX10_soonest_77 (by decide) (fun c77 => ?_) (fun c77 => ?_)
                · skip
                  refine g_iload dX10_soonest_85 rfl ?_
                  refine g_i2l dX10_soonest_87 rfl ?_
                  refine g_lconst (v := lN 0) dX10_soonest_88 (by decide +kernel) ?_
                  refine g_iload dX10_soonest_89 rfl ?_
                  refine g_iconst (v := nI 1) dX10_soonest_91 (by decide +kernel) ?_
                  refine g_isub dX10_soonest_92 ?_
                  refine g_i2l dX10_soonest_93 rfl ?_
                  refine m_cSi (ct_within _ _ _) hsX10_within hyX10_within rfl ⟨Nat.le_of_ble_eq_true rfl, Nat.le_of_ble_eq_true rfl⟩ ⟨Nat.zero_le _, Nat.zero_le _⟩ rfl (Nat.le_of_ble_eq_true rfl) dX10_soonest_94 (fun r u9 hp => ?_)
                  obtain rfl := hp
                  refine GG.topi (y := bI (iR k0a n).isSome) (congrArg bI (wIn_iR k0a (by omega))) ?_
                  refine g_if_eq_b (tgt := 110) dX10_soonest_97 (by decide) (fun c97 => ?_) (fun c97 => ?_)
                  · skip
                    refine g_iconst (v := -1) dX10_soonest_110 (by decide +kernel) ?_
                    exact g_iret ((_, _, _, _, _, _, _), _) dX10_soonest_111 (Nat.le_refl _) (Nat.le_refl _) (by unfold isSoonest; rw [hiw]; dsimp only; rw [if_pos ⟨by rw [hwa]; rfl, by rw [hhi]; rfl⟩]; obtain ⟨⟨pp, SS⟩, hps⟩ := Option.isSome_iff_exists.mp c71; have hfg := firstG_some hi hps (show n < 6 by omega); rw [hfg]; refine ⟨rfl, ?_⟩; dsimp only; rw [if_neg c77, Option.isSome_eq_false_iff.mp c97 |> Option.isNone_iff_eq_none.mp]) (fun _ h => h)
                  · skip
                    obtain ⟨x9, hx9⟩ := Option.isSome_iff_exists.mp c97
                    obtain ⟨hx1, ex9⟩ := iR_some hx9
                    skip
                    refine g_aload_n 0 dX10_soonest_100 rfl rfl ?_
                    refine m_get_path dX10_soonest_101 ?_
                    refine g_iload dX10_soonest_104 rfl ?_
                    refine GG.topi ex9 ?_
                    refine m_ld_path dX10_soonest_106 (by omega) ?_
                    refine g_goto (tgt := 111) dX10_soonest_107 (by decide) ?_
                    exact g_iret ((_, _, _, _, _, _, _), _) dX10_soonest_111 (Nat.le_refl _) (Nat.le_refl _) (by unfold isSoonest; rw [hiw]; dsimp only; rw [if_pos ⟨by rw [hwa]; rfl, by rw [hhi]; rfl⟩]; obtain ⟨⟨pp, SS⟩, hps⟩ := Option.isSome_iff_exists.mp c71; have hfg := firstG_some hi hps (show n < 6 by omega); rw [hfg]; refine ⟨rfl, ?_⟩; dsimp only; first | (rw [if_pos c77]; done) | (rw [if_neg c77, hx9]; dsimp only; obtain ⟨g1, g2, g3⟩ := hg9.2.2 pp SS hps; have := g2 x9 hx1; rw [Nat.zero_add] at this; rw [this])) (fun _ h => h)
                · skip
                  refine g_iload dX10_soonest_80 rfl ?_
                  refine g_goto (tgt := 111) dX10_soonest_82 (by decide) ?_
                  exact g_iret ((_, _, _, _, _, _, _), _) dX10_soonest_111 (Nat.le_refl _) (Nat.le_refl _) (by unfold isSoonest; rw [hiw]; dsimp only; rw [if_pos ⟨by rw [hwa]; rfl, by rw [hhi]; rfl⟩]; obtain ⟨⟨pp, SS⟩, hps⟩ := Option.isSome_iff_exists.mp c71; have hfg := firstG_some hi hps (show n < 6 by omega); rw [hfg]; refine ⟨rfl, ?_⟩; dsimp only; first | (rw [if_pos c77]; done) | (rw [if_neg c77, hx9]; dsimp only; obtain ⟨g1, g2, g3⟩ := hg9.2.2 pp SS hps; have := g2 x9 hx1; rw [Nat.zero_add] at this; rw [this])) (fun _ h => h)
        exact loop55 7 0 heaps rowsF path (by omega) (by omega) rfl hF0
abbrev ShOK (l : Launch) (D : va_G) (cl : List vw_C) (tys : List (ClassId × FieldType)) (mi : Nat) (cI cJ cZ : ClassId) (ma : Nat → Nat) (T : Talk) (d : Nat) : Prop := ∀ {known fresh_ saved images : Nat → Int32} {isImage : Nat → Bool} {thrown : Nat} {tape : Nat → Nat} {taped size_ at_ begin_ token value open_ bad badPlace faultKind : Nat} {faultPlace : Int32} {xs ys : Nat → Nat} {pairs : Nat} {rows : Nat → Int64} {top : Nat} {heaps : Nat → Nat} {endsBehind : Nat → Int32} {path order firstOrder : Nat → Nat} {ordersMany : Nat} {tSort : Nat → Int32} {tMany : Nat → Nat} {numbers : Nat → Int64} (a0 : Nat) (f : Nat → Bool), KIs known T → layd xs ys pairs (tW T) → a0 + d ≤ 5 → (∀ v, v < tP T → rbt rows a0 v = f v) → CT l D cl tys yX10_shortBy cX10_shortBy 5 (some .boolean) ({ frames := 5 + (d), cells := 0, slots := 0, locals := 119 + 40 * (d) } : Room) [.ref (ma 0), .int (nI a0), .int (nI d)] (HM D cl tys mi cI cJ cZ ma known fresh_ saved images isImage thrown tape taped size_ at_ begin_ token value open_ bad badPlace faultKind faultPlace xs ys pairs rows top heaps endsBehind path order firstOrder ordersMany tSort tMany numbers) (Qi (fun (v : Int32) (u : (Nat → Nat) × (Nat → Int64) × (Nat → Nat)) => v = bI (shF T d f).isSome ∧ went path u.2.2 rows u.2.1 (tP T) a0 d (shF T d f)) (fun (u : (Nat → Nat) × (Nat → Int64) × (Nat → Nat)) => HM D cl tys mi cI cJ cZ ma known fresh_ saved images isImage thrown tape taped size_ at_ begin_ token value open_ bad badPlace faultKind faultPlace xs ys pairs u.2.1 top u.1 endsBehind u.2.2 order firstOrder ordersMany tSort tMany numbers) (AM ma)) (AM ma)
set_option maxHeartbeats 4000000 in
/-- whether no more answer does -/
theorem ct_shortBy0 (T : Talk) (a0 : Nat) (f : Nat → Bool) (hK : KIs known T) (hl : layd xs ys pairs (tW T)) (had : a0 + 0 ≤ 5) (hf : ∀ v, v < tP T → rbt rows a0 v = f v) : CT l D cl tys yX10_shortBy cX10_shortBy 5 (some .boolean) ({ frames := 5 + (0), cells := 0, slots := 0, locals := 119 + 40 * (0) } : Room) [.ref (ma 0), .int (nI a0), .int (nI 0)] (HM D cl tys mi cI cJ cZ ma known fresh_ saved images isImage thrown tape taped size_ at_ begin_ token value open_ bad badPlace faultKind faultPlace xs ys pairs rows top heaps endsBehind path order firstOrder ordersMany tSort tMany numbers) (Qi (fun (v : Int32) (u : (Nat → Nat) × (Nat → Int64) × (Nat → Nat)) => v = bI (shF T 0 f).isSome ∧ went path u.2.2 rows u.2.1 (tP T) a0 0 (shF T 0 f)) (fun (u : (Nat → Nat) × (Nat → Int64) × (Nat → Nat)) => HM D cl tys mi cI cJ cZ ma known fresh_ saved images isImage thrown tape taped size_ at_ begin_ token value open_ bad badPlace faultKind faultPlace xs ys pairs u.2.1 top u.1 endsBehind u.2.2 order firstOrder ordersMany tSort tMany numbers) (AM ma)) (AM ma) := by
  obtain ⟨⟨o1, o2, o3, o4, o5, o6, o7, o8, o9, o10⟩, k0, k1, k2, k3, k4, k5, k6, k7, k8⟩ := id hK
  have hW := layd_OK hl o1 o3
  have hP : pairs ≤ 1830 := hW.1
  have hPT : pairs = tP T := hl.1
  refine CT.of (L := [(0, .ref (ma 0)), (1, .int (nI a0)), (2, .int (nI 0))]) rfl (by decide +kernel) rfl (Nat.le_of_ble_eq_true rfl) ?_
  refine g_aload_n 0 dX10_shortBy_0 rfl rfl ?_
  refine g_iload_n 1 dX10_shortBy_1 rfl rfl ?_
  refine m_cVi (ct_manyOf _ (by omega) (by omega)) hvX10_manyOf hyX10_manyOf rfl ⟨by dsimp only; omega, by dsimp only; omega⟩ ⟨Nat.zero_le _, Nat.zero_le _⟩ rfl (Nat.le_of_ble_eq_true rfl) dX10_shortBy_2 m_rec (fun r u9 hp => ?_)
  obtain rfl := hp
  refine GG.topi (y := nI (cnt f (tP T))) (by rw [← hPT]; exact congrArg nI (cnt_congr (fun w hw => hf w (by omega)))) ?_
  have hcl : cnt f (tP T) ≤ tP T := cnt_le _ _
  refine g_istore_n (L' := [(0, _), (1, _), (2, _), (3, _)]) 3 dX10_shortBy_5 rfl (by decide) rfl rfl ?_
  refine g_iload_n 2 dX10_shortBy_6 rfl rfl ?_
  refine g_if_ne_n (tgt := 21) dX10_shortBy_7 (by decide) (by decide) (fun h => absurd h (by decide)) (fun _ => ?_)
  refine g_iload_n 3 dX10_shortBy_10 rfl rfl ?_
  refine g_iconst (v := nI 1) dX10_shortBy_11 (by decide +kernel) ?_
  refine g_icmp_ne_n (tgt := 19) dX10_shortBy_12 (by decide) (by omega) (by omega) (fun c12 => ?_) (fun c12 => ?_)
  · skip
    refine g_iconst (v := nI 0) dX10_shortBy_19 (by decide +kernel) ?_
    exact g_zret (b := false) (heaps, rows, path) dX10_shortBy_20 (Nat.le_refl _) (Nat.le_refl _) (by rw [show shF T 0 f = if decide (cnt f (tP T) = 1) = true then some ([], f) else none by unfold shF seekF; congr 1; unfold shGood shFin; exact shg0 _, decide_eq_false c12]; exact went_here hf false) (fun _ h => h)
  · skip
    refine g_iconst (v := nI 1) dX10_shortBy_15 (by decide +kernel) ?_
    refine g_goto (tgt := 20) dX10_shortBy_16 (by decide) ?_
    exact g_zret (b := true) (heaps, rows, path) dX10_shortBy_20 (Nat.le_refl _) (Nat.le_refl _) (by rw [show shF T 0 f = if decide (cnt f (tP T) = 1) = true then some ([], f) else none by unfold shF seekF; congr 1; unfold shGood shFin; exact shg0 _, decide_eq_true c12]; exact went_here hf true) (fun _ h => h)
set_option maxHeartbeats 4000000 in
/-- whether some more answers do -/
theorem ct_shortByS (T : Talk) (d a0 : Nat) (f : Nat → Bool) (ih : ShOK l D cl tys mi cI cJ cZ ma T d) (hK : KIs known T) (hl : layd xs ys pairs (tW T)) (had : a0 + (d + 1) ≤ 5) (hf : ∀ v, v < tP T → rbt rows a0 v = f v) : CT l D cl tys yX10_shortBy cX10_shortBy 5 (some .boolean) ({ frames := 5 + (d + 1), cells := 0, slots := 0, locals := 119 + 40 * (d + 1) } : Room) [.ref (ma 0), .int (nI a0), .int (nI (d + 1))] (HM D cl tys mi cI cJ cZ ma known fresh_ saved images isImage thrown tape taped size_ at_ begin_ token value open_ bad badPlace faultKind faultPlace xs ys pairs rows top heaps endsBehind path order firstOrder ordersMany tSort tMany numbers) (Qi (fun (v : Int32) (u : (Nat → Nat) × (Nat → Int64) × (Nat → Nat)) => v = bI (shF T (d + 1) f).isSome ∧ went path u.2.2 rows u.2.1 (tP T) a0 (d + 1) (shF T (d + 1) f)) (fun (u : (Nat → Nat) × (Nat → Int64) × (Nat → Nat)) => HM D cl tys mi cI cJ cZ ma known fresh_ saved images isImage thrown tape taped size_ at_ begin_ token value open_ bad badPlace faultKind faultPlace xs ys pairs u.2.1 top u.1 endsBehind u.2.2 order firstOrder ordersMany tSort tMany numbers) (AM ma)) (AM ma) := by
  obtain ⟨⟨o1, o2, o3, o4, o5, o6, o7, o8, o9, o10⟩, k0, k1, k2, k3, k4, k5, k6, k7, k8⟩ := id hK
  have hW := layd_OK hl o1 o3
  have hP : pairs ≤ 1830 := hW.1
  have hPT : pairs = tP T := hl.1
  refine CT.of (L := [(0, .ref (ma 0)), (1, .int (nI a0)), (2, .int (nI (d + 1)))]) rfl (by decide +kernel) rfl (Nat.le_of_ble_eq_true rfl) ?_
  refine g_aload_n 0 dX10_shortBy_0 rfl rfl ?_
  refine g_iload_n 1 dX10_shortBy_1 rfl rfl ?_
  refine m_cVi (ct_manyOf _ (by omega) (by omega)) hvX10_manyOf hyX10_manyOf rfl ⟨by dsimp only; omega, by dsimp only; omega⟩ ⟨Nat.zero_le _, Nat.zero_le _⟩ rfl (Nat.le_of_ble_eq_true rfl) dX10_shortBy_2 m_rec (fun r u9 hp => ?_)
  obtain rfl := hp
  refine GG.topi (y := nI (cnt f (tP T))) (by rw [← hPT]; exact congrArg nI (cnt_congr (fun w hw => hf w (by omega)))) ?_
  have hcl : cnt f (tP T) ≤ tP T := cnt_le _ _
  refine g_istore_n (L' := [(0, _), (1, _), (2, _), (3, _)]) 3 dX10_shortBy_5 rfl (by decide) rfl rfl ?_
  refine g_iload_n 2 dX10_shortBy_6 rfl rfl ?_
  refine g_if_ne_n (tgt := 21) dX10_shortBy_7 (by decide) (by omega) (fun c7 => ?_) (fun c7 => ?_)
  · skip
    refine g_iload_n 3 dX10_shortBy_21 rfl rfl ?_
    refine g_if_ne_n (tgt := 27) dX10_shortBy_22 (by decide) (by omega) (fun c22 => ?_) (fun c22 => ?_)
    · skip
      have hgd : shGood T f = true := decide_eq_true (by omega)
      refine g_iconst (v := nI 0) dX10_shortBy_27 (by decide +kernel) ?_
      refine g_istore (L' := [(0, _), (1, _), (2, _), (3, _), (4, _)]) dX10_shortBy_28 (by decide) rfl rfl ?_
      have loop30 : ∀ (q30 : Nat) (v : Nat) (heaps1 : Nat → Nat) (rows1 : Nat → Int64) (path1 : Nat → Nat), 2 * tNS T - v < q30 → (v ≤ 2 * tNS T) → (srchF (fun k => shF T d (shStep T k f)) v = none) → (∀ r' w', r' ≤ a0 → w' < 1856 → rbt rows1 r' w' = rbt rows r' w') → (∀ j, j < a0 → path1 j = path j) → GG l D cl tys cX10_shortBy 5 (some .boolean) RX10 ({ frames := 5 + (d + 1), cells := 0, slots := 0, locals := 119 + 40 * (d + 1) } : Room) (AM ma) MT (QM (Qi (fun (v : Int32) (u : (Nat → Nat) × (Nat → Int64) × (Nat → Nat)) => v = bI (shF T (d + 1) f).isSome ∧ went path u.2.2 rows u.2.1 (tP T) a0 (d + 1) (shF T (d + 1) f)) (fun (u : (Nat → Nat) × (Nat → Int64) × (Nat → Nat)) => HM D cl tys mi cI cJ cZ ma known fresh_ saved images isImage thrown tape taped size_ at_ begin_ token value open_ bad badPlace faultKind faultPlace xs ys pairs u.2.1 top u.1 endsBehind u.2.2 order firstOrder ordersMany tSort tMany numbers) (AM ma)) 0 0 (AM ma)) (HM D cl tys mi cI cJ cZ ma known fresh_ saved images isImage thrown tape taped size_ at_ begin_ token value open_ bad badPlace faultKind faultPlace xs ys pairs rows1 top heaps1 endsBehind path1 order firstOrder ordersMany tSort tMany numbers) 0 0 30 [(0, .ref (ma 0)), (1, .int (nI a0)), (2, .int (nI (d + 1))), (3, .int (nI (cnt f (tP T)))), (4, .int (nI v))] [] := by
        intro q30
        induction q30 with
        | zero => intro v heaps1 rows1 path1 hq30; exact absurd hq30 (Nat.not_lt_zero _)
        | succ q30 ih30 =>
          intro v heaps1 rows1 path1 hq30 hv hi hrk hpk
          refine g_iload dX10_shortBy_30 rfl ?_
          refine g_iconst (v := nI 2) dX10_shortBy_32 (by decide +kernel) ?_
          refine g_aload_n 0 dX10_shortBy_33 rfl rfl ?_
          refine m_get_known dX10_shortBy_34 ?_
          refine g_iconst (v := nI 5) dX10_shortBy_37 (by decide +kernel) ?_
          refine m_ld_known dX10_shortBy_38 (by omega) ?_
          refine GG.topi k5 ?_
          refine g_imul_n dX10_shortBy_39 ?_
          refine g_icmp_ge_n (tgt := 97) dX10_shortBy_40 (by decide) (by omega) (by omega) (fun c40 => ?_) (fun c40 => ?_)
          · skip
            refine g_iconst (v := nI 0) dX10_shortBy_97 (by decide +kernel) ?_
            exact g_zret (b := false) (heaps1, rows1, path1) dX10_shortBy_98 (Nat.le_refl _) (Nat.le_refl _) (by have e9 : v = 2 * tNS T := (by omega); rw [show shF T (d + 1) f = none by unfold shF seekF; rw [if_pos hgd]; rw [e9] at hi; exact hi]; exact ⟨rfl, went_none hrk hpk⟩) (fun _ h => h)
          · skip
            refine g_aload_n 0 dX10_shortBy_43 rfl rfl ?_
            refine g_iload dX10_shortBy_44 rfl ?_
            refine g_iconst (v := nI 2) dX10_shortBy_46 (by decide +kernel) ?_
            refine g_idiv_n dX10_shortBy_47 (by omega) (by decide) (by decide) ?_
            refine g_iload_n 1 dX10_shortBy_48 rfl rfl ?_
            refine g_iload dX10_shortBy_49 rfl ?_
            refine g_iconst (v := nI 2) dX10_shortBy_51 (by decide +kernel) ?_
            refine g_irem_n dX10_shortBy_52 (by omega) (by decide) (by decide) ?_
            refine g_iconst (v := nI 1) dX10_shortBy_53 (by decide +kernel) ?_
            refine g_icmp_ne_n (tgt := 61) dX10_shortBy_54 (by decide) (by omega) (by omega) (fun c54 => ?_) (fun c54 => ?_)
            · skip
              refine g_iconst (v := nI 0) dX10_shortBy_61 (by decide +kernel) ?_
              refine g_iload_n 1 dX10_shortBy_62 rfl rfl ?_
              refine g_iconst (v := nI 1) dX10_shortBy_63 (by decide +kernel) ?_
              refine g_iadd_n dX10_shortBy_64 ?_
              refine m_cVv (ct_laysAnswers (v / 2) a0 (a0 + 1) (tKind T (v / 2)) false (by omega) (k7 (v / 2) (by omega)).1 (by have := o8 (v / 2) (by omega); omega) (by omega) (by omega) (by omega) hW) hvX10_laysAnswers hyX10_laysAnswers rfl ⟨by dsimp only; omega, by dsimp only; omega⟩ ⟨Nat.zero_le _, Nat.zero_le _⟩ rfl (Nat.le_of_ble_eq_true rfl) dX10_shortBy_65 m_rec (fun ua ha => ?_)
              obtain ⟨heaps4, rows4⟩ := ua
              dsimp only
              have ha : rowsUp rows1 rows4 (a0 + 1) pairs _ := ha
              have hst : ∀ w, w < tP T → rbt rows4 (a0 + 1) w = shStep T v f w := fun w hw => by
                rw [rowsUp_in ha hP (by omega)]
                exact shStep_env hl rfl (by first | exact (decide_eq_true c54).symm | exact (decide_eq_false c54).symm) (fun z hz => by rw [hrk a0 z (Nat.le_refl _) (by omega)]; exact hf z hz) w hw
              refine g_aload_n 0 dX10_shortBy_68 rfl rfl ?_
              refine m_get_path dX10_shortBy_69 ?_
              refine g_iload_n 1 dX10_shortBy_72 rfl rfl ?_
              refine g_iload dX10_shortBy_73 rfl ?_
              refine m_st_path dX10_shortBy_75 (by omega) ?_
              refine g_aload_n 0 dX10_shortBy_76 rfl rfl ?_
              refine g_iload_n 1 dX10_shortBy_77 rfl rfl ?_
              refine g_iconst (v := nI 1) dX10_shortBy_78 (by decide +kernel) ?_
              refine g_iadd_n dX10_shortBy_79 ?_
              refine g_iload_n 2 dX10_shortBy_80 rfl rfl ?_
              refine g_iconst (v := nI 1) dX10_shortBy_81 (by decide +kernel) ?_
              refine g_isub_n dX10_shortBy_82 (by omega) ?_
              refine m_cVi (ih (a0 + 1) (shStep T v f) hK hl (by omega) hst) hvX10_shortBy hyX10_shortBy rfl ⟨by dsimp only; omega, by dsimp only; omega⟩ ⟨Nat.zero_le _, Nat.zero_le _⟩ rfl (Nat.le_of_ble_eq_true rfl) dX10_shortBy_83 m_rec (fun r us hus => ?_)
              obtain ⟨heaps5, rows5, path5⟩ := us
              dsimp only
              obtain ⟨hr9, hg9⟩ := hus
              subst hr9
              have hg9 : went (up path1 a0 v) path5 rows4 rows5 (tP T) (a0 + 1) d _ := hg9
              refine g_if_eq_b (tgt := 91) dX10_shortBy_86 (by decide) (fun c86 => ?_) (fun c86 => ?_)
              · skip
                refine g_iinc_n (b := 1) (L' := [(0, _), (1, _), (2, _), (3, _), (4, _)]) dX10_shortBy_91 rfl rfl (by decide) rfl rfl ?_
                refine g_goto (tgt := 30) dX10_shortBy_94 (by decide) ?_
                exact ih30 (v + 1) heaps5 rows5 path5 (by omega) (by omega) (srchF_none hi (Option.isSome_eq_false_iff.mp c86 |> Option.isNone_iff_eq_none.mp)) (fun r' w' a b => by rw [hg9.1 r' w' (by omega) b, rowsUp_ne ha (by omega) b, hrk r' w' a b]) (fun j hj => by rw [hg9.2.1 j (by omega), up_n (by omega), hpk j hj])
              · skip
                refine g_iconst (v := nI 1) dX10_shortBy_89 (by decide +kernel) ?_
                obtain ⟨⟨pp, SS⟩, hps⟩ := Option.isSome_iff_exists.mp c86
                have hsr := srchF_some hi hps c40
                exact g_zret (b := true) (heaps5, rows5, path5) dX10_shortBy_90 (Nat.le_refl _) (Nat.le_refl _) (by rw [show shF T (d + 1) f = some (v :: pp, SS) by unfold shF seekF; rw [if_pos hgd]; exact hsr]; exact ⟨rfl, went_cons hrk hpk (by rw [← hPT]; exact ha) hg9 hps rfl⟩) (fun _ h => h)
            · skip
              refine g_iconst (v := nI 1) dX10_shortBy_57 (by decide +kernel) ?_
              refine g_goto (tgt := 62) dX10_shortBy_58 (by decide) ?_
              refine g_iload_n 1 dX10_shortBy_62 rfl rfl ?_
              refine g_iconst (v := nI 1) dX10_shortBy_63 (by decide +kernel) ?_
              refine g_iadd_n dX10_shortBy_64 ?_
              refine m_cVv (ct_laysAnswers (v / 2) a0 (a0 + 1) (tKind T (v / 2)) true (by omega) (k7 (v / 2) (by omega)).1 (by have := o8 (v / 2) (by omega); omega) (by omega) (by omega) (by omega) hW) hvX10_laysAnswers hyX10_laysAnswers rfl ⟨by dsimp only; omega, by dsimp only; omega⟩ ⟨Nat.zero_le _, Nat.zero_le _⟩ rfl (Nat.le_of_ble_eq_true rfl) dX10_shortBy_65 m_rec (fun ua ha => ?_)
              obtain ⟨heaps4, rows4⟩ := ua
              dsimp only
              have ha : rowsUp rows1 rows4 (a0 + 1) pairs _ := ha
              have hst : ∀ w, w < tP T → rbt rows4 (a0 + 1) w = shStep T v f w := fun w hw => by
                rw [rowsUp_in ha hP (by omega)]
                exact shStep_env hl rfl (by first | exact (decide_eq_true c54).symm | exact (decide_eq_false c54).symm) (fun z hz => by rw [hrk a0 z (Nat.le_refl _) (by omega)]; exact hf z hz) w hw
              refine g_aload_n 0 dX10_shortBy_68 rfl rfl ?_
              refine m_get_path dX10_shortBy_69 ?_
              refine g_iload_n 1 dX10_shortBy_72 rfl rfl ?_
              refine g_iload dX10_shortBy_73 rfl ?_
              refine m_st_path dX10_shortBy_75 (by omega) ?_
              refine g_aload_n 0 dX10_shortBy_76 rfl rfl ?_
              refine g_iload_n 1 dX10_shortBy_77 rfl rfl ?_
              refine g_iconst (v := nI 1) dX10_shortBy_78 (by decide +kernel) ?_
              refine g_iadd_n dX10_shortBy_79 ?_
              refine g_iload_n 2 dX10_shortBy_80 rfl rfl ?_
              refine g_iconst (v := nI 1) dX10_shortBy_81 (by decide +kernel) ?_
              refine g_isub_n dX10_shortBy_82 (by omega) ?_
              refine m_cVi (ih (a0 + 1) (shStep T v f) hK hl (by omega) hst) hvX10_shortBy hyX10_shortBy rfl ⟨by dsimp only; omega, by dsimp only; omega⟩ ⟨Nat.zero_le _, Nat.zero_le _⟩ rfl (Nat.le_of_ble_eq_true rfl) dX10_shortBy_83 m_rec (fun r us hus => ?_)
              obtain ⟨heaps5, rows5, path5⟩ := us
              dsimp only
              obtain ⟨hr9, hg9⟩ := hus
              subst hr9
              have hg9 : went (up path1 a0 v) path5 rows4 rows5 (tP T) (a0 + 1) d _ := hg9
              refine g_if_eq_b (tgt := 91) dX10_shortBy_86 (by decide) (fun c86 => ?_) (fun c86 => ?_)
              · skip
                refine g_iinc_n (b := 1) (L' := [(0, _), (1, _), (2, _), (3, _), (4, _)]) dX10_shortBy_91 rfl rfl (by decide) rfl rfl ?_
                refine g_goto (tgt := 30) dX10_shortBy_94 (by decide) ?_
                exact ih30 (v + 1) heaps5 rows5 path5 (by omega) (by omega) (srchF_none hi (Option.isSome_eq_false_iff.mp c86 |> Option.isNone_iff_eq_none.mp)) (fun r' w' a b => by rw [hg9.1 r' w' (by omega) b, rowsUp_ne ha (by omega) b, hrk r' w' a b]) (fun j hj => by rw [hg9.2.1 j (by omega), up_n (by omega), hpk j hj])
              · skip
                refine g_iconst (v := nI 1) dX10_shortBy_89 (by decide +kernel) ?_
                obtain ⟨⟨pp, SS⟩, hps⟩ := Option.isSome_iff_exists.mp c86
                have hsr := srchF_some hi hps c40
                exact g_zret (b := true) (heaps5, rows5, path5) dX10_shortBy_90 (Nat.le_refl _) (Nat.le_refl _) (by rw [show shF T (d + 1) f = some (v :: pp, SS) by unfold shF seekF; rw [if_pos hgd]; exact hsr]; exact ⟨rfl, went_cons hrk hpk (by rw [← hPT]; exact ha) hg9 hps rfl⟩) (fun _ h => h)
      exact loop30 (2 * tNS T + 1) 0 _ rows path (by omega) (by omega) rfl (fun _ _ _ _ => rfl) (fun _ _ => rfl)
    · skip
      refine g_iconst (v := nI 0) dX10_shortBy_25 (by decide +kernel) ?_
      exact g_zret (b := false) (heaps, rows, path) dX10_shortBy_26 (Nat.le_refl _) (Nat.le_refl _) (by rw [show shF T (d + 1) f = none by unfold shF seekF; rw [if_neg (by unfold shGood; rw [c22]; decide)]]; exact ⟨rfl, went_refl⟩) (fun _ h => h)
  · skip
    exact absurd c7 (by omega)
theorem sh_all (T : Talk) : ∀ d : Nat, ShOK l D cl tys mi cI cJ cZ ma T d
  | 0 => fun a0 f h1 h2 h4 h5 => ct_shortBy0 T a0 f h1 h2 h4 h5
  | d + 1 => fun a0 f h1 h2 h4 h5 => ct_shortByS T d a0 f (sh_all T d) h1 h2 h4 h5
set_option maxHeartbeats 4000000 in
/-- by which answers just one stays, soonest -/
theorem ct_shortest (T : Talk) (n0 wh : Int32) (hK : KIs known T) : CT l D cl tys yX10_shortest cX10_shortest 4 (some .int) ({ frames := 11, cells := 0, slots := 0, locals := 343 } : Room) [.ref (ma 0), .int n0, .int wh] (HM D cl tys mi cI cJ cZ ma known fresh_ saved images isImage thrown tape taped size_ at_ begin_ token value open_ bad badPlace faultKind faultPlace xs ys pairs rows top heaps endsBehind path order firstOrder ordersMany tSort tMany numbers) (Qi (fun (v : Int32) (u : (Nat × (Nat → Nat) × (Nat → Nat) × Nat × (Nat → Int64) × Nat × (Nat → Nat)) × (Nat → Nat)) => isShortest T n0 wh u.1.1 v) (fun (u : (Nat × (Nat → Nat) × (Nat → Nat) × Nat × (Nat → Int64) × Nat × (Nat → Nat)) × (Nat → Nat)) => HM D cl tys mi cI cJ cZ ma known fresh_ saved images isImage u.1.1 tape taped size_ at_ begin_ token value open_ bad badPlace faultKind faultPlace u.1.2.1 u.1.2.2.1 u.1.2.2.2.1 u.1.2.2.2.2.1 u.1.2.2.2.2.2.1 u.1.2.2.2.2.2.2 endsBehind u.2 order firstOrder ordersMany tSort tMany numbers) (AM ma)) (AM ma) := by
  obtain ⟨⟨o1, o2, o3, o4, o5, o6, o7, o8, o9, o10⟩, k0, k1, k2, k3, k4, k5, k6, k7, k8⟩ := id hK
  refine CT.of (L := [(0, .ref (ma 0)), (1, .int n0), (2, .int wh)]) rfl (by decide +kernel) rfl (Nat.le_of_ble_eq_true rfl) ?_
  rcases hin : iR n0 5 with _ | m
  · skip
    have hbad : ¬ (1 ≤ n0.toInt ∧ n0.toInt ≤ 4) := fun q => iR_none hin ⟨by omega, by omega⟩
    refine g_aload_n 0 dX10_shortest_0 rfl rfl ?_
    refine g_iload_n 1 dX10_shortest_1 rfl rfl ?_
    refine g_i2l dX10_shortest_2 rfl ?_
    refine g_lconst (v := lN 1) dX10_shortest_3 (by decide +kernel) ?_
    refine g_ldc2 (v := lN 4) dX10_shortest_4 q2345 ?_
    refine m_cSi (ct_within _ _ _) hsX10_within hyX10_within rfl ⟨Nat.le_of_ble_eq_true rfl, Nat.le_of_ble_eq_true rfl⟩ ⟨Nat.zero_le _, Nat.zero_le _⟩ rfl (Nat.le_of_ble_eq_true rfl) dX10_shortest_7 (fun r u9 hp => ?_)
    obtain rfl := hp
    refine GG.topi (y := nI 0) (by rw [show wIn n0.toInt64 (lN 1) (lN 4) = false from decide_eq_false (by rw [i2l_int, lN_toInt (by decide), lN_toInt (by decide)]; exact hbad)]; rfl) ?_
    refine g_if_eq_n (tgt := 41) dX10_shortest_10 (by decide) (by decide) (fun _ => ?_) (fun h => absurd h (by decide))
    refine g_iconst (v := nI 1) dX10_shortest_41 (by decide +kernel) ?_
    refine m_put_thrown dX10_shortest_42 ?_
    refine g_aload_n 0 dX10_shortest_45 rfl rfl ?_
    refine m_get_thrown dX10_shortest_46 ?_
    refine g_if_le_n (tgt := 54) dX10_shortest_49 (by decide) (by decide) (fun h => absurd h (by decide)) (fun _ => ?_)
    refine g_iconst (v := nI 0) dX10_shortest_52 (by decide +kernel) ?_
    exact g_iret ((_, _, _, _, _, _, _), _) dX10_shortest_53 (Nat.le_refl _) (Nat.le_refl _) (by unfold isShortest; rw [hin]) (fun _ h => h)
  · skip
    by_cases hm1 : 1 ≤ m
    · skip
      obtain ⟨hm5, em⟩ := iR_some hin
      subst em
      rcases iR14 wh with e | e | e | e | e | e | ⟨e0, e1, e2, e3, e4⟩
      · skip
        subst e
        refine g_aload_n 0 dX10_shortest_0 rfl rfl ?_
        refine g_iload_n 1 dX10_shortest_1 rfl rfl ?_
        refine g_i2l_n dX10_shortest_2 (by omega) ?_
        refine g_lconst (v := lN 1) dX10_shortest_3 (by decide +kernel) ?_
        refine g_ldc2 (v := lN 4) dX10_shortest_4 q2345 ?_
        refine m_cSi (ct_within _ _ _) hsX10_within hyX10_within rfl ⟨Nat.le_of_ble_eq_true rfl, Nat.le_of_ble_eq_true rfl⟩ ⟨Nat.zero_le _, Nat.zero_le _⟩ rfl (Nat.le_of_ble_eq_true rfl) dX10_shortest_7 (fun r u9 hp => ?_)
        obtain rfl := hp
        refine GG.topi (y := nI 1) (by rw [show wIn (lN m) (lN 1) (lN 4) = true from decide_eq_true (by rw [lN_toInt (by omega), lN_toInt (by omega), lN_toInt (by omega)]; omega)]; rfl) ?_
        refine g_if_eq_n (tgt := 41) dX10_shortest_10 (by decide) (by decide) (fun h => absurd h (by decide)) (fun _ => ?_)
        refine g_iload_n 2 dX10_shortest_13 rfl rfl ?_
        refine g_i2l_n dX10_shortest_14 (by omega) ?_
        refine g_lconst (v := lN 0) dX10_shortest_15 (by decide +kernel) ?_
        refine g_lconst (v := lN 1) dX10_shortest_16 (by decide +kernel) ?_
        refine m_cSi (ct_within _ _ _) hsX10_within hyX10_within rfl ⟨Nat.le_of_ble_eq_true rfl, Nat.le_of_ble_eq_true rfl⟩ ⟨Nat.zero_le _, Nat.zero_le _⟩ rfl (Nat.le_of_ble_eq_true rfl) dX10_shortest_17 (fun r u9 hp => ?_)
        obtain rfl := hp
        refine GG.topi (y := nI 1) (by decide +kernel) ?_
        refine g_if_ne_n (tgt := 37) dX10_shortest_20 (by decide) (by decide) (fun _ => ?_) (fun h => absurd h (by decide))
        refine g_iconst (v := nI 0) dX10_shortest_37 (by decide +kernel) ?_
        refine g_goto (tgt := 42) dX10_shortest_38 (by decide) ?_
        refine m_put_thrown dX10_shortest_42 ?_
        refine g_aload_n 0 dX10_shortest_45 rfl rfl ?_
        refine m_get_thrown dX10_shortest_46 ?_
        refine g_if_le_n (tgt := 54) dX10_shortest_49 (by decide) (by decide) (fun _ => ?_) (fun h => absurd h (by decide))
        refine g_aload_n 0 dX10_shortest_54 rfl rfl ?_
        refine m_cVv (ct_layPairs (tLow T) (tHigh T) (tMost T) (tUn T) k1 k2 k3 k4 o1 o2 o3 o4 o5) hvX10_layPairs hyX10_layPairs rfl ⟨Nat.le_of_ble_eq_true rfl, Nat.le_of_ble_eq_true rfl⟩ ⟨Nat.zero_le _, Nat.zero_le _⟩ rfl (Nat.le_of_ble_eq_true rfl) dX10_shortest_55 m_rec (fun ul hld => ?_)
        obtain ⟨xsL, ysL, pairsL⟩ := ul
        dsimp only
        have hl : layd xsL ysL pairsL (tW T) := hld
        have hW := layd_OK hl o1 o3
        have hP : pairsL ≤ 1830 := hW.1
        have hPT : pairsL = tP T := hl.1
        refine g_aload_n 0 dX10_shortest_58 rfl rfl ?_
        refine g_iconst (v := nI 0) dX10_shortest_59 (by decide +kernel) ?_
        refine g_iconst (v := nI 1) dX10_shortest_60 (by decide +kernel) ?_
        refine m_cVv (ct_fills _ true (by omega) (by omega)) hvX10_fills hyX10_fills rfl ⟨Nat.le_of_ble_eq_true rfl, Nat.le_of_ble_eq_true rfl⟩ ⟨Nat.zero_le _, Nat.zero_le _⟩ rfl (Nat.le_of_ble_eq_true rfl) dX10_shortest_61 m_rec (fun rowsF hF => ?_)
        have hF0 : ∀ v, v < tP T → rbt rowsF 0 v = true := fun v hv => by rw [rowsUp_in hF hP (by omega)]
        refine g_iconst (v := nI 0) dX10_shortest_64 (by decide +kernel) ?_
        refine g_istore_n (L' := [(0, _), (1, _), (2, _), (3, _)]) 3 dX10_shortest_65 rfl (by decide) rfl rfl ?_
        have loop66 : ∀ (q66 : Nat) (n : Nat) (heaps1 : Nat → Nat) (rows1 : Nat → Int64) (path1 : Nat → Nat), m + 1 - n < q66 → (n ≤ m + 1) → (firstG (fun l => shF T l allT) n = none) → (∀ v, v < tP T → rbt rows1 0 v = true) → GG l D cl tys cX10_shortest 4 (some .int) RX10 ({ frames := 11, cells := 0, slots := 0, locals := 343 } : Room) (AM ma) MT (QM (Qi (fun (v : Int32) (u : (Nat × (Nat → Nat) × (Nat → Nat) × Nat × (Nat → Int64) × Nat × (Nat → Nat)) × (Nat → Nat)) => isShortest T (nI m) (nI 0) u.1.1 v) (fun (u : (Nat × (Nat → Nat) × (Nat → Nat) × Nat × (Nat → Int64) × Nat × (Nat → Nat)) × (Nat → Nat)) => HM D cl tys mi cI cJ cZ ma known fresh_ saved images isImage u.1.1 tape taped size_ at_ begin_ token value open_ bad badPlace faultKind faultPlace u.1.2.1 u.1.2.2.1 u.1.2.2.2.1 u.1.2.2.2.2.1 u.1.2.2.2.2.2.1 u.1.2.2.2.2.2.2 endsBehind u.2 order firstOrder ordersMany tSort tMany numbers) (AM ma)) 0 0 (AM ma)) (HM D cl tys mi cI cJ cZ ma known fresh_ saved images isImage 0 tape taped size_ at_ begin_ token value open_ bad badPlace faultKind faultPlace xsL ysL pairsL rows1 top heaps1 endsBehind path1 order firstOrder ordersMany tSort tMany numbers) 0 0 66 [(0, .ref (ma 0)), (1, .int (nI m)), (2, .int (nI 0)), (3, .int (nI n))] [] := by
          intro q66
          induction q66 with
          | zero => intro n heaps1 rows1 path1 hq66; exact absurd hq66 (Nat.not_lt_zero _)
          | succ q66 ih66 =>
            intro n heaps1 rows1 path1 hq66 hn hi h0
            refine g_iload_n 3 dX10_shortest_66 rfl rfl ?_
            refine g_iload_n 1 dX10_shortest_67 rfl rfl ?_
            refine g_icmp_gt_n (tgt := 129) dX10_shortest_68 (by decide) (by omega) (by omega) (fun c68 => ?_) (fun c68 => ?_)
            · skip
              refine g_iconst (v := -1) dX10_shortest_129 (by decide +kernel) ?_
              exact g_iret ((_, _, _, _, _, _, _), _) dX10_shortest_130 (Nat.le_refl _) (Nat.le_refl _) (by unfold isShortest; rw [hin, show iR (nI 0) 14 = some 0 from iR_nI (by decide) (by decide)]; dsimp only; rw [if_pos ⟨hm1, by decide⟩]; rw [show firstG (fun l => shF T l allT) (m + 1) = none by rw [← show n = m + 1 by omega]; exact hi]; exact ⟨rfl, rfl⟩) (fun _ h => h)
            · skip
              refine g_aload_n 0 dX10_shortest_71 rfl rfl ?_
              refine g_iconst (v := nI 0) dX10_shortest_72 (by decide +kernel) ?_
              refine g_iload_n 3 dX10_shortest_73 rfl rfl ?_
              refine m_cVi (sh_all T n 0 allT hK hl (by omega) h0) hvX10_shortBy hyX10_shortBy rfl ⟨by dsimp only; omega, by dsimp only; omega⟩ ⟨Nat.zero_le _, Nat.zero_le _⟩ rfl (Nat.le_of_ble_eq_true rfl) dX10_shortest_74 m_rec (fun r us hus => ?_)
              obtain ⟨heaps5, rows5, path5⟩ := us
              dsimp only
              obtain ⟨hr9, hg9⟩ := hus
              subst hr9
              have hg9 : went path1 path5 rows1 rows5 (tP T) 0 n _ := hg9
              refine g_if_eq_b (tgt := 123) dX10_shortest_77 (by decide) (fun c77 => ?_) (fun c77 => ?_)
              · skip
                refine g_iinc_n (b := 1) (L' := [(0, _), (1, _), (2, _), (3, _)]) dX10_shortest_123 rfl rfl (by decide) rfl rfl ?_
                refine g_goto (tgt := 66) dX10_shortest_126 (by decide) ?_
                exact ih66 (n + 1) heaps5 rows5 path5 (by omega) (by omega) (firstG_none hi (Option.isSome_eq_false_iff.mp c77 |> Option.isNone_iff_eq_none.mp)) (fun v hv => by rw [hg9.1 0 v (Nat.le_refl _) (by omega)]; exact h0 v hv)
              · skip
                refine g_iload_n 2 dX10_shortest_80 rfl rfl ?_
                refine g_if_ne_n (tgt := 88) dX10_shortest_81 (by decide) (by decide) (fun h => absurd h (by decide)) (fun _ => ?_)
                refine g_iload_n 3 dX10_shortest_84 rfl rfl ?_
                refine g_goto (tgt := 122) dX10_shortest_85 (by decide) ?_
                exact g_iret ((_, _, _, _, _, _, _), _) dX10_shortest_122 (Nat.le_refl _) (Nat.le_refl _) (by unfold isShortest; rw [hin, show iR (nI 0) 14 = some 0 from iR_nI (by decide) (by decide)]; dsimp only; rw [if_pos ⟨hm1, by decide⟩]; obtain ⟨⟨pp, SS⟩, hps⟩ := Option.isSome_iff_exists.mp c77; have hfg := firstG_some hi hps (show n < m + 1 by omega); rw [hfg]; refine ⟨rfl, ?_⟩; dsimp only; rw [if_pos rfl]) (fun _ h => h)
        exact loop66 (m + 2) 0 heaps rowsF path (by omega) (by omega) rfl hF0
      · skip
        subst e
        refine g_aload_n 0 dX10_shortest_0 rfl rfl ?_
        refine g_iload_n 1 dX10_shortest_1 rfl rfl ?_
        refine g_i2l_n dX10_shortest_2 (by omega) ?_
        refine g_lconst (v := lN 1) dX10_shortest_3 (by decide +kernel) ?_
        refine g_ldc2 (v := lN 4) dX10_shortest_4 q2345 ?_
        refine m_cSi (ct_within _ _ _) hsX10_within hyX10_within rfl ⟨Nat.le_of_ble_eq_true rfl, Nat.le_of_ble_eq_true rfl⟩ ⟨Nat.zero_le _, Nat.zero_le _⟩ rfl (Nat.le_of_ble_eq_true rfl) dX10_shortest_7 (fun r u9 hp => ?_)
        obtain rfl := hp
        refine GG.topi (y := nI 1) (by rw [show wIn (lN m) (lN 1) (lN 4) = true from decide_eq_true (by rw [lN_toInt (by omega), lN_toInt (by omega), lN_toInt (by omega)]; omega)]; rfl) ?_
        refine g_if_eq_n (tgt := 41) dX10_shortest_10 (by decide) (by decide) (fun h => absurd h (by decide)) (fun _ => ?_)
        refine g_iload_n 2 dX10_shortest_13 rfl rfl ?_
        refine g_i2l_n dX10_shortest_14 (by omega) ?_
        refine g_lconst (v := lN 0) dX10_shortest_15 (by decide +kernel) ?_
        refine g_lconst (v := lN 1) dX10_shortest_16 (by decide +kernel) ?_
        refine m_cSi (ct_within _ _ _) hsX10_within hyX10_within rfl ⟨Nat.le_of_ble_eq_true rfl, Nat.le_of_ble_eq_true rfl⟩ ⟨Nat.zero_le _, Nat.zero_le _⟩ rfl (Nat.le_of_ble_eq_true rfl) dX10_shortest_17 (fun r u9 hp => ?_)
        obtain rfl := hp
        refine GG.topi (y := nI 1) (by decide +kernel) ?_
        refine g_if_ne_n (tgt := 37) dX10_shortest_20 (by decide) (by decide) (fun _ => ?_) (fun h => absurd h (by decide))
        refine g_iconst (v := nI 0) dX10_shortest_37 (by decide +kernel) ?_
        refine g_goto (tgt := 42) dX10_shortest_38 (by decide) ?_
        refine m_put_thrown dX10_shortest_42 ?_
        refine g_aload_n 0 dX10_shortest_45 rfl rfl ?_
        refine m_get_thrown dX10_shortest_46 ?_
        refine g_if_le_n (tgt := 54) dX10_shortest_49 (by decide) (by decide) (fun _ => ?_) (fun h => absurd h (by decide))
        refine g_aload_n 0 dX10_shortest_54 rfl rfl ?_
        refine m_cVv (ct_layPairs (tLow T) (tHigh T) (tMost T) (tUn T) k1 k2 k3 k4 o1 o2 o3 o4 o5) hvX10_layPairs hyX10_layPairs rfl ⟨Nat.le_of_ble_eq_true rfl, Nat.le_of_ble_eq_true rfl⟩ ⟨Nat.zero_le _, Nat.zero_le _⟩ rfl (Nat.le_of_ble_eq_true rfl) dX10_shortest_55 m_rec (fun ul hld => ?_)
        obtain ⟨xsL, ysL, pairsL⟩ := ul
        dsimp only
        have hl : layd xsL ysL pairsL (tW T) := hld
        have hW := layd_OK hl o1 o3
        have hP : pairsL ≤ 1830 := hW.1
        have hPT : pairsL = tP T := hl.1
        refine g_aload_n 0 dX10_shortest_58 rfl rfl ?_
        refine g_iconst (v := nI 0) dX10_shortest_59 (by decide +kernel) ?_
        refine g_iconst (v := nI 1) dX10_shortest_60 (by decide +kernel) ?_
        refine m_cVv (ct_fills _ true (by omega) (by omega)) hvX10_fills hyX10_fills rfl ⟨Nat.le_of_ble_eq_true rfl, Nat.le_of_ble_eq_true rfl⟩ ⟨Nat.zero_le _, Nat.zero_le _⟩ rfl (Nat.le_of_ble_eq_true rfl) dX10_shortest_61 m_rec (fun rowsF hF => ?_)
        have hF0 : ∀ v, v < tP T → rbt rowsF 0 v = true := fun v hv => by rw [rowsUp_in hF hP (by omega)]
        refine g_iconst (v := nI 0) dX10_shortest_64 (by decide +kernel) ?_
        refine g_istore_n (L' := [(0, _), (1, _), (2, _), (3, _)]) 3 dX10_shortest_65 rfl (by decide) rfl rfl ?_
        have loop66 : ∀ (q66 : Nat) (n : Nat) (heaps1 : Nat → Nat) (rows1 : Nat → Int64) (path1 : Nat → Nat), m + 1 - n < q66 → (n ≤ m + 1) → (firstG (fun l => shF T l allT) n = none) → (∀ v, v < tP T → rbt rows1 0 v = true) → GG l D cl tys cX10_shortest 4 (some .int) RX10 ({ frames := 11, cells := 0, slots := 0, locals := 343 } : Room) (AM ma) MT (QM (Qi (fun (v : Int32) (u : (Nat × (Nat → Nat) × (Nat → Nat) × Nat × (Nat → Int64) × Nat × (Nat → Nat)) × (Nat → Nat)) => isShortest T (nI m) (nI 1) u.1.1 v) (fun (u : (Nat × (Nat → Nat) × (Nat → Nat) × Nat × (Nat → Int64) × Nat × (Nat → Nat)) × (Nat → Nat)) => HM D cl tys mi cI cJ cZ ma known fresh_ saved images isImage u.1.1 tape taped size_ at_ begin_ token value open_ bad badPlace faultKind faultPlace u.1.2.1 u.1.2.2.1 u.1.2.2.2.1 u.1.2.2.2.2.1 u.1.2.2.2.2.2.1 u.1.2.2.2.2.2.2 endsBehind u.2 order firstOrder ordersMany tSort tMany numbers) (AM ma)) 0 0 (AM ma)) (HM D cl tys mi cI cJ cZ ma known fresh_ saved images isImage 0 tape taped size_ at_ begin_ token value open_ bad badPlace faultKind faultPlace xsL ysL pairsL rows1 top heaps1 endsBehind path1 order firstOrder ordersMany tSort tMany numbers) 0 0 66 [(0, .ref (ma 0)), (1, .int (nI m)), (2, .int (nI 1)), (3, .int (nI n))] [] := by
          intro q66
          induction q66 with
          | zero => intro n heaps1 rows1 path1 hq66; exact absurd hq66 (Nat.not_lt_zero _)
          | succ q66 ih66 =>
            intro n heaps1 rows1 path1 hq66 hn hi h0
            refine g_iload_n 3 dX10_shortest_66 rfl rfl ?_
            refine g_iload_n 1 dX10_shortest_67 rfl rfl ?_
            refine g_icmp_gt_n (tgt := 129) dX10_shortest_68 (by decide) (by omega) (by omega) (fun c68 => ?_) (fun c68 => ?_)
            · skip
              refine g_iconst (v := -1) dX10_shortest_129 (by decide +kernel) ?_
              exact g_iret ((_, _, _, _, _, _, _), _) dX10_shortest_130 (Nat.le_refl _) (Nat.le_refl _) (by unfold isShortest; rw [hin, show iR (nI 1) 14 = some 1 from iR_nI (by decide) (by decide)]; dsimp only; rw [if_pos ⟨hm1, by decide⟩]; rw [show firstG (fun l => shF T l allT) (m + 1) = none by rw [← show n = m + 1 by omega]; exact hi]; exact ⟨rfl, rfl⟩) (fun _ h => h)
            · skip
              refine g_aload_n 0 dX10_shortest_71 rfl rfl ?_
              refine g_iconst (v := nI 0) dX10_shortest_72 (by decide +kernel) ?_
              refine g_iload_n 3 dX10_shortest_73 rfl rfl ?_
              refine m_cVi (sh_all T n 0 allT hK hl (by omega) h0) hvX10_shortBy hyX10_shortBy rfl ⟨by dsimp only; omega, by dsimp only; omega⟩ ⟨Nat.zero_le _, Nat.zero_le _⟩ rfl (Nat.le_of_ble_eq_true rfl) dX10_shortest_74 m_rec (fun r us hus => ?_)
              obtain ⟨heaps5, rows5, path5⟩ := us
              dsimp only
              obtain ⟨hr9, hg9⟩ := hus
              subst hr9
              have hg9 : went path1 path5 rows1 rows5 (tP T) 0 n _ := hg9
              refine g_if_eq_b (tgt := 123) dX10_shortest_77 (by decide) (fun c77 => ?_) (fun c77 => ?_)
              · skip
                refine g_iinc_n (b := 1) (L' := [(0, _), (1, _), (2, _), (3, _)]) dX10_shortest_123 rfl rfl (by decide) rfl rfl ?_
                refine g_goto (tgt := 66) dX10_shortest_126 (by decide) ?_
                exact ih66 (n + 1) heaps5 rows5 path5 (by omega) (by omega) (firstG_none hi (Option.isSome_eq_false_iff.mp c77 |> Option.isNone_iff_eq_none.mp)) (fun v hv => by rw [hg9.1 0 v (Nat.le_refl _) (by omega)]; exact h0 v hv)
              · skip
                refine g_iload_n 2 dX10_shortest_80 rfl rfl ?_
                refine g_if_ne_n (tgt := 88) dX10_shortest_81 (by decide) (by decide) (fun _ => ?_) (fun h => absurd h (by decide))
                refine g_iload_n 2 dX10_shortest_88 rfl rfl ?_
                refine g_iconst (v := nI 1) dX10_shortest_89 (by decide +kernel) ?_
                refine g_icmp_ne_n (tgt := 101) dX10_shortest_90 (by decide) (by decide) (by decide) (fun h => absurd h (by decide)) (fun _ => ?_)
                refine g_aload_n 0 dX10_shortest_93 rfl rfl ?_
                refine g_iload_n 3 dX10_shortest_94 rfl rfl ?_
                refine m_cVi (ct_first n (by omega) (by omega)) hvX10_first hyX10_first rfl ⟨Nat.le_of_ble_eq_true rfl, Nat.le_of_ble_eq_true rfl⟩ ⟨Nat.zero_le _, Nat.zero_le _⟩ rfl (Nat.le_of_ble_eq_true rfl) dX10_shortest_95 m_rec (fun r u9 hp => ?_)
                refine g_goto (tgt := 122) dX10_shortest_98 (by decide) ?_
                exact g_iret ((_, _, _, _, _, _, _), _) dX10_shortest_122 (Nat.le_refl _) (Nat.le_refl _) (by unfold isShortest; rw [hin, show iR (nI 1) 14 = some 1 from iR_nI (by decide) (by decide)]; dsimp only; rw [if_pos ⟨hm1, by decide⟩]; obtain ⟨⟨pp, SS⟩, hps⟩ := Option.isSome_iff_exists.mp c77; have hfg := firstG_some hi hps (show n < m + 1 by omega); rw [hfg]; refine ⟨rfl, ?_⟩; dsimp only; rw [if_neg (by decide), if_pos rfl]; obtain ⟨g1, g2, g3⟩ := hg9.2.2 pp SS hps; rw [← hPT]; exact isFst_congr (fun w hw => by have := g3 w (by omega); rw [Nat.zero_add] at this; exact this) hp) (fun _ h => h)
        exact loop66 (m + 2) 0 heaps rowsF path (by omega) (by omega) rfl hF0
      · skip
        subst e
        refine g_aload_n 0 dX10_shortest_0 rfl rfl ?_
        refine g_iload_n 1 dX10_shortest_1 rfl rfl ?_
        refine g_i2l_n dX10_shortest_2 (by omega) ?_
        refine g_lconst (v := lN 1) dX10_shortest_3 (by decide +kernel) ?_
        refine g_ldc2 (v := lN 4) dX10_shortest_4 q2345 ?_
        refine m_cSi (ct_within _ _ _) hsX10_within hyX10_within rfl ⟨Nat.le_of_ble_eq_true rfl, Nat.le_of_ble_eq_true rfl⟩ ⟨Nat.zero_le _, Nat.zero_le _⟩ rfl (Nat.le_of_ble_eq_true rfl) dX10_shortest_7 (fun r u9 hp => ?_)
        obtain rfl := hp
        refine GG.topi (y := nI 1) (by rw [show wIn (lN m) (lN 1) (lN 4) = true from decide_eq_true (by rw [lN_toInt (by omega), lN_toInt (by omega), lN_toInt (by omega)]; omega)]; rfl) ?_
        refine g_if_eq_n (tgt := 41) dX10_shortest_10 (by decide) (by decide) (fun h => absurd h (by decide)) (fun _ => ?_)
        refine g_iload_n 2 dX10_shortest_13 rfl rfl ?_
        refine g_i2l_n dX10_shortest_14 (by omega) ?_
        refine g_lconst (v := lN 0) dX10_shortest_15 (by decide +kernel) ?_
        refine g_lconst (v := lN 1) dX10_shortest_16 (by decide +kernel) ?_
        refine m_cSi (ct_within _ _ _) hsX10_within hyX10_within rfl ⟨Nat.le_of_ble_eq_true rfl, Nat.le_of_ble_eq_true rfl⟩ ⟨Nat.zero_le _, Nat.zero_le _⟩ rfl (Nat.le_of_ble_eq_true rfl) dX10_shortest_17 (fun r u9 hp => ?_)
        obtain rfl := hp
        refine GG.topi (y := nI 0) (by decide +kernel) ?_
        refine g_if_ne_n (tgt := 37) dX10_shortest_20 (by decide) (by decide) (fun h => absurd h (by decide)) (fun _ => ?_)
        refine g_iload_n 2 dX10_shortest_23 rfl rfl ?_
        refine g_i2l_n dX10_shortest_24 (by omega) ?_
        refine g_ldc2 (v := lN 10) dX10_shortest_25 q2346 ?_
        refine g_ldc2 (v := lN 13) dX10_shortest_28 q2347 ?_
        refine m_cSi (ct_within _ _ _) hsX10_within hyX10_within rfl ⟨Nat.le_of_ble_eq_true rfl, Nat.le_of_ble_eq_true rfl⟩ ⟨Nat.zero_le _, Nat.zero_le _⟩ rfl (Nat.le_of_ble_eq_true rfl) dX10_shortest_31 (fun r u9 hp => ?_)
        obtain rfl := hp
        refine GG.topi (y := nI 1) (by decide +kernel) ?_
        refine g_if_eq_n (tgt := 41) dX10_shortest_34 (by decide) (by decide) (fun h => absurd h (by decide)) (fun _ => ?_)
        refine g_iconst (v := nI 0) dX10_shortest_37 (by decide +kernel) ?_
        refine g_goto (tgt := 42) dX10_shortest_38 (by decide) ?_
        refine m_put_thrown dX10_shortest_42 ?_
        refine g_aload_n 0 dX10_shortest_45 rfl rfl ?_
        refine m_get_thrown dX10_shortest_46 ?_
        refine g_if_le_n (tgt := 54) dX10_shortest_49 (by decide) (by decide) (fun _ => ?_) (fun h => absurd h (by decide))
        refine g_aload_n 0 dX10_shortest_54 rfl rfl ?_
        refine m_cVv (ct_layPairs (tLow T) (tHigh T) (tMost T) (tUn T) k1 k2 k3 k4 o1 o2 o3 o4 o5) hvX10_layPairs hyX10_layPairs rfl ⟨Nat.le_of_ble_eq_true rfl, Nat.le_of_ble_eq_true rfl⟩ ⟨Nat.zero_le _, Nat.zero_le _⟩ rfl (Nat.le_of_ble_eq_true rfl) dX10_shortest_55 m_rec (fun ul hld => ?_)
        obtain ⟨xsL, ysL, pairsL⟩ := ul
        dsimp only
        have hl : layd xsL ysL pairsL (tW T) := hld
        have hW := layd_OK hl o1 o3
        have hP : pairsL ≤ 1830 := hW.1
        have hPT : pairsL = tP T := hl.1
        refine g_aload_n 0 dX10_shortest_58 rfl rfl ?_
        refine g_iconst (v := nI 0) dX10_shortest_59 (by decide +kernel) ?_
        refine g_iconst (v := nI 1) dX10_shortest_60 (by decide +kernel) ?_
        refine m_cVv (ct_fills _ true (by omega) (by omega)) hvX10_fills hyX10_fills rfl ⟨Nat.le_of_ble_eq_true rfl, Nat.le_of_ble_eq_true rfl⟩ ⟨Nat.zero_le _, Nat.zero_le _⟩ rfl (Nat.le_of_ble_eq_true rfl) dX10_shortest_61 m_rec (fun rowsF hF => ?_)
        have hF0 : ∀ v, v < tP T → rbt rowsF 0 v = true := fun v hv => by rw [rowsUp_in hF hP (by omega)]
        refine g_iconst (v := nI 0) dX10_shortest_64 (by decide +kernel) ?_
        refine g_istore_n (L' := [(0, _), (1, _), (2, _), (3, _)]) 3 dX10_shortest_65 rfl (by decide) rfl rfl ?_
        have loop66 : ∀ (q66 : Nat) (n : Nat) (heaps1 : Nat → Nat) (rows1 : Nat → Int64) (path1 : Nat → Nat), m + 1 - n < q66 → (n ≤ m + 1) → (firstG (fun l => shF T l allT) n = none) → (∀ v, v < tP T → rbt rows1 0 v = true) → GG l D cl tys cX10_shortest 4 (some .int) RX10 ({ frames := 11, cells := 0, slots := 0, locals := 343 } : Room) (AM ma) MT (QM (Qi (fun (v : Int32) (u : (Nat × (Nat → Nat) × (Nat → Nat) × Nat × (Nat → Int64) × Nat × (Nat → Nat)) × (Nat → Nat)) => isShortest T (nI m) (nI 10) u.1.1 v) (fun (u : (Nat × (Nat → Nat) × (Nat → Nat) × Nat × (Nat → Int64) × Nat × (Nat → Nat)) × (Nat → Nat)) => HM D cl tys mi cI cJ cZ ma known fresh_ saved images isImage u.1.1 tape taped size_ at_ begin_ token value open_ bad badPlace faultKind faultPlace u.1.2.1 u.1.2.2.1 u.1.2.2.2.1 u.1.2.2.2.2.1 u.1.2.2.2.2.2.1 u.1.2.2.2.2.2.2 endsBehind u.2 order firstOrder ordersMany tSort tMany numbers) (AM ma)) 0 0 (AM ma)) (HM D cl tys mi cI cJ cZ ma known fresh_ saved images isImage 0 tape taped size_ at_ begin_ token value open_ bad badPlace faultKind faultPlace xsL ysL pairsL rows1 top heaps1 endsBehind path1 order firstOrder ordersMany tSort tMany numbers) 0 0 66 [(0, .ref (ma 0)), (1, .int (nI m)), (2, .int (nI 10)), (3, .int (nI n))] [] := by
          intro q66
          induction q66 with
          | zero => intro n heaps1 rows1 path1 hq66; exact absurd hq66 (Nat.not_lt_zero _)
          | succ q66 ih66 =>
            intro n heaps1 rows1 path1 hq66 hn hi h0
            refine g_iload_n 3 dX10_shortest_66 rfl rfl ?_
            refine g_iload_n 1 dX10_shortest_67 rfl rfl ?_
            refine g_icmp_gt_n (tgt := 129) dX10_shortest_68 (by decide) (by omega) (by omega) (fun c68 => ?_) (fun c68 => ?_)
            · skip
              refine g_iconst (v := -1) dX10_shortest_129 (by decide +kernel) ?_
              exact g_iret ((_, _, _, _, _, _, _), _) dX10_shortest_130 (Nat.le_refl _) (Nat.le_refl _) (by unfold isShortest; rw [hin, show iR (nI 10) 14 = some 10 from iR_nI (by decide) (by decide)]; dsimp only; rw [if_pos ⟨hm1, by decide⟩]; rw [show firstG (fun l => shF T l allT) (m + 1) = none by rw [← show n = m + 1 by omega]; exact hi]; exact ⟨rfl, rfl⟩) (fun _ h => h)
            · skip
              refine g_aload_n 0 dX10_shortest_71 rfl rfl ?_
              refine g_iconst (v := nI 0) dX10_shortest_72 (by decide +kernel) ?_
              refine g_iload_n 3 dX10_shortest_73 rfl rfl ?_
              refine m_cVi (sh_all T n 0 allT hK hl (by omega) h0) hvX10_shortBy hyX10_shortBy rfl ⟨by dsimp only; omega, by dsimp only; omega⟩ ⟨Nat.zero_le _, Nat.zero_le _⟩ rfl (Nat.le_of_ble_eq_true rfl) dX10_shortest_74 m_rec (fun r us hus => ?_)
              obtain ⟨heaps5, rows5, path5⟩ := us
              dsimp only
              obtain ⟨hr9, hg9⟩ := hus
              subst hr9
              have hg9 : went path1 path5 rows1 rows5 (tP T) 0 n _ := hg9
              refine g_if_eq_b (tgt := 123) dX10_shortest_77 (by decide) (fun c77 => ?_) (fun c77 => ?_)
              · skip
                refine g_iinc_n (b := 1) (L' := [(0, _), (1, _), (2, _), (3, _)]) dX10_shortest_123 rfl rfl (by decide) rfl rfl ?_
                refine g_goto (tgt := 66) dX10_shortest_126 (by decide) ?_
                exact ih66 (n + 1) heaps5 rows5 path5 (by omega) (by omega) (firstG_none hi (Option.isSome_eq_false_iff.mp c77 |> Option.isNone_iff_eq_none.mp)) (fun v hv => by rw [hg9.1 0 v (Nat.le_refl _) (by omega)]; exact h0 v hv)
              · skip
                refine g_iload_n 2 dX10_shortest_80 rfl rfl ?_
                refine g_if_ne_n (tgt := 88) dX10_shortest_81 (by decide) (by decide) (fun _ => ?_) (fun h => absurd h (by decide))
                refine g_iload_n 2 dX10_shortest_88 rfl rfl ?_
                refine g_iconst (v := nI 1) dX10_shortest_89 (by decide +kernel) ?_
                refine g_icmp_ne_n (tgt := 101) dX10_shortest_90 (by decide) (by decide) (by decide) (fun _ => ?_) (fun h => absurd h (by decide))
                refine g_iload_n 2 dX10_shortest_101 rfl rfl ?_
                refine g_bipush (v := nI 10) dX10_shortest_102 (by decide +kernel) ?_
                refine g_isub_n dX10_shortest_104 (by decide) ?_
                refine g_iload_n 3 dX10_shortest_105 rfl rfl ?_
                refine g_icmp_ge_n (tgt := 121) dX10_shortest_106 (by decide) (by omega) (by omega) (fun c106 => ?_) (fun c106 => ?_)
                · skip
                  refine g_iconst (v := -1) dX10_shortest_121 (by decide +kernel) ?_
                  exact g_iret ((_, _, _, _, _, _, _), _) dX10_shortest_122 (Nat.le_refl _) (Nat.le_refl _) (by unfold isShortest; rw [hin, show iR (nI 10) 14 = some 10 from iR_nI (by decide) (by decide)]; dsimp only; rw [if_pos ⟨hm1, by decide⟩]; obtain ⟨⟨pp, SS⟩, hps⟩ := Option.isSome_iff_exists.mp c77; have hfg := firstG_some hi hps (show n < m + 1 by omega); rw [hfg]; refine ⟨rfl, ?_⟩; dsimp only; rw [if_neg (by decide), if_neg (by decide), if_neg (by omega)]) (fun _ h => h)
                · skip
                  refine g_aload_n 0 dX10_shortest_109 rfl rfl ?_
                  refine m_get_path dX10_shortest_110 ?_
                  refine g_iload_n 2 dX10_shortest_113 rfl rfl ?_
                  refine g_bipush (v := nI 10) dX10_shortest_114 (by decide +kernel) ?_
                  refine g_isub_n dX10_shortest_116 (by decide) ?_
                  refine m_ld_path dX10_shortest_117 (by omega) ?_
                  refine g_goto (tgt := 122) dX10_shortest_118 (by decide) ?_
                  exact g_iret ((_, _, _, _, _, _, _), _) dX10_shortest_122 (Nat.le_refl _) (Nat.le_refl _) (by unfold isShortest; rw [hin, show iR (nI 10) 14 = some 10 from iR_nI (by decide) (by decide)]; dsimp only; rw [if_pos ⟨hm1, by decide⟩]; obtain ⟨⟨pp, SS⟩, hps⟩ := Option.isSome_iff_exists.mp c77; have hfg := firstG_some hi hps (show n < m + 1 by omega); rw [hfg]; refine ⟨rfl, ?_⟩; dsimp only; rw [if_neg (by decide), if_neg (by decide), if_pos (by omega)]; obtain ⟨g1, g2, g3⟩ := hg9.2.2 pp SS hps; have := g2 (10 - 10) (by omega); rw [Nat.zero_add] at this; rw [← this]) (fun _ h => h)
        exact loop66 (m + 2) 0 heaps rowsF path (by omega) (by omega) rfl hF0
      · skip
        subst e
        refine g_aload_n 0 dX10_shortest_0 rfl rfl ?_
        refine g_iload_n 1 dX10_shortest_1 rfl rfl ?_
        refine g_i2l_n dX10_shortest_2 (by omega) ?_
        refine g_lconst (v := lN 1) dX10_shortest_3 (by decide +kernel) ?_
        refine g_ldc2 (v := lN 4) dX10_shortest_4 q2345 ?_
        refine m_cSi (ct_within _ _ _) hsX10_within hyX10_within rfl ⟨Nat.le_of_ble_eq_true rfl, Nat.le_of_ble_eq_true rfl⟩ ⟨Nat.zero_le _, Nat.zero_le _⟩ rfl (Nat.le_of_ble_eq_true rfl) dX10_shortest_7 (fun r u9 hp => ?_)
        obtain rfl := hp
        refine GG.topi (y := nI 1) (by rw [show wIn (lN m) (lN 1) (lN 4) = true from decide_eq_true (by rw [lN_toInt (by omega), lN_toInt (by omega), lN_toInt (by omega)]; omega)]; rfl) ?_
        refine g_if_eq_n (tgt := 41) dX10_shortest_10 (by decide) (by decide) (fun h => absurd h (by decide)) (fun _ => ?_)
        refine g_iload_n 2 dX10_shortest_13 rfl rfl ?_
        refine g_i2l_n dX10_shortest_14 (by omega) ?_
        refine g_lconst (v := lN 0) dX10_shortest_15 (by decide +kernel) ?_
        refine g_lconst (v := lN 1) dX10_shortest_16 (by decide +kernel) ?_
        refine m_cSi (ct_within _ _ _) hsX10_within hyX10_within rfl ⟨Nat.le_of_ble_eq_true rfl, Nat.le_of_ble_eq_true rfl⟩ ⟨Nat.zero_le _, Nat.zero_le _⟩ rfl (Nat.le_of_ble_eq_true rfl) dX10_shortest_17 (fun r u9 hp => ?_)
        obtain rfl := hp
        refine GG.topi (y := nI 0) (by decide +kernel) ?_
        refine g_if_ne_n (tgt := 37) dX10_shortest_20 (by decide) (by decide) (fun h => absurd h (by decide)) (fun _ => ?_)
        refine g_iload_n 2 dX10_shortest_23 rfl rfl ?_
        refine g_i2l_n dX10_shortest_24 (by omega) ?_
        refine g_ldc2 (v := lN 10) dX10_shortest_25 q2346 ?_
        refine g_ldc2 (v := lN 13) dX10_shortest_28 q2347 ?_
        refine m_cSi (ct_within _ _ _) hsX10_within hyX10_within rfl ⟨Nat.le_of_ble_eq_true rfl, Nat.le_of_ble_eq_true rfl⟩ ⟨Nat.zero_le _, Nat.zero_le _⟩ rfl (Nat.le_of_ble_eq_true rfl) dX10_shortest_31 (fun r u9 hp => ?_)
        obtain rfl := hp
        refine GG.topi (y := nI 1) (by decide +kernel) ?_
        refine g_if_eq_n (tgt := 41) dX10_shortest_34 (by decide) (by decide) (fun h => absurd h (by decide)) (fun _ => ?_)
        refine g_iconst (v := nI 0) dX10_shortest_37 (by decide +kernel) ?_
        refine g_goto (tgt := 42) dX10_shortest_38 (by decide) ?_
        refine m_put_thrown dX10_shortest_42 ?_
        refine g_aload_n 0 dX10_shortest_45 rfl rfl ?_
        refine m_get_thrown dX10_shortest_46 ?_
        refine g_if_le_n (tgt := 54) dX10_shortest_49 (by decide) (by decide) (fun _ => ?_) (fun h => absurd h (by decide))
        refine g_aload_n 0 dX10_shortest_54 rfl rfl ?_
        refine m_cVv (ct_layPairs (tLow T) (tHigh T) (tMost T) (tUn T) k1 k2 k3 k4 o1 o2 o3 o4 o5) hvX10_layPairs hyX10_layPairs rfl ⟨Nat.le_of_ble_eq_true rfl, Nat.le_of_ble_eq_true rfl⟩ ⟨Nat.zero_le _, Nat.zero_le _⟩ rfl (Nat.le_of_ble_eq_true rfl) dX10_shortest_55 m_rec (fun ul hld => ?_)
        obtain ⟨xsL, ysL, pairsL⟩ := ul
        dsimp only
        have hl : layd xsL ysL pairsL (tW T) := hld
        have hW := layd_OK hl o1 o3
        have hP : pairsL ≤ 1830 := hW.1
        have hPT : pairsL = tP T := hl.1
        refine g_aload_n 0 dX10_shortest_58 rfl rfl ?_
        refine g_iconst (v := nI 0) dX10_shortest_59 (by decide +kernel) ?_
        refine g_iconst (v := nI 1) dX10_shortest_60 (by decide +kernel) ?_
        refine m_cVv (ct_fills _ true (by omega) (by omega)) hvX10_fills hyX10_fills rfl ⟨Nat.le_of_ble_eq_true rfl, Nat.le_of_ble_eq_true rfl⟩ ⟨Nat.zero_le _, Nat.zero_le _⟩ rfl (Nat.le_of_ble_eq_true rfl) dX10_shortest_61 m_rec (fun rowsF hF => ?_)
        have hF0 : ∀ v, v < tP T → rbt rowsF 0 v = true := fun v hv => by rw [rowsUp_in hF hP (by omega)]
        refine g_iconst (v := nI 0) dX10_shortest_64 (by decide +kernel) ?_
        refine g_istore_n (L' := [(0, _), (1, _), (2, _), (3, _)]) 3 dX10_shortest_65 rfl (by decide) rfl rfl ?_
        have loop66 : ∀ (q66 : Nat) (n : Nat) (heaps1 : Nat → Nat) (rows1 : Nat → Int64) (path1 : Nat → Nat), m + 1 - n < q66 → (n ≤ m + 1) → (firstG (fun l => shF T l allT) n = none) → (∀ v, v < tP T → rbt rows1 0 v = true) → GG l D cl tys cX10_shortest 4 (some .int) RX10 ({ frames := 11, cells := 0, slots := 0, locals := 343 } : Room) (AM ma) MT (QM (Qi (fun (v : Int32) (u : (Nat × (Nat → Nat) × (Nat → Nat) × Nat × (Nat → Int64) × Nat × (Nat → Nat)) × (Nat → Nat)) => isShortest T (nI m) (nI 11) u.1.1 v) (fun (u : (Nat × (Nat → Nat) × (Nat → Nat) × Nat × (Nat → Int64) × Nat × (Nat → Nat)) × (Nat → Nat)) => HM D cl tys mi cI cJ cZ ma known fresh_ saved images isImage u.1.1 tape taped size_ at_ begin_ token value open_ bad badPlace faultKind faultPlace u.1.2.1 u.1.2.2.1 u.1.2.2.2.1 u.1.2.2.2.2.1 u.1.2.2.2.2.2.1 u.1.2.2.2.2.2.2 endsBehind u.2 order firstOrder ordersMany tSort tMany numbers) (AM ma)) 0 0 (AM ma)) (HM D cl tys mi cI cJ cZ ma known fresh_ saved images isImage 0 tape taped size_ at_ begin_ token value open_ bad badPlace faultKind faultPlace xsL ysL pairsL rows1 top heaps1 endsBehind path1 order firstOrder ordersMany tSort tMany numbers) 0 0 66 [(0, .ref (ma 0)), (1, .int (nI m)), (2, .int (nI 11)), (3, .int (nI n))] [] := by
          intro q66
          induction q66 with
          | zero => intro n heaps1 rows1 path1 hq66; exact absurd hq66 (Nat.not_lt_zero _)
          | succ q66 ih66 =>
            intro n heaps1 rows1 path1 hq66 hn hi h0
            refine g_iload_n 3 dX10_shortest_66 rfl rfl ?_
            refine g_iload_n 1 dX10_shortest_67 rfl rfl ?_
            refine g_icmp_gt_n (tgt := 129) dX10_shortest_68 (by decide) (by omega) (by omega) (fun c68 => ?_) (fun c68 => ?_)
            · skip
              refine g_iconst (v := -1) dX10_shortest_129 (by decide +kernel) ?_
              exact g_iret ((_, _, _, _, _, _, _), _) dX10_shortest_130 (Nat.le_refl _) (Nat.le_refl _) (by unfold isShortest; rw [hin, show iR (nI 11) 14 = some 11 from iR_nI (by decide) (by decide)]; dsimp only; rw [if_pos ⟨hm1, by decide⟩]; rw [show firstG (fun l => shF T l allT) (m + 1) = none by rw [← show n = m + 1 by omega]; exact hi]; exact ⟨rfl, rfl⟩) (fun _ h => h)
            · skip
              refine g_aload_n 0 dX10_shortest_71 rfl rfl ?_
              refine g_iconst (v := nI 0) dX10_shortest_72 (by decide +kernel) ?_
              refine g_iload_n 3 dX10_shortest_73 rfl rfl ?_
              refine m_cVi (sh_all T n 0 allT hK hl (by omega) h0) hvX10_shortBy hyX10_shortBy rfl ⟨by dsimp only; omega, by dsimp only; omega⟩ ⟨Nat.zero_le _, Nat.zero_le _⟩ rfl (Nat.le_of_ble_eq_true rfl) dX10_shortest_74 m_rec (fun r us hus => ?_)
              obtain ⟨heaps5, rows5, path5⟩ := us
              dsimp only
              obtain ⟨hr9, hg9⟩ := hus
              subst hr9
              have hg9 : went path1 path5 rows1 rows5 (tP T) 0 n _ := hg9
              refine g_if_eq_b (tgt := 123) dX10_shortest_77 (by decide) (fun c77 => ?_) (fun c77 => ?_)
              · skip
                refine g_iinc_n (b := 1) (L' := [(0, _), (1, _), (2, _), (3, _)]) dX10_shortest_123 rfl rfl (by decide) rfl rfl ?_
                refine g_goto (tgt := 66) dX10_shortest_126 (by decide) ?_
                exact ih66 (n + 1) heaps5 rows5 path5 (by omega) (by omega) (firstG_none hi (Option.isSome_eq_false_iff.mp c77 |> Option.isNone_iff_eq_none.mp)) (fun v hv => by rw [hg9.1 0 v (Nat.le_refl _) (by omega)]; exact h0 v hv)
              · skip
                refine g_iload_n 2 dX10_shortest_80 rfl rfl ?_
                refine g_if_ne_n (tgt := 88) dX10_shortest_81 (by decide) (by decide) (fun _ => ?_) (fun h => absurd h (by decide))
                refine g_iload_n 2 dX10_shortest_88 rfl rfl ?_
                refine g_iconst (v := nI 1) dX10_shortest_89 (by decide +kernel) ?_
                refine g_icmp_ne_n (tgt := 101) dX10_shortest_90 (by decide) (by decide) (by decide) (fun _ => ?_) (fun h => absurd h (by decide))
                refine g_iload_n 2 dX10_shortest_101 rfl rfl ?_
                refine g_bipush (v := nI 10) dX10_shortest_102 (by decide +kernel) ?_
                refine g_isub_n dX10_shortest_104 (by decide) ?_
                refine g_iload_n 3 dX10_shortest_105 rfl rfl ?_
                refine g_icmp_ge_n (tgt := 121) dX10_shortest_106 (by decide) (by omega) (by omega) (fun c106 => ?_) (fun c106 => ?_)
                · skip
                  refine g_iconst (v := -1) dX10_shortest_121 (by decide +kernel) ?_
                  exact g_iret ((_, _, _, _, _, _, _), _) dX10_shortest_122 (Nat.le_refl _) (Nat.le_refl _) (by unfold isShortest; rw [hin, show iR (nI 11) 14 = some 11 from iR_nI (by decide) (by decide)]; dsimp only; rw [if_pos ⟨hm1, by decide⟩]; obtain ⟨⟨pp, SS⟩, hps⟩ := Option.isSome_iff_exists.mp c77; have hfg := firstG_some hi hps (show n < m + 1 by omega); rw [hfg]; refine ⟨rfl, ?_⟩; dsimp only; rw [if_neg (by decide), if_neg (by decide), if_neg (by omega)]) (fun _ h => h)
                · skip
                  refine g_aload_n 0 dX10_shortest_109 rfl rfl ?_
                  refine m_get_path dX10_shortest_110 ?_
                  refine g_iload_n 2 dX10_shortest_113 rfl rfl ?_
                  refine g_bipush (v := nI 10) dX10_shortest_114 (by decide +kernel) ?_
                  refine g_isub_n dX10_shortest_116 (by decide) ?_
                  refine m_ld_path dX10_shortest_117 (by omega) ?_
                  refine g_goto (tgt := 122) dX10_shortest_118 (by decide) ?_
                  exact g_iret ((_, _, _, _, _, _, _), _) dX10_shortest_122 (Nat.le_refl _) (Nat.le_refl _) (by unfold isShortest; rw [hin, show iR (nI 11) 14 = some 11 from iR_nI (by decide) (by decide)]; dsimp only; rw [if_pos ⟨hm1, by decide⟩]; obtain ⟨⟨pp, SS⟩, hps⟩ := Option.isSome_iff_exists.mp c77; have hfg := firstG_some hi hps (show n < m + 1 by omega); rw [hfg]; refine ⟨rfl, ?_⟩; dsimp only; rw [if_neg (by decide), if_neg (by decide), if_pos (by omega)]; obtain ⟨g1, g2, g3⟩ := hg9.2.2 pp SS hps; have := g2 (11 - 10) (by omega); rw [Nat.zero_add] at this; rw [← this]) (fun _ h => h)
        exact loop66 (m + 2) 0 heaps rowsF path (by omega) (by omega) rfl hF0
      · skip
        subst e
        refine g_aload_n 0 dX10_shortest_0 rfl rfl ?_
        refine g_iload_n 1 dX10_shortest_1 rfl rfl ?_
        refine g_i2l_n dX10_shortest_2 (by omega) ?_
        refine g_lconst (v := lN 1) dX10_shortest_3 (by decide +kernel) ?_
        refine g_ldc2 (v := lN 4) dX10_shortest_4 q2345 ?_
        refine m_cSi (ct_within _ _ _) hsX10_within hyX10_within rfl ⟨Nat.le_of_ble_eq_true rfl, Nat.le_of_ble_eq_true rfl⟩ ⟨Nat.zero_le _, Nat.zero_le _⟩ rfl (Nat.le_of_ble_eq_true rfl) dX10_shortest_7 (fun r u9 hp => ?_)
        obtain rfl := hp
        refine GG.topi (y := nI 1) (by rw [show wIn (lN m) (lN 1) (lN 4) = true from decide_eq_true (by rw [lN_toInt (by omega), lN_toInt (by omega), lN_toInt (by omega)]; omega)]; rfl) ?_
        refine g_if_eq_n (tgt := 41) dX10_shortest_10 (by decide) (by decide) (fun h => absurd h (by decide)) (fun _ => ?_)
        refine g_iload_n 2 dX10_shortest_13 rfl rfl ?_
        refine g_i2l_n dX10_shortest_14 (by omega) ?_
        refine g_lconst (v := lN 0) dX10_shortest_15 (by decide +kernel) ?_
        refine g_lconst (v := lN 1) dX10_shortest_16 (by decide +kernel) ?_
        refine m_cSi (ct_within _ _ _) hsX10_within hyX10_within rfl ⟨Nat.le_of_ble_eq_true rfl, Nat.le_of_ble_eq_true rfl⟩ ⟨Nat.zero_le _, Nat.zero_le _⟩ rfl (Nat.le_of_ble_eq_true rfl) dX10_shortest_17 (fun r u9 hp => ?_)
        obtain rfl := hp
        refine GG.topi (y := nI 0) (by decide +kernel) ?_
        refine g_if_ne_n (tgt := 37) dX10_shortest_20 (by decide) (by decide) (fun h => absurd h (by decide)) (fun _ => ?_)
        refine g_iload_n 2 dX10_shortest_23 rfl rfl ?_
        refine g_i2l_n dX10_shortest_24 (by omega) ?_
        refine g_ldc2 (v := lN 10) dX10_shortest_25 q2346 ?_
        refine g_ldc2 (v := lN 13) dX10_shortest_28 q2347 ?_
        refine m_cSi (ct_within _ _ _) hsX10_within hyX10_within rfl ⟨Nat.le_of_ble_eq_true rfl, Nat.le_of_ble_eq_true rfl⟩ ⟨Nat.zero_le _, Nat.zero_le _⟩ rfl (Nat.le_of_ble_eq_true rfl) dX10_shortest_31 (fun r u9 hp => ?_)
        obtain rfl := hp
        refine GG.topi (y := nI 1) (by decide +kernel) ?_
        refine g_if_eq_n (tgt := 41) dX10_shortest_34 (by decide) (by decide) (fun h => absurd h (by decide)) (fun _ => ?_)
        refine g_iconst (v := nI 0) dX10_shortest_37 (by decide +kernel) ?_
        refine g_goto (tgt := 42) dX10_shortest_38 (by decide) ?_
        refine m_put_thrown dX10_shortest_42 ?_
        refine g_aload_n 0 dX10_shortest_45 rfl rfl ?_
        refine m_get_thrown dX10_shortest_46 ?_
        refine g_if_le_n (tgt := 54) dX10_shortest_49 (by decide) (by decide) (fun _ => ?_) (fun h => absurd h (by decide))
        refine g_aload_n 0 dX10_shortest_54 rfl rfl ?_
        refine m_cVv (ct_layPairs (tLow T) (tHigh T) (tMost T) (tUn T) k1 k2 k3 k4 o1 o2 o3 o4 o5) hvX10_layPairs hyX10_layPairs rfl ⟨Nat.le_of_ble_eq_true rfl, Nat.le_of_ble_eq_true rfl⟩ ⟨Nat.zero_le _, Nat.zero_le _⟩ rfl (Nat.le_of_ble_eq_true rfl) dX10_shortest_55 m_rec (fun ul hld => ?_)
        obtain ⟨xsL, ysL, pairsL⟩ := ul
        dsimp only
        have hl : layd xsL ysL pairsL (tW T) := hld
        have hW := layd_OK hl o1 o3
        have hP : pairsL ≤ 1830 := hW.1
        have hPT : pairsL = tP T := hl.1
        refine g_aload_n 0 dX10_shortest_58 rfl rfl ?_
        refine g_iconst (v := nI 0) dX10_shortest_59 (by decide +kernel) ?_
        refine g_iconst (v := nI 1) dX10_shortest_60 (by decide +kernel) ?_
        refine m_cVv (ct_fills _ true (by omega) (by omega)) hvX10_fills hyX10_fills rfl ⟨Nat.le_of_ble_eq_true rfl, Nat.le_of_ble_eq_true rfl⟩ ⟨Nat.zero_le _, Nat.zero_le _⟩ rfl (Nat.le_of_ble_eq_true rfl) dX10_shortest_61 m_rec (fun rowsF hF => ?_)
        have hF0 : ∀ v, v < tP T → rbt rowsF 0 v = true := fun v hv => by rw [rowsUp_in hF hP (by omega)]
        refine g_iconst (v := nI 0) dX10_shortest_64 (by decide +kernel) ?_
        refine g_istore_n (L' := [(0, _), (1, _), (2, _), (3, _)]) 3 dX10_shortest_65 rfl (by decide) rfl rfl ?_
        have loop66 : ∀ (q66 : Nat) (n : Nat) (heaps1 : Nat → Nat) (rows1 : Nat → Int64) (path1 : Nat → Nat), m + 1 - n < q66 → (n ≤ m + 1) → (firstG (fun l => shF T l allT) n = none) → (∀ v, v < tP T → rbt rows1 0 v = true) → GG l D cl tys cX10_shortest 4 (some .int) RX10 ({ frames := 11, cells := 0, slots := 0, locals := 343 } : Room) (AM ma) MT (QM (Qi (fun (v : Int32) (u : (Nat × (Nat → Nat) × (Nat → Nat) × Nat × (Nat → Int64) × Nat × (Nat → Nat)) × (Nat → Nat)) => isShortest T (nI m) (nI 12) u.1.1 v) (fun (u : (Nat × (Nat → Nat) × (Nat → Nat) × Nat × (Nat → Int64) × Nat × (Nat → Nat)) × (Nat → Nat)) => HM D cl tys mi cI cJ cZ ma known fresh_ saved images isImage u.1.1 tape taped size_ at_ begin_ token value open_ bad badPlace faultKind faultPlace u.1.2.1 u.1.2.2.1 u.1.2.2.2.1 u.1.2.2.2.2.1 u.1.2.2.2.2.2.1 u.1.2.2.2.2.2.2 endsBehind u.2 order firstOrder ordersMany tSort tMany numbers) (AM ma)) 0 0 (AM ma)) (HM D cl tys mi cI cJ cZ ma known fresh_ saved images isImage 0 tape taped size_ at_ begin_ token value open_ bad badPlace faultKind faultPlace xsL ysL pairsL rows1 top heaps1 endsBehind path1 order firstOrder ordersMany tSort tMany numbers) 0 0 66 [(0, .ref (ma 0)), (1, .int (nI m)), (2, .int (nI 12)), (3, .int (nI n))] [] := by
          intro q66
          induction q66 with
          | zero => intro n heaps1 rows1 path1 hq66; exact absurd hq66 (Nat.not_lt_zero _)
          | succ q66 ih66 =>
            intro n heaps1 rows1 path1 hq66 hn hi h0
            refine g_iload_n 3 dX10_shortest_66 rfl rfl ?_
            refine g_iload_n 1 dX10_shortest_67 rfl rfl ?_
            refine g_icmp_gt_n (tgt := 129) dX10_shortest_68 (by decide) (by omega) (by omega) (fun c68 => ?_) (fun c68 => ?_)
            · skip
              refine g_iconst (v := -1) dX10_shortest_129 (by decide +kernel) ?_
              exact g_iret ((_, _, _, _, _, _, _), _) dX10_shortest_130 (Nat.le_refl _) (Nat.le_refl _) (by unfold isShortest; rw [hin, show iR (nI 12) 14 = some 12 from iR_nI (by decide) (by decide)]; dsimp only; rw [if_pos ⟨hm1, by decide⟩]; rw [show firstG (fun l => shF T l allT) (m + 1) = none by rw [← show n = m + 1 by omega]; exact hi]; exact ⟨rfl, rfl⟩) (fun _ h => h)
            · skip
              refine g_aload_n 0 dX10_shortest_71 rfl rfl ?_
              refine g_iconst (v := nI 0) dX10_shortest_72 (by decide +kernel) ?_
              refine g_iload_n 3 dX10_shortest_73 rfl rfl ?_
              refine m_cVi (sh_all T n 0 allT hK hl (by omega) h0) hvX10_shortBy hyX10_shortBy rfl ⟨by dsimp only; omega, by dsimp only; omega⟩ ⟨Nat.zero_le _, Nat.zero_le _⟩ rfl (Nat.le_of_ble_eq_true rfl) dX10_shortest_74 m_rec (fun r us hus => ?_)
              obtain ⟨heaps5, rows5, path5⟩ := us
              dsimp only
              obtain ⟨hr9, hg9⟩ := hus
              subst hr9
              have hg9 : went path1 path5 rows1 rows5 (tP T) 0 n _ := hg9
              refine g_if_eq_b (tgt := 123) dX10_shortest_77 (by decide) (fun c77 => ?_) (fun c77 => ?_)
              · skip
                refine g_iinc_n (b := 1) (L' := [(0, _), (1, _), (2, _), (3, _)]) dX10_shortest_123 rfl rfl (by decide) rfl rfl ?_
                refine g_goto (tgt := 66) dX10_shortest_126 (by decide) ?_
                exact ih66 (n + 1) heaps5 rows5 path5 (by omega) (by omega) (firstG_none hi (Option.isSome_eq_false_iff.mp c77 |> Option.isNone_iff_eq_none.mp)) (fun v hv => by rw [hg9.1 0 v (Nat.le_refl _) (by omega)]; exact h0 v hv)
              · skip
                refine g_iload_n 2 dX10_shortest_80 rfl rfl ?_
                refine g_if_ne_n (tgt := 88) dX10_shortest_81 (by decide) (by decide) (fun _ => ?_) (fun h => absurd h (by decide))
                refine g_iload_n 2 dX10_shortest_88 rfl rfl ?_
                refine g_iconst (v := nI 1) dX10_shortest_89 (by decide +kernel) ?_
                refine g_icmp_ne_n (tgt := 101) dX10_shortest_90 (by decide) (by decide) (by decide) (fun _ => ?_) (fun h => absurd h (by decide))
                refine g_iload_n 2 dX10_shortest_101 rfl rfl ?_
                refine g_bipush (v := nI 10) dX10_shortest_102 (by decide +kernel) ?_
                refine g_isub_n dX10_shortest_104 (by decide) ?_
                refine g_iload_n 3 dX10_shortest_105 rfl rfl ?_
                refine g_icmp_ge_n (tgt := 121) dX10_shortest_106 (by decide) (by omega) (by omega) (fun c106 => ?_) (fun c106 => ?_)
                · skip
                  refine g_iconst (v := -1) dX10_shortest_121 (by decide +kernel) ?_
                  exact g_iret ((_, _, _, _, _, _, _), _) dX10_shortest_122 (Nat.le_refl _) (Nat.le_refl _) (by unfold isShortest; rw [hin, show iR (nI 12) 14 = some 12 from iR_nI (by decide) (by decide)]; dsimp only; rw [if_pos ⟨hm1, by decide⟩]; obtain ⟨⟨pp, SS⟩, hps⟩ := Option.isSome_iff_exists.mp c77; have hfg := firstG_some hi hps (show n < m + 1 by omega); rw [hfg]; refine ⟨rfl, ?_⟩; dsimp only; rw [if_neg (by decide), if_neg (by decide), if_neg (by omega)]) (fun _ h => h)
                · skip
                  refine g_aload_n 0 dX10_shortest_109 rfl rfl ?_
                  refine m_get_path dX10_shortest_110 ?_
                  refine g_iload_n 2 dX10_shortest_113 rfl rfl ?_
                  refine g_bipush (v := nI 10) dX10_shortest_114 (by decide +kernel) ?_
                  refine g_isub_n dX10_shortest_116 (by decide) ?_
                  refine m_ld_path dX10_shortest_117 (by omega) ?_
                  refine g_goto (tgt := 122) dX10_shortest_118 (by decide) ?_
                  exact g_iret ((_, _, _, _, _, _, _), _) dX10_shortest_122 (Nat.le_refl _) (Nat.le_refl _) (by unfold isShortest; rw [hin, show iR (nI 12) 14 = some 12 from iR_nI (by decide) (by decide)]; dsimp only; rw [if_pos ⟨hm1, by decide⟩]; obtain ⟨⟨pp, SS⟩, hps⟩ := Option.isSome_iff_exists.mp c77; have hfg := firstG_some hi hps (show n < m + 1 by omega); rw [hfg]; refine ⟨rfl, ?_⟩; dsimp only; rw [if_neg (by decide), if_neg (by decide), if_pos (by omega)]; obtain ⟨g1, g2, g3⟩ := hg9.2.2 pp SS hps; have := g2 (12 - 10) (by omega); rw [Nat.zero_add] at this; rw [← this]) (fun _ h => h)
        exact loop66 (m + 2) 0 heaps rowsF path (by omega) (by omega) rfl hF0
      · skip
        subst e
        refine g_aload_n 0 dX10_shortest_0 rfl rfl ?_
        refine g_iload_n 1 dX10_shortest_1 rfl rfl ?_
        refine g_i2l_n dX10_shortest_2 (by omega) ?_
        refine g_lconst (v := lN 1) dX10_shortest_3 (by decide +kernel) ?_
        refine g_ldc2 (v := lN 4) dX10_shortest_4 q2345 ?_
        refine m_cSi (ct_within _ _ _) hsX10_within hyX10_within rfl ⟨Nat.le_of_ble_eq_true rfl, Nat.le_of_ble_eq_true rfl⟩ ⟨Nat.zero_le _, Nat.zero_le _⟩ rfl (Nat.le_of_ble_eq_true rfl) dX10_shortest_7 (fun r u9 hp => ?_)
        obtain rfl := hp
        refine GG.topi (y := nI 1) (by rw [show wIn (lN m) (lN 1) (lN 4) = true from decide_eq_true (by rw [lN_toInt (by omega), lN_toInt (by omega), lN_toInt (by omega)]; omega)]; rfl) ?_
        refine g_if_eq_n (tgt := 41) dX10_shortest_10 (by decide) (by decide) (fun h => absurd h (by decide)) (fun _ => ?_)
        refine g_iload_n 2 dX10_shortest_13 rfl rfl ?_
        refine g_i2l_n dX10_shortest_14 (by omega) ?_
        refine g_lconst (v := lN 0) dX10_shortest_15 (by decide +kernel) ?_
        refine g_lconst (v := lN 1) dX10_shortest_16 (by decide +kernel) ?_
        refine m_cSi (ct_within _ _ _) hsX10_within hyX10_within rfl ⟨Nat.le_of_ble_eq_true rfl, Nat.le_of_ble_eq_true rfl⟩ ⟨Nat.zero_le _, Nat.zero_le _⟩ rfl (Nat.le_of_ble_eq_true rfl) dX10_shortest_17 (fun r u9 hp => ?_)
        obtain rfl := hp
        refine GG.topi (y := nI 0) (by decide +kernel) ?_
        refine g_if_ne_n (tgt := 37) dX10_shortest_20 (by decide) (by decide) (fun h => absurd h (by decide)) (fun _ => ?_)
        refine g_iload_n 2 dX10_shortest_23 rfl rfl ?_
        refine g_i2l_n dX10_shortest_24 (by omega) ?_
        refine g_ldc2 (v := lN 10) dX10_shortest_25 q2346 ?_
        refine g_ldc2 (v := lN 13) dX10_shortest_28 q2347 ?_
        refine m_cSi (ct_within _ _ _) hsX10_within hyX10_within rfl ⟨Nat.le_of_ble_eq_true rfl, Nat.le_of_ble_eq_true rfl⟩ ⟨Nat.zero_le _, Nat.zero_le _⟩ rfl (Nat.le_of_ble_eq_true rfl) dX10_shortest_31 (fun r u9 hp => ?_)
        obtain rfl := hp
        refine GG.topi (y := nI 1) (by decide +kernel) ?_
        refine g_if_eq_n (tgt := 41) dX10_shortest_34 (by decide) (by decide) (fun h => absurd h (by decide)) (fun _ => ?_)
        refine g_iconst (v := nI 0) dX10_shortest_37 (by decide +kernel) ?_
        refine g_goto (tgt := 42) dX10_shortest_38 (by decide) ?_
        refine m_put_thrown dX10_shortest_42 ?_
        refine g_aload_n 0 dX10_shortest_45 rfl rfl ?_
        refine m_get_thrown dX10_shortest_46 ?_
        refine g_if_le_n (tgt := 54) dX10_shortest_49 (by decide) (by decide) (fun _ => ?_) (fun h => absurd h (by decide))
        refine g_aload_n 0 dX10_shortest_54 rfl rfl ?_
        refine m_cVv (ct_layPairs (tLow T) (tHigh T) (tMost T) (tUn T) k1 k2 k3 k4 o1 o2 o3 o4 o5) hvX10_layPairs hyX10_layPairs rfl ⟨Nat.le_of_ble_eq_true rfl, Nat.le_of_ble_eq_true rfl⟩ ⟨Nat.zero_le _, Nat.zero_le _⟩ rfl (Nat.le_of_ble_eq_true rfl) dX10_shortest_55 m_rec (fun ul hld => ?_)
        obtain ⟨xsL, ysL, pairsL⟩ := ul
        dsimp only
        have hl : layd xsL ysL pairsL (tW T) := hld
        have hW := layd_OK hl o1 o3
        have hP : pairsL ≤ 1830 := hW.1
        have hPT : pairsL = tP T := hl.1
        refine g_aload_n 0 dX10_shortest_58 rfl rfl ?_
        refine g_iconst (v := nI 0) dX10_shortest_59 (by decide +kernel) ?_
        refine g_iconst (v := nI 1) dX10_shortest_60 (by decide +kernel) ?_
        refine m_cVv (ct_fills _ true (by omega) (by omega)) hvX10_fills hyX10_fills rfl ⟨Nat.le_of_ble_eq_true rfl, Nat.le_of_ble_eq_true rfl⟩ ⟨Nat.zero_le _, Nat.zero_le _⟩ rfl (Nat.le_of_ble_eq_true rfl) dX10_shortest_61 m_rec (fun rowsF hF => ?_)
        have hF0 : ∀ v, v < tP T → rbt rowsF 0 v = true := fun v hv => by rw [rowsUp_in hF hP (by omega)]
        refine g_iconst (v := nI 0) dX10_shortest_64 (by decide +kernel) ?_
        refine g_istore_n (L' := [(0, _), (1, _), (2, _), (3, _)]) 3 dX10_shortest_65 rfl (by decide) rfl rfl ?_
        have loop66 : ∀ (q66 : Nat) (n : Nat) (heaps1 : Nat → Nat) (rows1 : Nat → Int64) (path1 : Nat → Nat), m + 1 - n < q66 → (n ≤ m + 1) → (firstG (fun l => shF T l allT) n = none) → (∀ v, v < tP T → rbt rows1 0 v = true) → GG l D cl tys cX10_shortest 4 (some .int) RX10 ({ frames := 11, cells := 0, slots := 0, locals := 343 } : Room) (AM ma) MT (QM (Qi (fun (v : Int32) (u : (Nat × (Nat → Nat) × (Nat → Nat) × Nat × (Nat → Int64) × Nat × (Nat → Nat)) × (Nat → Nat)) => isShortest T (nI m) (nI 13) u.1.1 v) (fun (u : (Nat × (Nat → Nat) × (Nat → Nat) × Nat × (Nat → Int64) × Nat × (Nat → Nat)) × (Nat → Nat)) => HM D cl tys mi cI cJ cZ ma known fresh_ saved images isImage u.1.1 tape taped size_ at_ begin_ token value open_ bad badPlace faultKind faultPlace u.1.2.1 u.1.2.2.1 u.1.2.2.2.1 u.1.2.2.2.2.1 u.1.2.2.2.2.2.1 u.1.2.2.2.2.2.2 endsBehind u.2 order firstOrder ordersMany tSort tMany numbers) (AM ma)) 0 0 (AM ma)) (HM D cl tys mi cI cJ cZ ma known fresh_ saved images isImage 0 tape taped size_ at_ begin_ token value open_ bad badPlace faultKind faultPlace xsL ysL pairsL rows1 top heaps1 endsBehind path1 order firstOrder ordersMany tSort tMany numbers) 0 0 66 [(0, .ref (ma 0)), (1, .int (nI m)), (2, .int (nI 13)), (3, .int (nI n))] [] := by
          intro q66
          induction q66 with
          | zero => intro n heaps1 rows1 path1 hq66; exact absurd hq66 (Nat.not_lt_zero _)
          | succ q66 ih66 =>
            intro n heaps1 rows1 path1 hq66 hn hi h0
            refine g_iload_n 3 dX10_shortest_66 rfl rfl ?_
            refine g_iload_n 1 dX10_shortest_67 rfl rfl ?_
            refine g_icmp_gt_n (tgt := 129) dX10_shortest_68 (by decide) (by omega) (by omega) (fun c68 => ?_) (fun c68 => ?_)
            · skip
              refine g_iconst (v := -1) dX10_shortest_129 (by decide +kernel) ?_
              exact g_iret ((_, _, _, _, _, _, _), _) dX10_shortest_130 (Nat.le_refl _) (Nat.le_refl _) (by unfold isShortest; rw [hin, show iR (nI 13) 14 = some 13 from iR_nI (by decide) (by decide)]; dsimp only; rw [if_pos ⟨hm1, by decide⟩]; rw [show firstG (fun l => shF T l allT) (m + 1) = none by rw [← show n = m + 1 by omega]; exact hi]; exact ⟨rfl, rfl⟩) (fun _ h => h)
            · skip
              refine g_aload_n 0 dX10_shortest_71 rfl rfl ?_
              refine g_iconst (v := nI 0) dX10_shortest_72 (by decide +kernel) ?_
              refine g_iload_n 3 dX10_shortest_73 rfl rfl ?_
              refine m_cVi (sh_all T n 0 allT hK hl (by omega) h0) hvX10_shortBy hyX10_shortBy rfl ⟨by dsimp only; omega, by dsimp only; omega⟩ ⟨Nat.zero_le _, Nat.zero_le _⟩ rfl (Nat.le_of_ble_eq_true rfl) dX10_shortest_74 m_rec (fun r us hus => ?_)
              obtain ⟨heaps5, rows5, path5⟩ := us
              dsimp only
              obtain ⟨hr9, hg9⟩ := hus
              subst hr9
              have hg9 : went path1 path5 rows1 rows5 (tP T) 0 n _ := hg9
              refine g_if_eq_b (tgt := 123) dX10_shortest_77 (by decide) (fun c77 => ?_) (fun c77 => ?_)
              · skip
                refine g_iinc_n (b := 1) (L' := [(0, _), (1, _), (2, _), (3, _)]) dX10_shortest_123 rfl rfl (by decide) rfl rfl ?_
                refine g_goto (tgt := 66) dX10_shortest_126 (by decide) ?_
                exact ih66 (n + 1) heaps5 rows5 path5 (by omega) (by omega) (firstG_none hi (Option.isSome_eq_false_iff.mp c77 |> Option.isNone_iff_eq_none.mp)) (fun v hv => by rw [hg9.1 0 v (Nat.le_refl _) (by omega)]; exact h0 v hv)
              · skip
                refine g_iload_n 2 dX10_shortest_80 rfl rfl ?_
                refine g_if_ne_n (tgt := 88) dX10_shortest_81 (by decide) (by decide) (fun _ => ?_) (fun h => absurd h (by decide))
                refine g_iload_n 2 dX10_shortest_88 rfl rfl ?_
                refine g_iconst (v := nI 1) dX10_shortest_89 (by decide +kernel) ?_
                refine g_icmp_ne_n (tgt := 101) dX10_shortest_90 (by decide) (by decide) (by decide) (fun _ => ?_) (fun h => absurd h (by decide))
                refine g_iload_n 2 dX10_shortest_101 rfl rfl ?_
                refine g_bipush (v := nI 10) dX10_shortest_102 (by decide +kernel) ?_
                refine g_isub_n dX10_shortest_104 (by decide) ?_
                refine g_iload_n 3 dX10_shortest_105 rfl rfl ?_
                refine g_icmp_ge_n (tgt := 121) dX10_shortest_106 (by decide) (by omega) (by omega) (fun c106 => ?_) (fun c106 => ?_)
                · skip
                  refine g_iconst (v := -1) dX10_shortest_121 (by decide +kernel) ?_
                  exact g_iret ((_, _, _, _, _, _, _), _) dX10_shortest_122 (Nat.le_refl _) (Nat.le_refl _) (by unfold isShortest; rw [hin, show iR (nI 13) 14 = some 13 from iR_nI (by decide) (by decide)]; dsimp only; rw [if_pos ⟨hm1, by decide⟩]; obtain ⟨⟨pp, SS⟩, hps⟩ := Option.isSome_iff_exists.mp c77; have hfg := firstG_some hi hps (show n < m + 1 by omega); rw [hfg]; refine ⟨rfl, ?_⟩; dsimp only; rw [if_neg (by decide), if_neg (by decide), if_neg (by omega)]) (fun _ h => h)
                · skip
                  refine g_aload_n 0 dX10_shortest_109 rfl rfl ?_
                  refine m_get_path dX10_shortest_110 ?_
                  refine g_iload_n 2 dX10_shortest_113 rfl rfl ?_
                  refine g_bipush (v := nI 10) dX10_shortest_114 (by decide +kernel) ?_
                  refine g_isub_n dX10_shortest_116 (by decide) ?_
                  refine m_ld_path dX10_shortest_117 (by omega) ?_
                  refine g_goto (tgt := 122) dX10_shortest_118 (by decide) ?_
                  exact g_iret ((_, _, _, _, _, _, _), _) dX10_shortest_122 (Nat.le_refl _) (Nat.le_refl _) (by unfold isShortest; rw [hin, show iR (nI 13) 14 = some 13 from iR_nI (by decide) (by decide)]; dsimp only; rw [if_pos ⟨hm1, by decide⟩]; obtain ⟨⟨pp, SS⟩, hps⟩ := Option.isSome_iff_exists.mp c77; have hfg := firstG_some hi hps (show n < m + 1 by omega); rw [hfg]; refine ⟨rfl, ?_⟩; dsimp only; rw [if_neg (by decide), if_neg (by decide), if_pos (by omega)]; obtain ⟨g1, g2, g3⟩ := hg9.2.2 pp SS hps; have := g2 (13 - 10) (by omega); rw [Nat.zero_add] at this; rw [← this]) (fun _ h => h)
        exact loop66 (m + 2) 0 heaps rowsF path (by omega) (by omega) rfl hF0
      · skip
        refine g_aload_n 0 dX10_shortest_0 rfl rfl ?_
        refine g_iload_n 1 dX10_shortest_1 rfl rfl ?_
        refine g_i2l_n dX10_shortest_2 (by omega) ?_
        refine g_lconst (v := lN 1) dX10_shortest_3 (by decide +kernel) ?_
        refine g_ldc2 (v := lN 4) dX10_shortest_4 q2345 ?_
        refine m_cSi (ct_within _ _ _) hsX10_within hyX10_within rfl ⟨Nat.le_of_ble_eq_true rfl, Nat.le_of_ble_eq_true rfl⟩ ⟨Nat.zero_le _, Nat.zero_le _⟩ rfl (Nat.le_of_ble_eq_true rfl) dX10_shortest_7 (fun r u9 hp => ?_)
        obtain rfl := hp
        refine GG.topi (y := nI 1) (by rw [show wIn (lN m) (lN 1) (lN 4) = true from decide_eq_true (by rw [lN_toInt (by omega), lN_toInt (by omega), lN_toInt (by omega)]; omega)]; rfl) ?_
        refine g_if_eq_n (tgt := 41) dX10_shortest_10 (by decide) (by decide) (fun h => absurd h (by decide)) (fun _ => ?_)
        refine g_iload_n 2 dX10_shortest_13 rfl rfl ?_
        refine g_i2l dX10_shortest_14 rfl ?_
        refine g_lconst (v := lN 0) dX10_shortest_15 (by decide +kernel) ?_
        refine g_lconst (v := lN 1) dX10_shortest_16 (by decide +kernel) ?_
        refine m_cSi (ct_within _ _ _) hsX10_within hyX10_within rfl ⟨Nat.le_of_ble_eq_true rfl, Nat.le_of_ble_eq_true rfl⟩ ⟨Nat.zero_le _, Nat.zero_le _⟩ rfl (Nat.le_of_ble_eq_true rfl) dX10_shortest_17 (fun r u9 hp => ?_)
        obtain rfl := hp
        refine GG.topi (y := nI 0) (by rw [wIn_0 wh (by decide) e2]; rfl) ?_
        refine g_if_ne_n (tgt := 37) dX10_shortest_20 (by decide) (by decide) (fun h => absurd h (by decide)) (fun _ => ?_)
        refine g_iload_n 2 dX10_shortest_23 rfl rfl ?_
        refine g_i2l dX10_shortest_24 rfl ?_
        refine g_ldc2 (v := lN 10) dX10_shortest_25 q2346 ?_
        refine g_ldc2 (v := lN 13) dX10_shortest_28 q2347 ?_
        refine m_cSi (ct_within _ _ _) hsX10_within hyX10_within rfl ⟨Nat.le_of_ble_eq_true rfl, Nat.le_of_ble_eq_true rfl⟩ ⟨Nat.zero_le _, Nat.zero_le _⟩ rfl (Nat.le_of_ble_eq_true rfl) dX10_shortest_31 (fun r u9 hp => ?_)
        obtain rfl := hp
        refine GG.topi (y := nI 0) (by rw [e3]; rfl) ?_
        refine g_if_eq_n (tgt := 41) dX10_shortest_34 (by decide) (by decide) (fun _ => ?_) (fun h => absurd h (by decide))
        refine g_iconst (v := nI 1) dX10_shortest_41 (by decide +kernel) ?_
        refine m_put_thrown dX10_shortest_42 ?_
        refine g_aload_n 0 dX10_shortest_45 rfl rfl ?_
        refine m_get_thrown dX10_shortest_46 ?_
        refine g_if_le_n (tgt := 54) dX10_shortest_49 (by decide) (by decide) (fun h => absurd h (by decide)) (fun _ => ?_)
        refine g_iconst (v := nI 0) dX10_shortest_52 (by decide +kernel) ?_
        exact g_iret ((_, _, _, _, _, _, _), _) dX10_shortest_53 (Nat.le_refl _) (Nat.le_refl _) (by unfold isShortest; rw [hin]; cases h14 : iR wh 14 with | none => rfl | some i => (dsimp only; rw [if_neg (fun q => e4 i h14 q.2)])) (fun _ h => h)
    · skip
      obtain ⟨hm5, em⟩ := iR_some hin
      have hbad : ¬ (1 ≤ n0.toInt ∧ n0.toInt ≤ 4) := fun q => by rw [em, nI_toInt (by omega)] at q; omega
      refine g_aload_n 0 dX10_shortest_0 rfl rfl ?_
      refine g_iload_n 1 dX10_shortest_1 rfl rfl ?_
      refine g_i2l dX10_shortest_2 rfl ?_
      refine g_lconst (v := lN 1) dX10_shortest_3 (by decide +kernel) ?_
      refine g_ldc2 (v := lN 4) dX10_shortest_4 q2345 ?_
      refine m_cSi (ct_within _ _ _) hsX10_within hyX10_within rfl ⟨Nat.le_of_ble_eq_true rfl, Nat.le_of_ble_eq_true rfl⟩ ⟨Nat.zero_le _, Nat.zero_le _⟩ rfl (Nat.le_of_ble_eq_true rfl) dX10_shortest_7 (fun r u9 hp => ?_)
      obtain rfl := hp
      refine GG.topi (y := nI 0) (by rw [show wIn n0.toInt64 (lN 1) (lN 4) = false from decide_eq_false (by rw [i2l_int, lN_toInt (by decide), lN_toInt (by decide)]; exact hbad)]; rfl) ?_
      refine g_if_eq_n (tgt := 41) dX10_shortest_10 (by decide) (by decide) (fun _ => ?_) (fun h => absurd h (by decide))
      refine g_iconst (v := nI 1) dX10_shortest_41 (by decide +kernel) ?_
      refine m_put_thrown dX10_shortest_42 ?_
      refine g_aload_n 0 dX10_shortest_45 rfl rfl ?_
      refine m_get_thrown dX10_shortest_46 ?_
      refine g_if_le_n (tgt := 54) dX10_shortest_49 (by decide) (by decide) (fun h => absurd h (by decide)) (fun _ => ?_)
      refine g_iconst (v := nI 0) dX10_shortest_52 (by decide +kernel) ?_
      exact g_iret ((_, _, _, _, _, _, _), _) dX10_shortest_53 (Nat.le_refl _) (Nat.le_refl _) (by unfold isShortest; rw [hin]; cases h14 : iR wh 14 with | none => rfl | some i => (dsimp only; rw [if_neg (fun q => hm1 q.1)])) (fun _ h => h)
end
