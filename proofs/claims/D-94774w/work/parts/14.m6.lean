/-! SPEC: answers given -/
set_option maxRecDepth 100000
/-- what is thrown and answered is as a says -/
def aLeftAt (T : Talk) (t k : Int32) (thr : Nat) (v : Int32) : Prop := match iR t (tNT T + 1) with
  | none => thr = 1
  | some j => thr = 0 ∧ isFst (fun w => leftT T j w && decide (k = nI (cnt (leftT T j) w))) (tP T) v
def ans (a : Nat × Int32) (thr : Nat) (v : Int32) : Prop := thr = a.1 ∧ (a.1 = 0 → v = a.2)
theorem ansT {a : Nat × Int32} {v x : Int32} (h : a = (0, x)) (hv : v = x) : ans a 0 v := by subst h; exact ⟨rfl, fun _ => hv⟩
theorem ansF {a : Nat × Int32} {k : Nat} {v : Int32} (h : a = (k, 0)) (hk : ¬ k = 0) : ans a k v := by subst h; exact ⟨rfl, fun h => absurd h hk⟩
theorem iR2 (v : Int32) : v = nI 0 ∨ v = nI 1 ∨ (¬ v = 0 ∧ ¬ v = 1 ∧ iR v 2 = none) := by
  cases h : iR v 2 with
  | none => exact Or.inr (Or.inr ⟨fun q => by subst q; exact absurd h (by decide +kernel), fun q => by subst q; exact absurd h (by decide +kernel), rfl⟩)
  | some j =>
    obtain ⟨h1, h2⟩ := iR_some h
    rcases (show j = 0 ∨ j = 1 by omega) with q | q <;> subst q
    · exact Or.inl h2
    · exact Or.inr (Or.inl h2)
theorem iR3 (v : Int32) : v = nI 0 ∨ v = nI 1 ∨ v = nI 2 ∨ (¬ v = 0 ∧ ¬ v = 1 ∧ ¬ v = 2 ∧ iR v 3 = none) := by
  cases h : iR v 3 with
  | none => exact Or.inr (Or.inr (Or.inr ⟨fun q => by subst q; exact absurd h (by decide +kernel), fun q => by subst q; exact absurd h (by decide +kernel), fun q => by subst q; exact absurd h (by decide +kernel), rfl⟩))
  | some j =>
    obtain ⟨h1, h2⟩ := iR_some h
    rcases (show j = 0 ∨ j = 1 ∨ j = 2 by omega) with q | q | q <;> subst q
    · exact Or.inl h2
    · exact Or.inr (Or.inl h2)
    · exact Or.inr (Or.inr (Or.inl h2))
theorem iR4 (v : Int32) : v = nI 0 ∨ v = nI 1 ∨ v = nI 2 ∨ v = nI 3 ∨ (¬ v = 0 ∧ ¬ v = 1 ∧ ¬ v = 2 ∧ ¬ v = 3 ∧ iR v 4 = none) := by
  cases h : iR v 4 with
  | none => exact Or.inr (Or.inr (Or.inr (Or.inr ⟨fun q => by subst q; exact absurd h (by decide +kernel), fun q => by subst q; exact absurd h (by decide +kernel), fun q => by subst q; exact absurd h (by decide +kernel), fun q => by subst q; exact absurd h (by decide +kernel), rfl⟩)))
  | some j =>
    obtain ⟨h1, h2⟩ := iR_some h
    rcases (show j = 0 ∨ j = 1 ∨ j = 2 ∨ j = 3 by omega) with q | q | q | q <;> subst q
    · exact Or.inl h2
    · exact Or.inr (Or.inl h2)
    · exact Or.inr (Or.inr (Or.inl h2))
    · exact Or.inr (Or.inr (Or.inr (Or.inl h2)))
theorem nI_0ne1 : ¬ nI 0 = (1 : Int32) := by decide +kernel
theorem nI_1ne0 : ¬ nI 1 = (0 : Int32) := by decide +kernel
theorem wIn_0 (v : Int32) {n : Nat} (hn : n < 2 ^ 31) {b : Option Nat} (h : iR v (n + 1) = b) : wIn v.toInt64 (lN 0) (lN n) = b.isSome := by rw [wIn_iR1 v hn, h]
/-! THE MODEL, 6: the questions -/
set_option maxRecDepth 100000
theorem sub_i0 {a b : Int32} (h : a - b = 0) : a = b := by
  have h2 : a - b + b = 0 + b := by rw [h]
  rwa [Int32.sub_add_cancel, Int32.zero_add] at h2
theorem sub_i1 (k : Int32) (n : Nat) : k - nI n + Int32.ofInt (-1) = k - nI (n + 1) := by
  rw [nI_succ, show Int32.ofInt (-1) = -1 from by decide +kernel]
  grind
section
variable {l : Launch} {D : va_G} {cl : List vw_C} {tys : List (ClassId × FieldType)} {mi : Nat} {cI cJ cZ : ClassId} {ma : Nat → Nat} {known fresh_ saved images : Nat → Int32} {isImage : Nat → Bool} {thrown : Nat} {tape : Nat → Nat} {taped size_ at_ begin_ token value open_ bad badPlace faultKind : Nat} {faultPlace : Int32} {xs ys : Nat → Nat} {pairs : Nat} {rows : Nat → Int64} {top : Nat} {heaps : Nat → Nat} {endsBehind : Nat → Int32} {path order firstOrder : Nat → Nat} {ordersMany : Nat} {tSort : Nat → Int32} {tMany : Nat → Nat} {numbers : Nat → Int64}
set_option maxHeartbeats 4000000 in
/-- a world's numbers -/
theorem ct_world (T : Talk) (w0 wh : Int32) (hK : KIs known T) : CT l D cl tys yX10_world cX10_world 3 (some .int) ({ frames := 2, cells := 0, slots := 0, locals := 46 } : Room) [.ref (ma 0), .int w0, .int wh] (HM D cl tys mi cI cJ cZ ma known fresh_ saved images isImage thrown tape taped size_ at_ begin_ token value open_ bad badPlace faultKind faultPlace xs ys pairs rows top heaps endsBehind path order firstOrder ordersMany tSort tMany numbers) (Qi (fun (v : Int32) (u : Nat × (Nat → Nat) × (Nat → Nat) × Nat × (Nat → Int64) × Nat × (Nat → Nat)) => ans (aWorld T w0 wh) u.1 v) (fun (u : Nat × (Nat → Nat) × (Nat → Nat) × Nat × (Nat → Int64) × Nat × (Nat → Nat)) => HM D cl tys mi cI cJ cZ ma known fresh_ saved images isImage u.1 tape taped size_ at_ begin_ token value open_ bad badPlace faultKind faultPlace u.2.1 u.2.2.1 u.2.2.2.1 u.2.2.2.2.1 u.2.2.2.2.2.1 u.2.2.2.2.2.2 endsBehind path order firstOrder ordersMany tSort tMany numbers) (AM ma)) (AM ma) := by
  obtain ⟨⟨o1, o2, o3, o4, o5, o6, o7, o8, o9, o10⟩, k0, k1, k2, k3, k4, k5, k6, k7, k8⟩ := id hK
  refine CT.of (L := [(0, .ref (ma 0)), (1, .int w0), (2, .int wh)]) rfl (by decide +kernel) rfl (Nat.le_of_ble_eq_true rfl) ?_
  rcases hiw : iR w0 (tP T) with _ | j
  · skip
    refine g_aload_n 0 dX10_world_0 rfl rfl ?_
    refine g_iconst (v := nI 0) dX10_world_1 (by decide +kernel) ?_
    refine m_put_thrown dX10_world_2 ?_
    refine g_aload_n 0 dX10_world_5 rfl rfl ?_
    refine g_iload_n 1 dX10_world_6 rfl rfl ?_
    refine m_cVi (ct_isWorld _ (tLow T) (tHigh T) (tMost T) (tUn T) k1 k2 k3 k4 o1 o2 o3 o4 o5) hvX10_isWorld hyX10_isWorld rfl ⟨Nat.le_of_ble_eq_true rfl, Nat.le_of_ble_eq_true rfl⟩ ⟨Nat.zero_le _, Nat.zero_le _⟩ rfl (Nat.le_of_ble_eq_true rfl) dX10_world_7 m_rec (fun r ul hld => ?_)
    obtain ⟨xsL, ysL, pairsL⟩ := ul
    dsimp only
    obtain ⟨hl, hr9⟩ := hld
    have hl : layd xsL ysL pairsL (tW T) := hl
    have hW := layd_OK hl o1 o3
    have hP : pairsL ≤ 1830 := hW.1
    have hPT : pairsL = tP T := hl.1
    subst hr9
    refine GG.topi (y := nI 0) (by show bI (iR _ (tP T)).isSome = _; rw [hiw]; rfl) ?_
    refine g_if_ne_n (tgt := 19) dX10_world_10 (by decide) (by decide) (fun h => absurd h (by decide)) (fun _ => ?_)
    refine g_aload_n 0 dX10_world_13 rfl rfl ?_
    refine g_iconst (v := nI 1) dX10_world_14 (by decide +kernel) ?_
    refine m_cVi (ct_fails _) hvX10_fails hyX10_fails rfl ⟨Nat.le_of_ble_eq_true rfl, Nat.le_of_ble_eq_true rfl⟩ ⟨Nat.zero_le _, Nat.zero_le _⟩ rfl (Nat.le_of_ble_eq_true rfl) dX10_world_15 m_rec (fun r u hp => ?_)
    obtain rfl := hp
    exact g_iret (_, _, _, _, _, _, _) dX10_world_18 (Nat.le_refl _) (Nat.le_refl _) (by exact ansF (by first | (unfold aWorld; rw [hiw]; done) | (unfold aWorld; rw [hiw]; rfl) | (unfold aWorld; simp only [hiw]; done) | (unfold aWorld; simp only [hiw]; rfl) | (unfold aWorld; rw [hiw]; dsimp only)) (Nat.succ_ne_zero _)) (fun _ h => h)
  · skip
    obtain ⟨hj, ej⟩ := iR_some hiw
    subst ej
    rcases iR2 wh with e | e | ⟨e0, e1, e2⟩
    · skip
      subst e
      refine g_aload_n 0 dX10_world_0 rfl rfl ?_
      refine g_iconst (v := nI 0) dX10_world_1 (by decide +kernel) ?_
      refine m_put_thrown dX10_world_2 ?_
      refine g_aload_n 0 dX10_world_5 rfl rfl ?_
      refine g_iload_n 1 dX10_world_6 rfl rfl ?_
      refine m_cVi (ct_isWorld _ (tLow T) (tHigh T) (tMost T) (tUn T) k1 k2 k3 k4 o1 o2 o3 o4 o5) hvX10_isWorld hyX10_isWorld rfl ⟨Nat.le_of_ble_eq_true rfl, Nat.le_of_ble_eq_true rfl⟩ ⟨Nat.zero_le _, Nat.zero_le _⟩ rfl (Nat.le_of_ble_eq_true rfl) dX10_world_7 m_rec (fun r ul hld => ?_)
      obtain ⟨xsL, ysL, pairsL⟩ := ul
      dsimp only
      obtain ⟨hl, hr9⟩ := hld
      have hl : layd xsL ysL pairsL (tW T) := hl
      have hW := layd_OK hl o1 o3
      have hP : pairsL ≤ 1830 := hW.1
      have hPT : pairsL = tP T := hl.1
      subst hr9
      refine GG.topi (y := nI 1) (by show bI (iR _ (tP T)).isSome = _; rw [hiw]; rfl) ?_
      refine g_if_ne_n (tgt := 19) dX10_world_10 (by decide) (by decide) (fun _ => ?_) (fun h => absurd h (by decide))
      refine g_iload_n 2 dX10_world_19 rfl rfl ?_
      refine g_i2l_n dX10_world_20 (by omega) ?_
      refine g_lconst (v := lN 0) dX10_world_21 (by decide +kernel) ?_
      refine g_lconst (v := lN 1) dX10_world_22 (by decide +kernel) ?_
      refine m_cSi (ct_within _ _ _) hsX10_within hyX10_within rfl ⟨Nat.le_of_ble_eq_true rfl, Nat.le_of_ble_eq_true rfl⟩ ⟨Nat.zero_le _, Nat.zero_le _⟩ rfl (Nat.le_of_ble_eq_true rfl) dX10_world_23 (fun r u9 hp => ?_)
      obtain rfl := hp
      refine GG.topi (y := nI 1) (by decide +kernel) ?_
      refine g_if_ne_n (tgt := 35) dX10_world_26 (by decide) (by decide) (fun _ => ?_) (fun h => absurd h (by decide))
      refine g_iload_n 2 dX10_world_35 rfl rfl ?_
      refine g_if_ne_n (tgt := 48) dX10_world_36 (by decide) (by decide) (fun h => absurd h (by decide)) (fun _ => ?_)
      refine g_aload_n 0 dX10_world_39 rfl rfl ?_
      refine m_get_xs dX10_world_40 ?_
      refine g_iload_n 1 dX10_world_43 rfl rfl ?_
      refine m_ld_xs dX10_world_44 (by omega) ?_
      refine g_goto (tgt := 54) dX10_world_45 (by decide) ?_
      exact g_iret (_, _, _, _, _, _, _) dX10_world_54 (Nat.le_refl _) (Nat.le_refl _) (by exact ansT (by first | (unfold aWorld; rw [hiw]; done) | (unfold aWorld; rw [hiw]; rfl) | (unfold aWorld; simp only [hiw]; done) | (unfold aWorld; simp only [hiw]; rfl) | (unfold aWorld; rw [hiw]; dsimp only)) (congrArg nI (layd_XY hl (by omega)).1)) (fun _ h => h)
    · skip
      subst e
      refine g_aload_n 0 dX10_world_0 rfl rfl ?_
      refine g_iconst (v := nI 0) dX10_world_1 (by decide +kernel) ?_
      refine m_put_thrown dX10_world_2 ?_
      refine g_aload_n 0 dX10_world_5 rfl rfl ?_
      refine g_iload_n 1 dX10_world_6 rfl rfl ?_
      refine m_cVi (ct_isWorld _ (tLow T) (tHigh T) (tMost T) (tUn T) k1 k2 k3 k4 o1 o2 o3 o4 o5) hvX10_isWorld hyX10_isWorld rfl ⟨Nat.le_of_ble_eq_true rfl, Nat.le_of_ble_eq_true rfl⟩ ⟨Nat.zero_le _, Nat.zero_le _⟩ rfl (Nat.le_of_ble_eq_true rfl) dX10_world_7 m_rec (fun r ul hld => ?_)
      obtain ⟨xsL, ysL, pairsL⟩ := ul
      dsimp only
      obtain ⟨hl, hr9⟩ := hld
      have hl : layd xsL ysL pairsL (tW T) := hl
      have hW := layd_OK hl o1 o3
      have hP : pairsL ≤ 1830 := hW.1
      have hPT : pairsL = tP T := hl.1
      subst hr9
      refine GG.topi (y := nI 1) (by show bI (iR _ (tP T)).isSome = _; rw [hiw]; rfl) ?_
      refine g_if_ne_n (tgt := 19) dX10_world_10 (by decide) (by decide) (fun _ => ?_) (fun h => absurd h (by decide))
      refine g_iload_n 2 dX10_world_19 rfl rfl ?_
      refine g_i2l_n dX10_world_20 (by omega) ?_
      refine g_lconst (v := lN 0) dX10_world_21 (by decide +kernel) ?_
      refine g_lconst (v := lN 1) dX10_world_22 (by decide +kernel) ?_
      refine m_cSi (ct_within _ _ _) hsX10_within hyX10_within rfl ⟨Nat.le_of_ble_eq_true rfl, Nat.le_of_ble_eq_true rfl⟩ ⟨Nat.zero_le _, Nat.zero_le _⟩ rfl (Nat.le_of_ble_eq_true rfl) dX10_world_23 (fun r u9 hp => ?_)
      obtain rfl := hp
      refine GG.topi (y := nI 1) (by decide +kernel) ?_
      refine g_if_ne_n (tgt := 35) dX10_world_26 (by decide) (by decide) (fun _ => ?_) (fun h => absurd h (by decide))
      refine g_iload_n 2 dX10_world_35 rfl rfl ?_
      refine g_if_ne_n (tgt := 48) dX10_world_36 (by decide) (by decide) (fun _ => ?_) (fun h => absurd h (by decide))
      refine g_aload_n 0 dX10_world_48 rfl rfl ?_
      refine m_get_ys dX10_world_49 ?_
      refine g_iload_n 1 dX10_world_52 rfl rfl ?_
      refine m_ld_ys dX10_world_53 (by omega) ?_
      exact g_iret (_, _, _, _, _, _, _) dX10_world_54 (Nat.le_refl _) (Nat.le_refl _) (by exact ansT (by first | (unfold aWorld; rw [hiw]; done) | (unfold aWorld; rw [hiw]; rfl) | (unfold aWorld; simp only [hiw]; done) | (unfold aWorld; simp only [hiw]; rfl) | (unfold aWorld; rw [hiw]; dsimp only)) (congrArg nI (layd_XY hl (by omega)).2)) (fun _ h => h)
    · skip
      refine g_aload_n 0 dX10_world_0 rfl rfl ?_
      refine g_iconst (v := nI 0) dX10_world_1 (by decide +kernel) ?_
      refine m_put_thrown dX10_world_2 ?_
      refine g_aload_n 0 dX10_world_5 rfl rfl ?_
      refine g_iload_n 1 dX10_world_6 rfl rfl ?_
      refine m_cVi (ct_isWorld _ (tLow T) (tHigh T) (tMost T) (tUn T) k1 k2 k3 k4 o1 o2 o3 o4 o5) hvX10_isWorld hyX10_isWorld rfl ⟨Nat.le_of_ble_eq_true rfl, Nat.le_of_ble_eq_true rfl⟩ ⟨Nat.zero_le _, Nat.zero_le _⟩ rfl (Nat.le_of_ble_eq_true rfl) dX10_world_7 m_rec (fun r ul hld => ?_)
      obtain ⟨xsL, ysL, pairsL⟩ := ul
      dsimp only
      obtain ⟨hl, hr9⟩ := hld
      have hl : layd xsL ysL pairsL (tW T) := hl
      have hW := layd_OK hl o1 o3
      have hP : pairsL ≤ 1830 := hW.1
      have hPT : pairsL = tP T := hl.1
      subst hr9
      refine GG.topi (y := nI 1) (by show bI (iR _ (tP T)).isSome = _; rw [hiw]; rfl) ?_
      refine g_if_ne_n (tgt := 19) dX10_world_10 (by decide) (by decide) (fun _ => ?_) (fun h => absurd h (by decide))
      refine g_iload_n 2 dX10_world_19 rfl rfl ?_
      refine g_i2l dX10_world_20 rfl ?_
      refine g_lconst (v := lN 0) dX10_world_21 (by decide +kernel) ?_
      refine g_lconst (v := lN 1) dX10_world_22 (by decide +kernel) ?_
      refine m_cSi (ct_within _ _ _) hsX10_within hyX10_within rfl ⟨Nat.le_of_ble_eq_true rfl, Nat.le_of_ble_eq_true rfl⟩ ⟨Nat.zero_le _, Nat.zero_le _⟩ rfl (Nat.le_of_ble_eq_true rfl) dX10_world_23 (fun r u9 hp => ?_)
      obtain rfl := hp
      refine GG.topi (y := nI 0) (by rw [wIn_0 wh (by decide) e2]; rfl) ?_
      refine g_if_ne_n (tgt := 35) dX10_world_26 (by decide) (by decide) (fun h => absurd h (by decide)) (fun _ => ?_)
      refine g_aload_n 0 dX10_world_29 rfl rfl ?_
      refine g_iconst (v := nI 2) dX10_world_30 (by decide +kernel) ?_
      refine m_cVi (ct_fails _) hvX10_fails hyX10_fails rfl ⟨Nat.le_of_ble_eq_true rfl, Nat.le_of_ble_eq_true rfl⟩ ⟨Nat.zero_le _, Nat.zero_le _⟩ rfl (Nat.le_of_ble_eq_true rfl) dX10_world_31 m_rec (fun r u hp => ?_)
      obtain rfl := hp
      exact g_iret (_, _, _, _, _, _, _) dX10_world_34 (Nat.le_refl _) (Nat.le_refl _) (by exact ansF (by unfold aWorld; rw [hiw]; dsimp only; rw [if_neg e0, if_neg e1]) (Nat.succ_ne_zero _)) (fun _ h => h)
set_option maxHeartbeats 4000000 in
/-- the world of a pair -/
theorem ct_pair (T : Talk) (a0 b0 : Int32) (hK : KIs known T) : CT l D cl tys yX10_pair cX10_pair 4 (some .int) ({ frames := 1, cells := 0, slots := 0, locals := 22 } : Room) [.ref (ma 0), .int a0, .int b0] (HM D cl tys mi cI cJ cZ ma known fresh_ saved images isImage thrown tape taped size_ at_ begin_ token value open_ bad badPlace faultKind faultPlace xs ys pairs rows top heaps endsBehind path order firstOrder ordersMany tSort tMany numbers) (Qi (fun (v : Int32) (u : Nat × (Nat → Nat) × (Nat → Nat) × Nat × (Nat → Int64) × Nat × (Nat → Nat)) => u.1 = 0 ∧ isFst (fun w => decide (nI (tX T w) = (if b0 < a0 then b0 else a0)) && decide (nI (tY T w) = (if a0 < b0 then b0 else a0))) (tP T) v) (fun (u : Nat × (Nat → Nat) × (Nat → Nat) × Nat × (Nat → Int64) × Nat × (Nat → Nat)) => HM D cl tys mi cI cJ cZ ma known fresh_ saved images isImage u.1 tape taped size_ at_ begin_ token value open_ bad badPlace faultKind faultPlace u.2.1 u.2.2.1 u.2.2.2.1 u.2.2.2.2.1 u.2.2.2.2.2.1 u.2.2.2.2.2.2 endsBehind path order firstOrder ordersMany tSort tMany numbers) (AM ma)) (AM ma) := by
  obtain ⟨⟨o1, o2, o3, o4, o5, o6, o7, o8, o9, o10⟩, k0, k1, k2, k3, k4, k5, k6, k7, k8⟩ := id hK
  refine CT.of (L := [(0, .ref (ma 0)), (1, .int a0), (2, .int b0)]) rfl (by decide +kernel) rfl (Nat.le_of_ble_eq_true rfl) ?_
  refine g_aload_n 0 dX10_pair_0 rfl rfl ?_
  refine g_iconst (v := nI 0) dX10_pair_1 (by decide +kernel) ?_
  refine m_put_thrown dX10_pair_2 ?_
  refine g_aload_n 0 dX10_pair_5 rfl rfl ?_
  refine m_cVv (ct_layPairs (tLow T) (tHigh T) (tMost T) (tUn T) k1 k2 k3 k4 o1 o2 o3 o4 o5) hvX10_layPairs hyX10_layPairs rfl ⟨Nat.le_of_ble_eq_true rfl, Nat.le_of_ble_eq_true rfl⟩ ⟨Nat.zero_le _, Nat.zero_le _⟩ rfl (Nat.le_of_ble_eq_true rfl) dX10_pair_6 m_rec (fun ul hld => ?_)
  obtain ⟨xsL, ysL, pairsL⟩ := ul
  dsimp only
  have hl : layd xsL ysL pairsL (tW T) := hld
  have hW := layd_OK hl o1 o3
  have hP : pairsL ≤ 1830 := hW.1
  have hPT : pairsL = tP T := hl.1
  refine g_iconst (v := nI 0) dX10_pair_9 (by decide +kernel) ?_
  refine g_istore_n (L' := [(0, _), (1, _), (2, _), (3, _)]) 3 dX10_pair_10 rfl (by decide) rfl rfl ?_
  have loop11 : ∀ (q11 : Nat) (w : Nat), pairsL - w < q11 → (w ≤ pairsL) → (∀ v, v < w → (fun w => decide (nI (tX T w) = (if b0 < a0 then b0 else a0)) && decide (nI (tY T w) = (if a0 < b0 then b0 else a0))) v = false) → GG l D cl tys cX10_pair 4 (some .int) RX10 ({ frames := 1, cells := 0, slots := 0, locals := 22 } : Room) (AM ma) MT (QM (Qi (fun (v : Int32) (u : Nat × (Nat → Nat) × (Nat → Nat) × Nat × (Nat → Int64) × Nat × (Nat → Nat)) => u.1 = 0 ∧ isFst (fun w => decide (nI (tX T w) = (if b0 < a0 then b0 else a0)) && decide (nI (tY T w) = (if a0 < b0 then b0 else a0))) (tP T) v) (fun (u : Nat × (Nat → Nat) × (Nat → Nat) × Nat × (Nat → Int64) × Nat × (Nat → Nat)) => HM D cl tys mi cI cJ cZ ma known fresh_ saved images isImage u.1 tape taped size_ at_ begin_ token value open_ bad badPlace faultKind faultPlace u.2.1 u.2.2.1 u.2.2.2.1 u.2.2.2.2.1 u.2.2.2.2.2.1 u.2.2.2.2.2.2 endsBehind path order firstOrder ordersMany tSort tMany numbers) (AM ma)) 0 0 (AM ma)) (HM D cl tys mi cI cJ cZ ma known fresh_ saved images isImage 0 tape taped size_ at_ begin_ token value open_ bad badPlace faultKind faultPlace xsL ysL pairsL rows top heaps endsBehind path order firstOrder ordersMany tSort tMany numbers) 0 0 11 [(0, .ref (ma 0)), (1, .int a0), (2, .int b0), (3, .int (nI w))] [] := by
    intro q11
    induction q11 with
    | zero => intro w hq11; exact absurd hq11 (Nat.not_lt_zero _)
    | succ q11 ih11 =>
      intro w hq11 hw hi
      refine g_iload_n 3 dX10_pair_11 rfl rfl ?_
      refine g_aload_n 0 dX10_pair_12 rfl rfl ?_
      refine m_get_pairs dX10_pair_13 ?_
      refine g_icmp_ge_n (tgt := 55) dX10_pair_16 (by decide) (by omega) (by omega) (fun c16 => ?_) (fun c16 => ?_)
      · skip
        refine g_iconst (v := -1) dX10_pair_55 (by decide +kernel) ?_
        exact g_iret (_, _, _, _, _, _, _) dX10_pair_56 (Nat.le_refl _) (Nat.le_refl _) (by refine ⟨rfl, Or.inr ⟨fun v hv => hi v (by omega), rfl⟩⟩) (fun _ h => h)
      · skip
        refine g_aload_n 0 dX10_pair_19 rfl rfl ?_
        refine m_get_xs dX10_pair_20 ?_
        refine g_iload_n 3 dX10_pair_23 rfl rfl ?_
        refine m_ld_xs dX10_pair_24 (by omega) ?_
        refine g_iload_n 1 dX10_pair_25 rfl rfl ?_
        refine g_iload_n 2 dX10_pair_26 rfl rfl ?_
        refine g_mmin q2124 dX10_pair_27 (Nat.le_of_ble_eq_true rfl) (Nat.le_of_ble_eq_true rfl) (Nat.zero_le _) (Nat.zero_le _) ?_
        refine g_icmp_ne (tgt := 49) dX10_pair_30 (by decide) (fun c30 => ?_) (fun c30 => ?_)
        · skip
          refine g_iinc_n (b := 1) (L' := [(0, _), (1, _), (2, _), (3, _)]) dX10_pair_49 rfl rfl (by decide) rfl rfl ?_
          refine g_goto (tgt := 11) dX10_pair_52 (by decide) ?_
          refine ih11 (w + 1) (by omega) (by omega) (fun v hv => ?_)
          rcases Nat.lt_succ_iff_lt_or_eq.mp hv with h9 | h9
          · exact hi v h9
          · rw [h9]
            have hXY := layd_XY hl c16
            have hXY : xsL w = tX T w ∧ ysL w = tY T w := hXY
            show (decide (nI (tX T w) = _) && decide (nI (tY T w) = _)) = false
            rw [← hXY.1, ← hXY.2]
            first | (rw [decide_eq_false c30]; rfl) | (rw [decide_eq_false c44, Bool.and_false])
        · skip
          refine g_aload_n 0 dX10_pair_33 rfl rfl ?_
          refine m_get_ys dX10_pair_34 ?_
          refine g_iload_n 3 dX10_pair_37 rfl rfl ?_
          refine m_ld_ys dX10_pair_38 (by omega) ?_
          refine g_iload_n 1 dX10_pair_39 rfl rfl ?_
          refine g_iload_n 2 dX10_pair_40 rfl rfl ?_
          refine g_mmax q2125 dX10_pair_41 (Nat.le_of_ble_eq_true rfl) (Nat.le_of_ble_eq_true rfl) (Nat.zero_le _) (Nat.zero_le _) ?_
          refine g_icmp_ne (tgt := 49) dX10_pair_44 (by decide) (fun c44 => ?_) (fun c44 => ?_)
          · skip
            refine g_iinc_n (b := 1) (L' := [(0, _), (1, _), (2, _), (3, _)]) dX10_pair_49 rfl rfl (by decide) rfl rfl ?_
            refine g_goto (tgt := 11) dX10_pair_52 (by decide) ?_
            refine ih11 (w + 1) (by omega) (by omega) (fun v hv => ?_)
            rcases Nat.lt_succ_iff_lt_or_eq.mp hv with h9 | h9
            · exact hi v h9
            · rw [h9]
              have hXY := layd_XY hl c16
              have hXY : xsL w = tX T w ∧ ysL w = tY T w := hXY
              show (decide (nI (tX T w) = _) && decide (nI (tY T w) = _)) = false
              rw [← hXY.1, ← hXY.2]
              first | (rw [decide_eq_false c30]; rfl) | (rw [decide_eq_false c44, Bool.and_false])
          · skip
            refine g_iload_n 3 dX10_pair_47 rfl rfl ?_
            exact g_iret (_, _, _, _, _, _, _) dX10_pair_48 (Nat.le_refl _) (Nat.le_refl _) (by refine ⟨rfl, Or.inl ⟨w, by omega, ?_, hi, rfl⟩⟩; have hXY : xsL w = tX T w ∧ ysL w = tY T w := layd_XY hl c16; show (decide (nI (tX T w) = _) && decide (nI (tY T w) = _)) = true; rw [← hXY.1, ← hXY.2, decide_eq_true c30, decide_eq_true c44]; rfl) (fun _ h => h)
  exact loop11 (pairsL + 1) 0 (by omega) (by omega) (fun v hv => absurd hv (Nat.not_lt_zero _))
set_option maxHeartbeats 4000000 in
/-- what is told -/
theorem ct_told (T : Talk) (s0 w0 : Int32) (hK : KIs known T) : CT l D cl tys yX10_told cX10_told 3 (some .int) ({ frames := 2, cells := 0, slots := 0, locals := 46 } : Room) [.ref (ma 0), .int s0, .int w0] (HM D cl tys mi cI cJ cZ ma known fresh_ saved images isImage thrown tape taped size_ at_ begin_ token value open_ bad badPlace faultKind faultPlace xs ys pairs rows top heaps endsBehind path order firstOrder ordersMany tSort tMany numbers) (Qi (fun (v : Int32) (u : Nat × (Nat → Nat) × (Nat → Nat) × Nat × (Nat → Int64) × Nat × (Nat → Nat)) => ans (aTold T s0 w0) u.1 v) (fun (u : Nat × (Nat → Nat) × (Nat → Nat) × Nat × (Nat → Int64) × Nat × (Nat → Nat)) => HM D cl tys mi cI cJ cZ ma known fresh_ saved images isImage u.1 tape taped size_ at_ begin_ token value open_ bad badPlace faultKind faultPlace u.2.1 u.2.2.1 u.2.2.2.1 u.2.2.2.2.1 u.2.2.2.2.2.1 u.2.2.2.2.2.2 endsBehind path order firstOrder ordersMany tSort tMany numbers) (AM ma)) (AM ma) := by
  obtain ⟨⟨o1, o2, o3, o4, o5, o6, o7, o8, o9, o10⟩, k0, k1, k2, k3, k4, k5, k6, k7, k8⟩ := id hK
  refine CT.of (L := [(0, .ref (ma 0)), (1, .int s0), (2, .int w0)]) rfl (by decide +kernel) rfl (Nat.le_of_ble_eq_true rfl) ?_
  rcases his : iR s0 (tNS T) with _ | i
  · skip
    refine g_aload_n 0 dX10_told_0 rfl rfl ?_
    refine g_aload_n 0 dX10_told_1 rfl rfl ?_
    refine g_iload_n 1 dX10_told_2 rfl rfl ?_
    refine m_cVi (ct_isSpeaker _ (tNS T) k5 (by omega)) hvX10_isSpeaker hyX10_isSpeaker rfl ⟨Nat.le_of_ble_eq_true rfl, Nat.le_of_ble_eq_true rfl⟩ ⟨Nat.zero_le _, Nat.zero_le _⟩ rfl (Nat.le_of_ble_eq_true rfl) dX10_told_3 m_rec (fun r u9 hp => ?_)
    obtain rfl := hp
    refine GG.topi (y := nI 0) (by rw [his]; rfl) ?_
    refine g_if_eq_n (tgt := 21) dX10_told_6 (by decide) (by decide) (fun _ => ?_) (fun h => absurd h (by decide))
    refine g_iconst (v := nI 1) dX10_told_21 (by decide +kernel) ?_
    refine m_put_thrown dX10_told_22 ?_
    refine g_aload_n 0 dX10_told_25 rfl rfl ?_
    refine m_get_thrown dX10_told_26 ?_
    refine g_if_le_n (tgt := 36) dX10_told_29 (by decide) (by decide) (fun h => absurd h (by decide)) (fun _ => ?_)
    refine g_iconst (v := nI 0) dX10_told_32 (by decide +kernel) ?_
    refine g_goto (tgt := 42) dX10_told_33 (by decide) ?_
    exact g_iret (_, _, _, _, _, _, _) dX10_told_42 (Nat.le_refl _) (Nat.le_refl _) (by exact ansF (by first | (unfold aTold; rw [his]; done) | (unfold aTold; rw [his]; rfl) | (unfold aTold; simp only [his]; done) | (unfold aTold; simp only [his]; rfl) | (unfold aTold; rw [his]; dsimp only)) (Nat.succ_ne_zero _)) (fun _ h => h)
  · skip
    obtain ⟨hi, ei⟩ := iR_some his
    subst ei
    rcases hiw : iR w0 (tP T) with _ | j
    · skip
      refine g_aload_n 0 dX10_told_0 rfl rfl ?_
      refine g_aload_n 0 dX10_told_1 rfl rfl ?_
      refine g_iload_n 1 dX10_told_2 rfl rfl ?_
      refine m_cVi (ct_isSpeaker _ (tNS T) k5 (by omega)) hvX10_isSpeaker hyX10_isSpeaker rfl ⟨Nat.le_of_ble_eq_true rfl, Nat.le_of_ble_eq_true rfl⟩ ⟨Nat.zero_le _, Nat.zero_le _⟩ rfl (Nat.le_of_ble_eq_true rfl) dX10_told_3 m_rec (fun r u9 hp => ?_)
      obtain rfl := hp
      refine GG.topi (y := nI 1) (by rw [his]; rfl) ?_
      refine g_if_eq_n (tgt := 21) dX10_told_6 (by decide) (by decide) (fun h => absurd h (by decide)) (fun _ => ?_)
      refine g_aload_n 0 dX10_told_9 rfl rfl ?_
      refine g_iload_n 2 dX10_told_10 rfl rfl ?_
      refine m_cVi (ct_isWorld _ (tLow T) (tHigh T) (tMost T) (tUn T) k1 k2 k3 k4 o1 o2 o3 o4 o5) hvX10_isWorld hyX10_isWorld rfl ⟨Nat.le_of_ble_eq_true rfl, Nat.le_of_ble_eq_true rfl⟩ ⟨Nat.zero_le _, Nat.zero_le _⟩ rfl (Nat.le_of_ble_eq_true rfl) dX10_told_11 m_rec (fun r ul hld => ?_)
      obtain ⟨xsL, ysL, pairsL⟩ := ul
      dsimp only
      obtain ⟨hl, hr9⟩ := hld
      have hl : layd xsL ysL pairsL (tW T) := hl
      have hW := layd_OK hl o1 o3
      have hP : pairsL ≤ 1830 := hW.1
      have hPT : pairsL = tP T := hl.1
      subst hr9
      refine GG.topi (y := nI 0) (by show bI (iR _ (tP T)).isSome = _; rw [hiw]; rfl) ?_
      refine g_if_eq_n (tgt := 21) dX10_told_14 (by decide) (by decide) (fun _ => ?_) (fun h => absurd h (by decide))
      refine g_iconst (v := nI 1) dX10_told_21 (by decide +kernel) ?_
      refine m_put_thrown dX10_told_22 ?_
      refine g_aload_n 0 dX10_told_25 rfl rfl ?_
      refine m_get_thrown dX10_told_26 ?_
      refine g_if_le_n (tgt := 36) dX10_told_29 (by decide) (by decide) (fun h => absurd h (by decide)) (fun _ => ?_)
      refine g_iconst (v := nI 0) dX10_told_32 (by decide +kernel) ?_
      refine g_goto (tgt := 42) dX10_told_33 (by decide) ?_
      exact g_iret (_, _, _, _, _, _, _) dX10_told_42 (Nat.le_refl _) (Nat.le_refl _) (by exact ansF (by first | (unfold aTold; rw [his, hiw]; done) | (unfold aTold; rw [his, hiw]; rfl) | (unfold aTold; simp only [his, hiw]; done) | (unfold aTold; simp only [his, hiw]; rfl) | (unfold aTold; rw [his, hiw]; dsimp only)) (Nat.succ_ne_zero _)) (fun _ h => h)
    · skip
      obtain ⟨hj, ej⟩ := iR_some hiw
      subst ej
      refine g_aload_n 0 dX10_told_0 rfl rfl ?_
      refine g_aload_n 0 dX10_told_1 rfl rfl ?_
      refine g_iload_n 1 dX10_told_2 rfl rfl ?_
      refine m_cVi (ct_isSpeaker _ (tNS T) k5 (by omega)) hvX10_isSpeaker hyX10_isSpeaker rfl ⟨Nat.le_of_ble_eq_true rfl, Nat.le_of_ble_eq_true rfl⟩ ⟨Nat.zero_le _, Nat.zero_le _⟩ rfl (Nat.le_of_ble_eq_true rfl) dX10_told_3 m_rec (fun r u9 hp => ?_)
      obtain rfl := hp
      refine GG.topi (y := nI 1) (by rw [his]; rfl) ?_
      refine g_if_eq_n (tgt := 21) dX10_told_6 (by decide) (by decide) (fun h => absurd h (by decide)) (fun _ => ?_)
      refine g_aload_n 0 dX10_told_9 rfl rfl ?_
      refine g_iload_n 2 dX10_told_10 rfl rfl ?_
      refine m_cVi (ct_isWorld _ (tLow T) (tHigh T) (tMost T) (tUn T) k1 k2 k3 k4 o1 o2 o3 o4 o5) hvX10_isWorld hyX10_isWorld rfl ⟨Nat.le_of_ble_eq_true rfl, Nat.le_of_ble_eq_true rfl⟩ ⟨Nat.zero_le _, Nat.zero_le _⟩ rfl (Nat.le_of_ble_eq_true rfl) dX10_told_11 m_rec (fun r ul hld => ?_)
      obtain ⟨xsL, ysL, pairsL⟩ := ul
      dsimp only
      obtain ⟨hl, hr9⟩ := hld
      have hl : layd xsL ysL pairsL (tW T) := hl
      have hW := layd_OK hl o1 o3
      have hP : pairsL ≤ 1830 := hW.1
      have hPT : pairsL = tP T := hl.1
      subst hr9
      refine GG.topi (y := nI 1) (by show bI (iR _ (tP T)).isSome = _; rw [hiw]; rfl) ?_
      refine g_if_eq_n (tgt := 21) dX10_told_14 (by decide) (by decide) (fun h => absurd h (by decide)) (fun _ => ?_)
      refine g_iconst (v := nI 0) dX10_told_17 (by decide +kernel) ?_
      refine g_goto (tgt := 22) dX10_told_18 (by decide) ?_
      refine m_put_thrown dX10_told_22 ?_
      refine g_aload_n 0 dX10_told_25 rfl rfl ?_
      refine m_get_thrown dX10_told_26 ?_
      refine g_if_le_n (tgt := 36) dX10_told_29 (by decide) (by decide) (fun _ => ?_) (fun h => absurd h (by decide))
      refine g_aload_n 0 dX10_told_36 rfl rfl ?_
      refine g_iload_n 1 dX10_told_37 rfl rfl ?_
      refine g_iload_n 2 dX10_told_38 rfl rfl ?_
      refine m_cVi (ct_slip _ _ (tKind T i) (by omega) (k7 i hi).1 (by have := o8 i hi; omega) (by omega) hW) hvX10_slip hyX10_slip rfl ⟨Nat.le_of_ble_eq_true rfl, Nat.le_of_ble_eq_true rfl⟩ ⟨Nat.zero_le _, Nat.zero_le _⟩ rfl (Nat.le_of_ble_eq_true rfl) dX10_told_39 m_rec (fun r u9 hp => ?_)
      obtain rfl := hp
      exact g_iret (_, _, _, _, _, _, _) dX10_told_42 (Nat.le_refl _) (Nat.le_refl _) (by exact ansT (by first | (unfold aTold; rw [his, hiw]; done) | (unfold aTold; rw [his, hiw]; rfl) | (unfold aTold; simp only [his, hiw]; done) | (unfold aTold; simp only [his, hiw]; rfl) | (unfold aTold; rw [his, hiw]; dsimp only)) (congrArg nI (slW_congr (layd_XY hl (by omega))))) (fun _ h => h)
set_option maxHeartbeats 4000000 in
/-- how many turns one says -/
theorem ct_turnsOf (T : Talk) (s0 : Nat) (hK : KIs known T) (hs : s0 < 2 ^ 31) : CT l D cl tys yX10_turnsOf cX10_turnsOf 4 (some .int) ({ frames := 1, cells := 0, slots := 0, locals := 21 } : Room) [.ref (ma 0), .int (nI s0)] (HM D cl tys mi cI cJ cZ ma known fresh_ saved images isImage thrown tape taped size_ at_ begin_ token value open_ bad badPlace faultKind faultPlace xs ys pairs rows top heaps endsBehind path order firstOrder ordersMany tSort tMany numbers) (Qi (fun (v : Int32) (u : Unit) => v = nI (cnt (fun t => decide (tWho T t = s0)) (tNT T))) (fun (u : Unit) => HM D cl tys mi cI cJ cZ ma known fresh_ saved images isImage thrown tape taped size_ at_ begin_ token value open_ bad badPlace faultKind faultPlace xs ys pairs rows top heaps endsBehind path order firstOrder ordersMany tSort tMany numbers) (AM ma)) (AM ma) := by
  obtain ⟨⟨o1, o2, o3, o4, o5, o6, o7, o8, o9, o10⟩, k0, k1, k2, k3, k4, k5, k6, k7, k8⟩ := id hK
  refine CT.of (L := [(0, .ref (ma 0)), (1, .int (nI s0))]) rfl (by decide +kernel) rfl (Nat.le_of_ble_eq_true rfl) ?_
  refine g_iconst (v := nI 0) dX10_turnsOf_0 (by decide +kernel) ?_
  refine g_istore_n (L' := [(0, _), (1, _), (2, _)]) 2 dX10_turnsOf_1 rfl (by decide) rfl rfl ?_
  refine g_iconst (v := nI 0) dX10_turnsOf_2 (by decide +kernel) ?_
  refine g_istore_n (L' := [(0, _), (1, _), (2, _), (3, _)]) 3 dX10_turnsOf_3 rfl (by decide) rfl rfl ?_
  have loop4 : ∀ (q4 : Nat) (t : Nat), tNT T - t < q4 → (t ≤ tNT T) → GG l D cl tys cX10_turnsOf 4 (some .int) RX10 ({ frames := 1, cells := 0, slots := 0, locals := 21 } : Room) (AM ma) MT (QM (Qi (fun (v : Int32) (u : Unit) => v = nI (cnt (fun t => decide (tWho T t = s0)) (tNT T))) (fun (u : Unit) => HM D cl tys mi cI cJ cZ ma known fresh_ saved images isImage thrown tape taped size_ at_ begin_ token value open_ bad badPlace faultKind faultPlace xs ys pairs rows top heaps endsBehind path order firstOrder ordersMany tSort tMany numbers) (AM ma)) 0 0 (AM ma)) (HM D cl tys mi cI cJ cZ ma known fresh_ saved images isImage thrown tape taped size_ at_ begin_ token value open_ bad badPlace faultKind faultPlace xs ys pairs rows top heaps endsBehind path order firstOrder ordersMany tSort tMany numbers) 0 0 4 [(0, .ref (ma 0)), (1, .int (nI s0)), (2, .int (nI (cnt (fun t => decide (tWho T t = s0)) t))), (3, .int (nI t))] [] := by
    intro q4
    induction q4 with
    | zero => intro t hq4; exact absurd hq4 (Nat.not_lt_zero _)
    | succ q4 ih4 =>
      intro t hq4 ht
      refine g_iload_n 3 dX10_turnsOf_4 rfl rfl ?_
      refine g_aload_n 0 dX10_turnsOf_5 rfl rfl ?_
      refine m_get_known dX10_turnsOf_6 ?_
      refine g_bipush (v := nI 6) dX10_turnsOf_9 (by decide +kernel) ?_
      refine m_ld_known dX10_turnsOf_11 (by omega) ?_
      refine GG.topi k6 ?_
      refine g_icmp_ge_n (tgt := 38) dX10_turnsOf_12 (by decide) (by omega) (by omega) (fun c12 => ?_) (fun c12 => ?_)
      · skip
        refine g_iload_n 2 dX10_turnsOf_38 rfl rfl ?_
        exact g_iret () dX10_turnsOf_39 (Nat.le_refl _) (Nat.le_refl _) (by have e9 : t = tNT T := (by omega); rw [e9]) (fun _ h => h)
      · skip
        refine g_iload_n 2 dX10_turnsOf_15 rfl rfl ?_
        refine g_aload_n 0 dX10_turnsOf_16 rfl rfl ?_
        refine g_iload_n 3 dX10_turnsOf_17 rfl rfl ?_
        refine m_cVi (ct_who _ (by omega)) hvX10_who hyX10_who rfl ⟨Nat.le_of_ble_eq_true rfl, Nat.le_of_ble_eq_true rfl⟩ ⟨Nat.zero_le _, Nat.zero_le _⟩ rfl (Nat.le_of_ble_eq_true rfl) dX10_turnsOf_18 m_rec (fun r u hp => ?_)
        obtain rfl := hp
        refine GG.topi (k8 t c12).1 ?_
        refine g_iload_n 1 dX10_turnsOf_21 rfl rfl ?_
        refine g_icmp_ne_n (tgt := 29) dX10_turnsOf_22 (by decide) (by have := o9 t c12; omega) (by omega) (fun c22 => ?_) (fun c22 => ?_)
        · skip
          refine g_iconst (v := nI 0) dX10_turnsOf_29 (by decide +kernel) ?_
          refine g_iadd_n dX10_turnsOf_30 ?_
          refine g_istore_n (L' := [(0, _), (1, _), (2, _), (3, _)]) 2 dX10_turnsOf_31 rfl (by decide) rfl rfl ?_
          refine g_iinc_n (b := 1) (L' := [(0, _), (1, _), (2, _), (3, _)]) dX10_turnsOf_32 rfl rfl (by decide) rfl rfl ?_
          refine g_goto (tgt := 4) dX10_turnsOf_35 (by decide) ?_
          have e9 : cnt (fun t => decide (tWho T t = s0)) (t + 1) = cnt (fun t => decide (tWho T t = s0)) t + (if decide (tWho T t = s0) = true then 1 else 0) := rfl
          first
            | (rw [decide_eq_true c22, if_pos rfl] at e9; rw [← e9]; exact ih4 (t + 1) (by omega) (by omega))
            | (rw [decide_eq_false c22, if_neg (by decide)] at e9; rw [← e9]; exact ih4 (t + 1) (by omega) (by omega))
        · skip
          refine g_iconst (v := nI 1) dX10_turnsOf_25 (by decide +kernel) ?_
          refine g_goto (tgt := 30) dX10_turnsOf_26 (by decide) ?_
          refine g_iadd_n dX10_turnsOf_30 ?_
          refine g_istore_n (L' := [(0, _), (1, _), (2, _), (3, _)]) 2 dX10_turnsOf_31 rfl (by decide) rfl rfl ?_
          refine g_iinc_n (b := 1) (L' := [(0, _), (1, _), (2, _), (3, _)]) dX10_turnsOf_32 rfl rfl (by decide) rfl rfl ?_
          refine g_goto (tgt := 4) dX10_turnsOf_35 (by decide) ?_
          have e9 : cnt (fun t => decide (tWho T t = s0)) (t + 1) = cnt (fun t => decide (tWho T t = s0)) t + (if decide (tWho T t = s0) = true then 1 else 0) := rfl
          first
            | (rw [decide_eq_true c22, if_pos rfl] at e9; rw [← e9]; exact ih4 (t + 1) (by omega) (by omega))
            | (rw [decide_eq_false c22, if_neg (by decide)] at e9; rw [← e9]; exact ih4 (t + 1) (by omega) (by omega))
  exact loop4 (tNT T + 1) 0 (by omega) (by omega)
set_option maxHeartbeats 4000000 in
/-- of a speaker -/
theorem ct_speaker (T : Talk) (s0 wh : Int32) (hK : KIs known T) : CT l D cl tys yX10_speaker cX10_speaker 3 (some .int) ({ frames := 2, cells := 0, slots := 0, locals := 46 } : Room) [.ref (ma 0), .int s0, .int wh] (HM D cl tys mi cI cJ cZ ma known fresh_ saved images isImage thrown tape taped size_ at_ begin_ token value open_ bad badPlace faultKind faultPlace xs ys pairs rows top heaps endsBehind path order firstOrder ordersMany tSort tMany numbers) (Qi (fun (v : Int32) (u : Nat × (Nat → Nat) × (Nat → Nat) × Nat × (Nat → Int64) × Nat × (Nat → Nat)) => ans (aSpeaker T s0 wh) u.1 v) (fun (u : Nat × (Nat → Nat) × (Nat → Nat) × Nat × (Nat → Int64) × Nat × (Nat → Nat)) => HM D cl tys mi cI cJ cZ ma known fresh_ saved images isImage u.1 tape taped size_ at_ begin_ token value open_ bad badPlace faultKind faultPlace u.2.1 u.2.2.1 u.2.2.2.1 u.2.2.2.2.1 u.2.2.2.2.2.1 u.2.2.2.2.2.2 endsBehind path order firstOrder ordersMany tSort tMany numbers) (AM ma)) (AM ma) := by
  obtain ⟨⟨o1, o2, o3, o4, o5, o6, o7, o8, o9, o10⟩, k0, k1, k2, k3, k4, k5, k6, k7, k8⟩ := id hK
  refine CT.of (L := [(0, .ref (ma 0)), (1, .int s0), (2, .int wh)]) rfl (by decide +kernel) rfl (Nat.le_of_ble_eq_true rfl) ?_
  rcases his : iR s0 (tNS T) with _ | i
  · skip
    refine g_aload_n 0 dX10_speaker_0 rfl rfl ?_
    refine g_aload_n 0 dX10_speaker_1 rfl rfl ?_
    refine g_iload_n 1 dX10_speaker_2 rfl rfl ?_
    refine m_cVi (ct_isSpeaker _ (tNS T) k5 (by omega)) hvX10_isSpeaker hyX10_isSpeaker rfl ⟨Nat.le_of_ble_eq_true rfl, Nat.le_of_ble_eq_true rfl⟩ ⟨Nat.zero_le _, Nat.zero_le _⟩ rfl (Nat.le_of_ble_eq_true rfl) dX10_speaker_3 m_rec (fun r u9 hp => ?_)
    obtain rfl := hp
    refine GG.topi (y := nI 0) (by rw [his]; rfl) ?_
    refine g_if_ne_n (tgt := 13) dX10_speaker_6 (by decide) (by decide) (fun h => absurd h (by decide)) (fun _ => ?_)
    refine g_iconst (v := nI 1) dX10_speaker_9 (by decide +kernel) ?_
    refine g_goto (tgt := 30) dX10_speaker_10 (by decide) ?_
    refine m_put_thrown dX10_speaker_30 ?_
    refine g_aload_n 0 dX10_speaker_33 rfl rfl ?_
    refine m_get_thrown dX10_speaker_34 ?_
    refine g_if_le_n (tgt := 42) dX10_speaker_37 (by decide) (by decide) (fun h => absurd h (by decide)) (fun _ => ?_)
    refine g_iconst (v := nI 0) dX10_speaker_40 (by decide +kernel) ?_
    exact g_iret (_, _, _, _, _, _, _) dX10_speaker_41 (Nat.le_refl _) (Nat.le_refl _) (by exact ansF (by first | (unfold aSpeaker; rw [his]; done) | (unfold aSpeaker; rw [his]; rfl) | (unfold aSpeaker; simp only [his]; done) | (unfold aSpeaker; simp only [his]; rfl) | (unfold aSpeaker; rw [his]; dsimp only)) (Nat.succ_ne_zero _)) (fun _ h => h)
  · skip
    obtain ⟨hi, ei⟩ := iR_some his
    subst ei
    rcases iR4 wh with e | e | e | e | ⟨e0, e1, e2, e3, e4⟩
    · skip
      subst e
      refine g_aload_n 0 dX10_speaker_0 rfl rfl ?_
      refine g_aload_n 0 dX10_speaker_1 rfl rfl ?_
      refine g_iload_n 1 dX10_speaker_2 rfl rfl ?_
      refine m_cVi (ct_isSpeaker _ (tNS T) k5 (by omega)) hvX10_isSpeaker hyX10_isSpeaker rfl ⟨Nat.le_of_ble_eq_true rfl, Nat.le_of_ble_eq_true rfl⟩ ⟨Nat.zero_le _, Nat.zero_le _⟩ rfl (Nat.le_of_ble_eq_true rfl) dX10_speaker_3 m_rec (fun r u9 hp => ?_)
      obtain rfl := hp
      refine GG.topi (y := nI 1) (by rw [his]; rfl) ?_
      refine g_if_ne_n (tgt := 13) dX10_speaker_6 (by decide) (by decide) (fun _ => ?_) (fun h => absurd h (by decide))
      refine g_iload_n 2 dX10_speaker_13 rfl rfl ?_
      refine g_i2l_n dX10_speaker_14 (by omega) ?_
      refine g_lconst (v := lN 0) dX10_speaker_15 (by decide +kernel) ?_
      refine g_ldc2 (v := lN 3) dX10_speaker_16 q2146 ?_
      refine m_cSi (ct_within _ _ _) hsX10_within hyX10_within rfl ⟨Nat.le_of_ble_eq_true rfl, Nat.le_of_ble_eq_true rfl⟩ ⟨Nat.zero_le _, Nat.zero_le _⟩ rfl (Nat.le_of_ble_eq_true rfl) dX10_speaker_19 (fun r u9 hp => ?_)
      obtain rfl := hp
      refine GG.topi (y := nI 1) (by decide +kernel) ?_
      refine g_if_eq_n (tgt := 29) dX10_speaker_22 (by decide) (by decide) (fun h => absurd h (by decide)) (fun _ => ?_)
      refine g_iconst (v := nI 0) dX10_speaker_25 (by decide +kernel) ?_
      refine g_goto (tgt := 30) dX10_speaker_26 (by decide) ?_
      refine m_put_thrown dX10_speaker_30 ?_
      refine g_aload_n 0 dX10_speaker_33 rfl rfl ?_
      refine m_get_thrown dX10_speaker_34 ?_
      refine g_if_le_n (tgt := 42) dX10_speaker_37 (by decide) (by decide) (fun _ => ?_) (fun h => absurd h (by decide))
      refine g_iload_n 2 dX10_speaker_42 rfl rfl ?_
      refine g_iconst (v := nI 3) dX10_speaker_43 (by decide +kernel) ?_
      refine g_icmp_ge_n (tgt := 56) dX10_speaker_44 (by decide) (by decide) (by decide) (fun h => absurd h (by decide)) (fun _ => ?_)
      refine g_aload_n 0 dX10_speaker_47 rfl rfl ?_
      refine g_iload_n 1 dX10_speaker_48 rfl rfl ?_
      refine g_iload_n 2 dX10_speaker_49 rfl rfl ?_
      refine m_cVi (ct_of _ _ (by omega)) hvX10_of hyX10_of rfl ⟨Nat.le_of_ble_eq_true rfl, Nat.le_of_ble_eq_true rfl⟩ ⟨Nat.zero_le _, Nat.zero_le _⟩ rfl (Nat.le_of_ble_eq_true rfl) dX10_speaker_50 m_rec (fun r u hp => ?_)
      obtain rfl := hp
      refine g_goto (tgt := 61) dX10_speaker_53 (by decide) ?_
      exact g_iret (_, _, _, _, _, _, _) dX10_speaker_61 (Nat.le_refl _) (Nat.le_refl _) (by exact ansT (by first | (unfold aSpeaker; rw [his]; done) | (unfold aSpeaker; rw [his]; rfl) | (unfold aSpeaker; simp only [his]; done) | (unfold aSpeaker; simp only [his]; rfl) | (unfold aSpeaker; rw [his]; dsimp only)) ((k7 i hi).1)) (fun _ h => h)
    · skip
      subst e
      refine g_aload_n 0 dX10_speaker_0 rfl rfl ?_
      refine g_aload_n 0 dX10_speaker_1 rfl rfl ?_
      refine g_iload_n 1 dX10_speaker_2 rfl rfl ?_
      refine m_cVi (ct_isSpeaker _ (tNS T) k5 (by omega)) hvX10_isSpeaker hyX10_isSpeaker rfl ⟨Nat.le_of_ble_eq_true rfl, Nat.le_of_ble_eq_true rfl⟩ ⟨Nat.zero_le _, Nat.zero_le _⟩ rfl (Nat.le_of_ble_eq_true rfl) dX10_speaker_3 m_rec (fun r u9 hp => ?_)
      obtain rfl := hp
      refine GG.topi (y := nI 1) (by rw [his]; rfl) ?_
      refine g_if_ne_n (tgt := 13) dX10_speaker_6 (by decide) (by decide) (fun _ => ?_) (fun h => absurd h (by decide))
      refine g_iload_n 2 dX10_speaker_13 rfl rfl ?_
      refine g_i2l_n dX10_speaker_14 (by omega) ?_
      refine g_lconst (v := lN 0) dX10_speaker_15 (by decide +kernel) ?_
      refine g_ldc2 (v := lN 3) dX10_speaker_16 q2146 ?_
      refine m_cSi (ct_within _ _ _) hsX10_within hyX10_within rfl ⟨Nat.le_of_ble_eq_true rfl, Nat.le_of_ble_eq_true rfl⟩ ⟨Nat.zero_le _, Nat.zero_le _⟩ rfl (Nat.le_of_ble_eq_true rfl) dX10_speaker_19 (fun r u9 hp => ?_)
      obtain rfl := hp
      refine GG.topi (y := nI 1) (by decide +kernel) ?_
      refine g_if_eq_n (tgt := 29) dX10_speaker_22 (by decide) (by decide) (fun h => absurd h (by decide)) (fun _ => ?_)
      refine g_iconst (v := nI 0) dX10_speaker_25 (by decide +kernel) ?_
      refine g_goto (tgt := 30) dX10_speaker_26 (by decide) ?_
      refine m_put_thrown dX10_speaker_30 ?_
      refine g_aload_n 0 dX10_speaker_33 rfl rfl ?_
      refine m_get_thrown dX10_speaker_34 ?_
      refine g_if_le_n (tgt := 42) dX10_speaker_37 (by decide) (by decide) (fun _ => ?_) (fun h => absurd h (by decide))
      refine g_iload_n 2 dX10_speaker_42 rfl rfl ?_
      refine g_iconst (v := nI 3) dX10_speaker_43 (by decide +kernel) ?_
      refine g_icmp_ge_n (tgt := 56) dX10_speaker_44 (by decide) (by decide) (by decide) (fun h => absurd h (by decide)) (fun _ => ?_)
      refine g_aload_n 0 dX10_speaker_47 rfl rfl ?_
      refine g_iload_n 1 dX10_speaker_48 rfl rfl ?_
      refine g_iload_n 2 dX10_speaker_49 rfl rfl ?_
      refine m_cVi (ct_of _ _ (by omega)) hvX10_of hyX10_of rfl ⟨Nat.le_of_ble_eq_true rfl, Nat.le_of_ble_eq_true rfl⟩ ⟨Nat.zero_le _, Nat.zero_le _⟩ rfl (Nat.le_of_ble_eq_true rfl) dX10_speaker_50 m_rec (fun r u hp => ?_)
      obtain rfl := hp
      refine g_goto (tgt := 61) dX10_speaker_53 (by decide) ?_
      exact g_iret (_, _, _, _, _, _, _) dX10_speaker_61 (Nat.le_refl _) (Nat.le_refl _) (by exact ansT (by first | (unfold aSpeaker; rw [his]; done) | (unfold aSpeaker; rw [his]; rfl) | (unfold aSpeaker; simp only [his]; done) | (unfold aSpeaker; simp only [his]; rfl) | (unfold aSpeaker; rw [his]; dsimp only)) ((k7 i hi).2.1)) (fun _ h => h)
    · skip
      subst e
      refine g_aload_n 0 dX10_speaker_0 rfl rfl ?_
      refine g_aload_n 0 dX10_speaker_1 rfl rfl ?_
      refine g_iload_n 1 dX10_speaker_2 rfl rfl ?_
      refine m_cVi (ct_isSpeaker _ (tNS T) k5 (by omega)) hvX10_isSpeaker hyX10_isSpeaker rfl ⟨Nat.le_of_ble_eq_true rfl, Nat.le_of_ble_eq_true rfl⟩ ⟨Nat.zero_le _, Nat.zero_le _⟩ rfl (Nat.le_of_ble_eq_true rfl) dX10_speaker_3 m_rec (fun r u9 hp => ?_)
      obtain rfl := hp
      refine GG.topi (y := nI 1) (by rw [his]; rfl) ?_
      refine g_if_ne_n (tgt := 13) dX10_speaker_6 (by decide) (by decide) (fun _ => ?_) (fun h => absurd h (by decide))
      refine g_iload_n 2 dX10_speaker_13 rfl rfl ?_
      refine g_i2l_n dX10_speaker_14 (by omega) ?_
      refine g_lconst (v := lN 0) dX10_speaker_15 (by decide +kernel) ?_
      refine g_ldc2 (v := lN 3) dX10_speaker_16 q2146 ?_
      refine m_cSi (ct_within _ _ _) hsX10_within hyX10_within rfl ⟨Nat.le_of_ble_eq_true rfl, Nat.le_of_ble_eq_true rfl⟩ ⟨Nat.zero_le _, Nat.zero_le _⟩ rfl (Nat.le_of_ble_eq_true rfl) dX10_speaker_19 (fun r u9 hp => ?_)
      obtain rfl := hp
      refine GG.topi (y := nI 1) (by decide +kernel) ?_
      refine g_if_eq_n (tgt := 29) dX10_speaker_22 (by decide) (by decide) (fun h => absurd h (by decide)) (fun _ => ?_)
      refine g_iconst (v := nI 0) dX10_speaker_25 (by decide +kernel) ?_
      refine g_goto (tgt := 30) dX10_speaker_26 (by decide) ?_
      refine m_put_thrown dX10_speaker_30 ?_
      refine g_aload_n 0 dX10_speaker_33 rfl rfl ?_
      refine m_get_thrown dX10_speaker_34 ?_
      refine g_if_le_n (tgt := 42) dX10_speaker_37 (by decide) (by decide) (fun _ => ?_) (fun h => absurd h (by decide))
      refine g_iload_n 2 dX10_speaker_42 rfl rfl ?_
      refine g_iconst (v := nI 3) dX10_speaker_43 (by decide +kernel) ?_
      refine g_icmp_ge_n (tgt := 56) dX10_speaker_44 (by decide) (by decide) (by decide) (fun h => absurd h (by decide)) (fun _ => ?_)
      refine g_aload_n 0 dX10_speaker_47 rfl rfl ?_
      refine g_iload_n 1 dX10_speaker_48 rfl rfl ?_
      refine g_iload_n 2 dX10_speaker_49 rfl rfl ?_
      refine m_cVi (ct_of _ _ (by omega)) hvX10_of hyX10_of rfl ⟨Nat.le_of_ble_eq_true rfl, Nat.le_of_ble_eq_true rfl⟩ ⟨Nat.zero_le _, Nat.zero_le _⟩ rfl (Nat.le_of_ble_eq_true rfl) dX10_speaker_50 m_rec (fun r u hp => ?_)
      obtain rfl := hp
      refine g_goto (tgt := 61) dX10_speaker_53 (by decide) ?_
      exact g_iret (_, _, _, _, _, _, _) dX10_speaker_61 (Nat.le_refl _) (Nat.le_refl _) (by exact ansT (by first | (unfold aSpeaker; rw [his]; done) | (unfold aSpeaker; rw [his]; rfl) | (unfold aSpeaker; simp only [his]; done) | (unfold aSpeaker; simp only [his]; rfl) | (unfold aSpeaker; rw [his]; dsimp only)) ((k7 i hi).2.2)) (fun _ h => h)
    · skip
      subst e
      refine g_aload_n 0 dX10_speaker_0 rfl rfl ?_
      refine g_aload_n 0 dX10_speaker_1 rfl rfl ?_
      refine g_iload_n 1 dX10_speaker_2 rfl rfl ?_
      refine m_cVi (ct_isSpeaker _ (tNS T) k5 (by omega)) hvX10_isSpeaker hyX10_isSpeaker rfl ⟨Nat.le_of_ble_eq_true rfl, Nat.le_of_ble_eq_true rfl⟩ ⟨Nat.zero_le _, Nat.zero_le _⟩ rfl (Nat.le_of_ble_eq_true rfl) dX10_speaker_3 m_rec (fun r u9 hp => ?_)
      obtain rfl := hp
      refine GG.topi (y := nI 1) (by rw [his]; rfl) ?_
      refine g_if_ne_n (tgt := 13) dX10_speaker_6 (by decide) (by decide) (fun _ => ?_) (fun h => absurd h (by decide))
      refine g_iload_n 2 dX10_speaker_13 rfl rfl ?_
      refine g_i2l_n dX10_speaker_14 (by omega) ?_
      refine g_lconst (v := lN 0) dX10_speaker_15 (by decide +kernel) ?_
      refine g_ldc2 (v := lN 3) dX10_speaker_16 q2146 ?_
      refine m_cSi (ct_within _ _ _) hsX10_within hyX10_within rfl ⟨Nat.le_of_ble_eq_true rfl, Nat.le_of_ble_eq_true rfl⟩ ⟨Nat.zero_le _, Nat.zero_le _⟩ rfl (Nat.le_of_ble_eq_true rfl) dX10_speaker_19 (fun r u9 hp => ?_)
      obtain rfl := hp
      refine GG.topi (y := nI 1) (by decide +kernel) ?_
      refine g_if_eq_n (tgt := 29) dX10_speaker_22 (by decide) (by decide) (fun h => absurd h (by decide)) (fun _ => ?_)
      refine g_iconst (v := nI 0) dX10_speaker_25 (by decide +kernel) ?_
      refine g_goto (tgt := 30) dX10_speaker_26 (by decide) ?_
      refine m_put_thrown dX10_speaker_30 ?_
      refine g_aload_n 0 dX10_speaker_33 rfl rfl ?_
      refine m_get_thrown dX10_speaker_34 ?_
      refine g_if_le_n (tgt := 42) dX10_speaker_37 (by decide) (by decide) (fun _ => ?_) (fun h => absurd h (by decide))
      refine g_iload_n 2 dX10_speaker_42 rfl rfl ?_
      refine g_iconst (v := nI 3) dX10_speaker_43 (by decide +kernel) ?_
      refine g_icmp_ge_n (tgt := 56) dX10_speaker_44 (by decide) (by decide) (by decide) (fun _ => ?_) (fun h => absurd h (by decide))
      refine g_aload_n 0 dX10_speaker_56 rfl rfl ?_
      refine g_iload_n 1 dX10_speaker_57 rfl rfl ?_
      refine m_cVi (ct_turnsOf T _ hK (by omega)) hvX10_turnsOf hyX10_turnsOf rfl ⟨Nat.le_of_ble_eq_true rfl, Nat.le_of_ble_eq_true rfl⟩ ⟨Nat.zero_le _, Nat.zero_le _⟩ rfl (Nat.le_of_ble_eq_true rfl) dX10_speaker_58 m_rec (fun r u9 hp => ?_)
      obtain rfl := hp
      exact g_iret (_, _, _, _, _, _, _) dX10_speaker_61 (Nat.le_refl _) (Nat.le_refl _) (by exact ansT (by first | (unfold aSpeaker; rw [his]; done) | (unfold aSpeaker; rw [his]; rfl) | (unfold aSpeaker; simp only [his]; done) | (unfold aSpeaker; simp only [his]; rfl) | (unfold aSpeaker; rw [his]; dsimp only)) (rfl)) (fun _ h => h)
    · skip
      refine g_aload_n 0 dX10_speaker_0 rfl rfl ?_
      refine g_aload_n 0 dX10_speaker_1 rfl rfl ?_
      refine g_iload_n 1 dX10_speaker_2 rfl rfl ?_
      refine m_cVi (ct_isSpeaker _ (tNS T) k5 (by omega)) hvX10_isSpeaker hyX10_isSpeaker rfl ⟨Nat.le_of_ble_eq_true rfl, Nat.le_of_ble_eq_true rfl⟩ ⟨Nat.zero_le _, Nat.zero_le _⟩ rfl (Nat.le_of_ble_eq_true rfl) dX10_speaker_3 m_rec (fun r u9 hp => ?_)
      obtain rfl := hp
      refine GG.topi (y := nI 1) (by rw [his]; rfl) ?_
      refine g_if_ne_n (tgt := 13) dX10_speaker_6 (by decide) (by decide) (fun _ => ?_) (fun h => absurd h (by decide))
      refine g_iload_n 2 dX10_speaker_13 rfl rfl ?_
      refine g_i2l dX10_speaker_14 rfl ?_
      refine g_lconst (v := lN 0) dX10_speaker_15 (by decide +kernel) ?_
      refine g_ldc2 (v := lN 3) dX10_speaker_16 q2146 ?_
      refine m_cSi (ct_within _ _ _) hsX10_within hyX10_within rfl ⟨Nat.le_of_ble_eq_true rfl, Nat.le_of_ble_eq_true rfl⟩ ⟨Nat.zero_le _, Nat.zero_le _⟩ rfl (Nat.le_of_ble_eq_true rfl) dX10_speaker_19 (fun r u9 hp => ?_)
      obtain rfl := hp
      refine GG.topi (y := nI 0) (by rw [wIn_0 wh (by decide) e4]; rfl) ?_
      refine g_if_eq_n (tgt := 29) dX10_speaker_22 (by decide) (by decide) (fun _ => ?_) (fun h => absurd h (by decide))
      refine g_iconst (v := nI 2) dX10_speaker_29 (by decide +kernel) ?_
      refine m_put_thrown dX10_speaker_30 ?_
      refine g_aload_n 0 dX10_speaker_33 rfl rfl ?_
      refine m_get_thrown dX10_speaker_34 ?_
      refine g_if_le_n (tgt := 42) dX10_speaker_37 (by decide) (by decide) (fun h => absurd h (by decide)) (fun _ => ?_)
      refine g_iconst (v := nI 0) dX10_speaker_40 (by decide +kernel) ?_
      exact g_iret (_, _, _, _, _, _, _) dX10_speaker_41 (Nat.le_refl _) (Nat.le_refl _) (by exact ansF (by unfold aSpeaker; rw [his]; dsimp only; rw [if_neg e0, if_neg e1, if_neg e2, if_neg e3]) (Nat.succ_ne_zero _)) (fun _ h => h)
set_option maxHeartbeats 4000000 in
/-- who says a turn -/
theorem ct_turn (T : Talk) (t0 : Int32) (hK : KIs known T) : CT l D cl tys yX10_turn cX10_turn 2 (some .int) ({ frames := 2, cells := 0, slots := 0, locals := 46 } : Room) [.ref (ma 0), .int t0] (HM D cl tys mi cI cJ cZ ma known fresh_ saved images isImage thrown tape taped size_ at_ begin_ token value open_ bad badPlace faultKind faultPlace xs ys pairs rows top heaps endsBehind path order firstOrder ordersMany tSort tMany numbers) (Qi (fun (v : Int32) (u : Nat × (Nat → Nat) × (Nat → Nat) × Nat × (Nat → Int64) × Nat × (Nat → Nat)) => ans (aTurn T t0) u.1 v) (fun (u : Nat × (Nat → Nat) × (Nat → Nat) × Nat × (Nat → Int64) × Nat × (Nat → Nat)) => HM D cl tys mi cI cJ cZ ma known fresh_ saved images isImage u.1 tape taped size_ at_ begin_ token value open_ bad badPlace faultKind faultPlace u.2.1 u.2.2.1 u.2.2.2.1 u.2.2.2.2.1 u.2.2.2.2.2.1 u.2.2.2.2.2.2 endsBehind path order firstOrder ordersMany tSort tMany numbers) (AM ma)) (AM ma) := by
  obtain ⟨⟨o1, o2, o3, o4, o5, o6, o7, o8, o9, o10⟩, k0, k1, k2, k3, k4, k5, k6, k7, k8⟩ := id hK
  refine CT.of (L := [(0, .ref (ma 0)), (1, .int t0)]) rfl (by decide +kernel) rfl (Nat.le_of_ble_eq_true rfl) ?_
  rcases hit : iR t0 (tNT T) with _ | j
  · skip
    refine g_aload_n 0 dX10_turn_0 rfl rfl ?_
    refine g_iconst (v := nI 0) dX10_turn_1 (by decide +kernel) ?_
    refine m_put_thrown dX10_turn_2 ?_
    refine g_aload_n 0 dX10_turn_5 rfl rfl ?_
    refine g_iload_n 1 dX10_turn_6 rfl rfl ?_
    refine m_cVi (ct_isTurn _ (tNT T) k6 (by omega)) hvX10_isTurn hyX10_isTurn rfl ⟨Nat.le_of_ble_eq_true rfl, Nat.le_of_ble_eq_true rfl⟩ ⟨Nat.zero_le _, Nat.zero_le _⟩ rfl (Nat.le_of_ble_eq_true rfl) dX10_turn_7 m_rec (fun r u9 hp => ?_)
    obtain rfl := hp
    refine GG.topi (y := nI 0) (by rw [hit]; rfl) ?_
    refine g_if_eq_n (tgt := 21) dX10_turn_10 (by decide) (by decide) (fun _ => ?_) (fun h => absurd h (by decide))
    refine g_aload_n 0 dX10_turn_21 rfl rfl ?_
    refine g_iconst (v := nI 1) dX10_turn_22 (by decide +kernel) ?_
    refine m_cVi (ct_fails _) hvX10_fails hyX10_fails rfl ⟨Nat.le_of_ble_eq_true rfl, Nat.le_of_ble_eq_true rfl⟩ ⟨Nat.zero_le _, Nat.zero_le _⟩ rfl (Nat.le_of_ble_eq_true rfl) dX10_turn_23 m_rec (fun r u hp => ?_)
    obtain rfl := hp
    exact g_iret (_, _, _, _, _, _, _) dX10_turn_26 (Nat.le_refl _) (Nat.le_refl _) (by exact ansF (by first | (unfold aTurn; rw [hit]; done) | (unfold aTurn; rw [hit]; rfl) | (unfold aTurn; simp only [hit]; done) | (unfold aTurn; simp only [hit]; rfl) | (unfold aTurn; rw [hit]; dsimp only)) (Nat.succ_ne_zero _)) (fun _ h => h)
  · skip
    obtain ⟨hj, ej⟩ := iR_some hit
    subst ej
    refine g_aload_n 0 dX10_turn_0 rfl rfl ?_
    refine g_iconst (v := nI 0) dX10_turn_1 (by decide +kernel) ?_
    refine m_put_thrown dX10_turn_2 ?_
    refine g_aload_n 0 dX10_turn_5 rfl rfl ?_
    refine g_iload_n 1 dX10_turn_6 rfl rfl ?_
    refine m_cVi (ct_isTurn _ (tNT T) k6 (by omega)) hvX10_isTurn hyX10_isTurn rfl ⟨Nat.le_of_ble_eq_true rfl, Nat.le_of_ble_eq_true rfl⟩ ⟨Nat.zero_le _, Nat.zero_le _⟩ rfl (Nat.le_of_ble_eq_true rfl) dX10_turn_7 m_rec (fun r u9 hp => ?_)
    obtain rfl := hp
    refine GG.topi (y := nI 1) (by rw [hit]; rfl) ?_
    refine g_if_eq_n (tgt := 21) dX10_turn_10 (by decide) (by decide) (fun h => absurd h (by decide)) (fun _ => ?_)
    refine g_aload_n 0 dX10_turn_13 rfl rfl ?_
    refine g_iload_n 1 dX10_turn_14 rfl rfl ?_
    refine m_cVi (ct_who _ (by omega)) hvX10_who hyX10_who rfl ⟨Nat.le_of_ble_eq_true rfl, Nat.le_of_ble_eq_true rfl⟩ ⟨Nat.zero_le _, Nat.zero_le _⟩ rfl (Nat.le_of_ble_eq_true rfl) dX10_turn_15 m_rec (fun r u hp => ?_)
    obtain rfl := hp
    refine g_goto (tgt := 26) dX10_turn_18 (by decide) ?_
    exact g_iret (_, _, _, _, _, _, _) dX10_turn_26 (Nat.le_refl _) (Nat.le_refl _) (by exact ansT (by first | (unfold aTurn; rw [hit]; done) | (unfold aTurn; rw [hit]; rfl) | (unfold aTurn; simp only [hit]; done) | (unfold aTurn; simp only [hit]; rfl) | (unfold aTurn; rw [hit]; dsimp only)) ((k8 j hj).1)) (fun _ h => h)
set_option maxHeartbeats 4000000 in
/-- how many are left behind a turn -/
theorem ct_left (T : Talk) (t0 : Int32) (hK : KIs known T) : CT l D cl tys yX10_left cX10_left 2 (some .int) ({ frames := 87, cells := 0, slots := 0, locals := 2570 } : Room) [.ref (ma 0), .int t0] (HM D cl tys mi cI cJ cZ ma known fresh_ saved images isImage thrown tape taped size_ at_ begin_ token value open_ bad badPlace faultKind faultPlace xs ys pairs rows top heaps endsBehind path order firstOrder ordersMany tSort tMany numbers) (Qi (fun (v : Int32) (u : Nat × (Nat → Nat) × (Nat → Nat) × Nat × (Nat → Int64) × Nat × (Nat → Nat)) => ans (aLeft T t0) u.1 v) (fun (u : Nat × (Nat → Nat) × (Nat → Nat) × Nat × (Nat → Int64) × Nat × (Nat → Nat)) => HM D cl tys mi cI cJ cZ ma known fresh_ saved images isImage u.1 tape taped size_ at_ begin_ token value open_ bad badPlace faultKind faultPlace u.2.1 u.2.2.1 u.2.2.2.1 u.2.2.2.2.1 u.2.2.2.2.2.1 u.2.2.2.2.2.2 endsBehind path order firstOrder ordersMany tSort tMany numbers) (AM ma)) (AM ma) := by
  obtain ⟨⟨o1, o2, o3, o4, o5, o6, o7, o8, o9, o10⟩, k0, k1, k2, k3, k4, k5, k6, k7, k8⟩ := id hK
  refine CT.of (L := [(0, .ref (ma 0)), (1, .int t0)]) rfl (by decide +kernel) rfl (Nat.le_of_ble_eq_true rfl) ?_
  rcases hit : iR t0 (tNT T + 1) with _ | j
  · skip
    refine g_aload_n 0 dX10_left_0 rfl rfl ?_
    refine g_iconst (v := nI 0) dX10_left_1 (by decide +kernel) ?_
    refine m_put_thrown dX10_left_2 ?_
    refine g_aload_n 0 dX10_left_5 rfl rfl ?_
    refine g_iload_n 1 dX10_left_6 rfl rfl ?_
    refine m_cVi (ct_isBehind _ (tNT T) k6 (by omega)) hvX10_isBehind hyX10_isBehind rfl ⟨Nat.le_of_ble_eq_true rfl, Nat.le_of_ble_eq_true rfl⟩ ⟨Nat.zero_le _, Nat.zero_le _⟩ rfl (Nat.le_of_ble_eq_true rfl) dX10_left_7 m_rec (fun r u9 hp => ?_)
    obtain rfl := hp
    refine GG.topi (y := nI 0) (by rw [hit]; rfl) ?_
    refine g_if_ne_n (tgt := 19) dX10_left_10 (by decide) (by decide) (fun h => absurd h (by decide)) (fun _ => ?_)
    refine g_aload_n 0 dX10_left_13 rfl rfl ?_
    refine g_iconst (v := nI 1) dX10_left_14 (by decide +kernel) ?_
    refine m_cVi (ct_fails _) hvX10_fails hyX10_fails rfl ⟨Nat.le_of_ble_eq_true rfl, Nat.le_of_ble_eq_true rfl⟩ ⟨Nat.zero_le _, Nat.zero_le _⟩ rfl (Nat.le_of_ble_eq_true rfl) dX10_left_15 m_rec (fun r u hp => ?_)
    obtain rfl := hp
    exact g_iret (_, _, _, _, _, _, _) dX10_left_18 (Nat.le_refl _) (Nat.le_refl _) (by exact ansF (by first | (unfold aLeft; rw [hit]; done) | (unfold aLeft; rw [hit]; rfl) | (unfold aLeft; simp only [hit]; done) | (unfold aLeft; simp only [hit]; rfl) | (unfold aLeft; rw [hit]; dsimp only)) (Nat.succ_ne_zero _)) (fun _ h => h)
  · skip
    obtain ⟨hj, ej⟩ := iR_some hit
    subst ej
    refine g_aload_n 0 dX10_left_0 rfl rfl ?_
    refine g_iconst (v := nI 0) dX10_left_1 (by decide +kernel) ?_
    refine m_put_thrown dX10_left_2 ?_
    refine g_aload_n 0 dX10_left_5 rfl rfl ?_
    refine g_iload_n 1 dX10_left_6 rfl rfl ?_
    refine m_cVi (ct_isBehind _ (tNT T) k6 (by omega)) hvX10_isBehind hyX10_isBehind rfl ⟨Nat.le_of_ble_eq_true rfl, Nat.le_of_ble_eq_true rfl⟩ ⟨Nat.zero_le _, Nat.zero_le _⟩ rfl (Nat.le_of_ble_eq_true rfl) dX10_left_7 m_rec (fun r u9 hp => ?_)
    obtain rfl := hp
    refine GG.topi (y := nI 1) (by rw [hit]; rfl) ?_
    refine g_if_ne_n (tgt := 19) dX10_left_10 (by decide) (by decide) (fun _ => ?_) (fun h => absurd h (by decide))
    refine g_aload_n 0 dX10_left_19 rfl rfl ?_
    refine m_cVv (ct_lays T hK) hvX10_lays hyX10_lays rfl ⟨Nat.le_of_ble_eq_true rfl, Nat.le_of_ble_eq_true rfl⟩ ⟨Nat.zero_le _, Nat.zero_le _⟩ rfl (Nat.le_of_ble_eq_true rfl) dX10_left_20 m_rec (fun ul hul => ?_)
    obtain ⟨heapsL, rowsZ, xsL, ysL, pairsL⟩ := ul
    dsimp only
    obtain ⟨hl, hr⟩ := hul
    have hl : layd xsL ysL pairsL (tW T) := hl
    have hr : rowsL rowsZ T (tNT T) := hr
    have hW := layd_OK hl o1 o3
    have hP : pairsL ≤ 1830 := hW.1
    have hPT : pairsL = tP T := hl.1
    refine g_aload_n 0 dX10_left_23 rfl rfl ?_
    refine g_iload_n 1 dX10_left_24 rfl rfl ?_
    refine m_cVi (ct_manyOf _ (by omega) (by omega)) hvX10_manyOf hyX10_manyOf rfl ⟨Nat.le_of_ble_eq_true rfl, Nat.le_of_ble_eq_true rfl⟩ ⟨Nat.zero_le _, Nat.zero_le _⟩ rfl (Nat.le_of_ble_eq_true rfl) dX10_left_25 m_rec (fun r u hp => ?_)
    obtain rfl := hp
    exact g_iret (_, _, _, _, _, _, _) dX10_left_28 (Nat.le_refl _) (Nat.le_refl _) (by exact ansT (by first | (unfold aLeft; rw [hit]; done) | (unfold aLeft; rw [hit]; rfl) | (unfold aLeft; simp only [hit]; done) | (unfold aLeft; simp only [hit]; rfl) | (unfold aLeft; rw [hit]; dsimp only)) (by unfold leftN; rw [← hPT]; exact congrArg nI (cnt_congr (fun w hw => hr _ w (by omega) (by have h9 : w < pairsL := hw; omega))))) (fun _ h => h)
set_option maxHeartbeats 4000000 in
/-- the k-th that is left -/
theorem ct_leftAt (T : Talk) (t0 k0a : Int32) (hK : KIs known T) : CT l D cl tys yX10_leftAt cX10_leftAt 5 (some .int) ({ frames := 87, cells := 0, slots := 0, locals := 2570 } : Room) [.ref (ma 0), .int t0, .int k0a] (HM D cl tys mi cI cJ cZ ma known fresh_ saved images isImage thrown tape taped size_ at_ begin_ token value open_ bad badPlace faultKind faultPlace xs ys pairs rows top heaps endsBehind path order firstOrder ordersMany tSort tMany numbers) (Qi (fun (v : Int32) (u : Nat × (Nat → Nat) × (Nat → Nat) × Nat × (Nat → Int64) × Nat × (Nat → Nat)) => aLeftAt T t0 k0a u.1 v) (fun (u : Nat × (Nat → Nat) × (Nat → Nat) × Nat × (Nat → Int64) × Nat × (Nat → Nat)) => HM D cl tys mi cI cJ cZ ma known fresh_ saved images isImage u.1 tape taped size_ at_ begin_ token value open_ bad badPlace faultKind faultPlace u.2.1 u.2.2.1 u.2.2.2.1 u.2.2.2.2.1 u.2.2.2.2.2.1 u.2.2.2.2.2.2 endsBehind path order firstOrder ordersMany tSort tMany numbers) (AM ma)) (AM ma) := by
  obtain ⟨⟨o1, o2, o3, o4, o5, o6, o7, o8, o9, o10⟩, k0, k1, k2, k3, k4, k5, k6, k7, k8⟩ := id hK
  refine CT.of (L := [(0, .ref (ma 0)), (1, .int t0), (2, .int k0a)]) rfl (by decide +kernel) rfl (Nat.le_of_ble_eq_true rfl) ?_
  rcases hit : iR t0 (tNT T + 1) with _ | j
  · skip
    refine g_aload_n 0 dX10_leftAt_0 rfl rfl ?_
    refine g_iconst (v := nI 0) dX10_leftAt_1 (by decide +kernel) ?_
    refine m_put_thrown dX10_leftAt_2 ?_
    refine g_aload_n 0 dX10_leftAt_5 rfl rfl ?_
    refine g_iload_n 1 dX10_leftAt_6 rfl rfl ?_
    refine m_cVi (ct_isBehind _ (tNT T) k6 (by omega)) hvX10_isBehind hyX10_isBehind rfl ⟨Nat.le_of_ble_eq_true rfl, Nat.le_of_ble_eq_true rfl⟩ ⟨Nat.zero_le _, Nat.zero_le _⟩ rfl (Nat.le_of_ble_eq_true rfl) dX10_leftAt_7 m_rec (fun r u9 hp => ?_)
    obtain rfl := hp
    refine GG.topi (y := nI 0) (by rw [hit]; rfl) ?_
    refine g_if_ne_n (tgt := 19) dX10_leftAt_10 (by decide) (by decide) (fun h => absurd h (by decide)) (fun _ => ?_)
    refine g_aload_n 0 dX10_leftAt_13 rfl rfl ?_
    refine g_iconst (v := nI 1) dX10_leftAt_14 (by decide +kernel) ?_
    refine m_cVi (ct_fails _) hvX10_fails hyX10_fails rfl ⟨Nat.le_of_ble_eq_true rfl, Nat.le_of_ble_eq_true rfl⟩ ⟨Nat.zero_le _, Nat.zero_le _⟩ rfl (Nat.le_of_ble_eq_true rfl) dX10_leftAt_15 m_rec (fun r u hp => ?_)
    obtain rfl := hp
    exact g_iret (_, _, _, _, _, _, _) dX10_leftAt_18 (Nat.le_refl _) (Nat.le_refl _) (by unfold aLeftAt; rw [hit]) (fun _ h => h)
  · skip
    obtain ⟨hj, ej⟩ := iR_some hit
    subst ej
    refine g_aload_n 0 dX10_leftAt_0 rfl rfl ?_
    refine g_iconst (v := nI 0) dX10_leftAt_1 (by decide +kernel) ?_
    refine m_put_thrown dX10_leftAt_2 ?_
    refine g_aload_n 0 dX10_leftAt_5 rfl rfl ?_
    refine g_iload_n 1 dX10_leftAt_6 rfl rfl ?_
    refine m_cVi (ct_isBehind _ (tNT T) k6 (by omega)) hvX10_isBehind hyX10_isBehind rfl ⟨Nat.le_of_ble_eq_true rfl, Nat.le_of_ble_eq_true rfl⟩ ⟨Nat.zero_le _, Nat.zero_le _⟩ rfl (Nat.le_of_ble_eq_true rfl) dX10_leftAt_7 m_rec (fun r u9 hp => ?_)
    obtain rfl := hp
    refine GG.topi (y := nI 1) (by rw [hit]; rfl) ?_
    refine g_if_ne_n (tgt := 19) dX10_leftAt_10 (by decide) (by decide) (fun _ => ?_) (fun h => absurd h (by decide))
    refine g_aload_n 0 dX10_leftAt_19 rfl rfl ?_
    refine m_cVv (ct_lays T hK) hvX10_lays hyX10_lays rfl ⟨Nat.le_of_ble_eq_true rfl, Nat.le_of_ble_eq_true rfl⟩ ⟨Nat.zero_le _, Nat.zero_le _⟩ rfl (Nat.le_of_ble_eq_true rfl) dX10_leftAt_20 m_rec (fun ul hul => ?_)
    obtain ⟨heapsL, rowsZ, xsL, ysL, pairsL⟩ := ul
    dsimp only
    obtain ⟨hl, hr⟩ := hul
    have hl : layd xsL ysL pairsL (tW T) := hl
    have hr : rowsL rowsZ T (tNT T) := hr
    have hW := layd_OK hl o1 o3
    have hP : pairsL ≤ 1830 := hW.1
    have hPT : pairsL = tP T := hl.1
    refine g_iload_n 2 dX10_leftAt_23 rfl rfl ?_
    refine g_istore_n (L' := [(0, _), (1, _), (2, _), (3, _)]) 3 dX10_leftAt_24 rfl (by decide) rfl rfl ?_
    refine g_iconst (v := nI 0) dX10_leftAt_25 (by decide +kernel) ?_
    refine g_istore (L' := [(0, _), (1, _), (2, _), (3, _), (4, _)]) dX10_leftAt_26 (by decide) rfl rfl ?_
    have loop28 : ∀ (q28 : Nat) (w : Nat) (lf : Int32), pairsL - w < q28 → (w ≤ pairsL) → (lf = k0a - nI (cnt (leftT T j) w)) → (∀ v, v < w → (fun w => leftT T j w && decide (k0a = nI (cnt (leftT T j) w))) v = false) → GG l D cl tys cX10_leftAt 5 (some .int) RX10 ({ frames := 87, cells := 0, slots := 0, locals := 2570 } : Room) (AM ma) MT (QM (Qi (fun (v : Int32) (u : Nat × (Nat → Nat) × (Nat → Nat) × Nat × (Nat → Int64) × Nat × (Nat → Nat)) => aLeftAt T (nI j) k0a u.1 v) (fun (u : Nat × (Nat → Nat) × (Nat → Nat) × Nat × (Nat → Int64) × Nat × (Nat → Nat)) => HM D cl tys mi cI cJ cZ ma known fresh_ saved images isImage u.1 tape taped size_ at_ begin_ token value open_ bad badPlace faultKind faultPlace u.2.1 u.2.2.1 u.2.2.2.1 u.2.2.2.2.1 u.2.2.2.2.2.1 u.2.2.2.2.2.2 endsBehind path order firstOrder ordersMany tSort tMany numbers) (AM ma)) 0 0 (AM ma)) (HM D cl tys mi cI cJ cZ ma known fresh_ saved images isImage 0 tape taped size_ at_ begin_ token value open_ bad badPlace faultKind faultPlace xsL ysL pairsL rowsZ 21 heapsL endsBehind path order firstOrder ordersMany tSort tMany numbers) 0 0 28 [(0, .ref (ma 0)), (1, .int (nI j)), (2, .int k0a), (3, .int lf), (4, .int (nI w))] [] := by
      intro q28
      induction q28 with
      | zero => intro w lf hq28; exact absurd hq28 (Nat.not_lt_zero _)
      | succ q28 ih28 =>
        intro w lf hq28 hw hk hi
        refine g_iload dX10_leftAt_28 rfl ?_
        refine g_aload_n 0 dX10_leftAt_30 rfl rfl ?_
        refine m_get_pairs dX10_leftAt_31 ?_
        refine g_icmp_ge_n (tgt := 66) dX10_leftAt_34 (by decide) (by omega) (by omega) (fun c34 => ?_) (fun c34 => ?_)
        · skip
          refine g_iconst (v := -1) dX10_leftAt_66 (by decide +kernel) ?_
          exact g_iret (_, _, _, _, _, _, _) dX10_leftAt_67 (Nat.le_refl _) (Nat.le_refl _) (by unfold aLeftAt; rw [hit]; refine ⟨rfl, Or.inr ⟨fun v hv => hi v (by omega), rfl⟩⟩) (fun _ h => h)
        · skip
          refine g_aload_n 0 dX10_leftAt_37 rfl rfl ?_
          refine g_iload_n 1 dX10_leftAt_38 rfl rfl ?_
          refine g_iload dX10_leftAt_39 rfl ?_
          refine m_cVi (ct_has _ _ (by omega) (by omega)) hvX10_has hyX10_has rfl ⟨Nat.le_of_ble_eq_true rfl, Nat.le_of_ble_eq_true rfl⟩ ⟨Nat.zero_le _, Nat.zero_le _⟩ rfl (Nat.le_of_ble_eq_true rfl) dX10_leftAt_41 m_rec (fun r u9 hp => ?_)
          obtain rfl := hp
          have hb9 := hr j w (by omega) (by omega)
          refine g_if_ne_b (tgt := 50) dX10_leftAt_44 (by decide) (fun c44 => ?_) (fun c44 => ?_)
          · skip
            refine g_iload_n 3 dX10_leftAt_50 rfl rfl ?_
            refine g_if_ne (tgt := 57) dX10_leftAt_51 (by decide) (fun c51 => ?_) (fun c51 => ?_)
            · skip
              refine g_iinc (L' := [(0, _), (1, _), (2, _), (3, _), (4, _)]) dX10_leftAt_57 rfl rfl (by decide) rfl rfl ?_
              refine g_iinc_n (b := 1) (L' := [(0, _), (1, _), (2, _), (3, _), (4, _)]) dX10_leftAt_60 rfl rfl (by decide) rfl rfl ?_
              refine g_goto (tgt := 28) dX10_leftAt_63 (by decide) ?_
              have e9 : cnt (leftT T j) (w + 1) = cnt (leftT T j) w + (if leftT T j w = true then 1 else 0) := rfl
              refine ih28 (w + 1) _ (by omega) (by omega) ?_ (fun v hv => ?_)
              · rw [e9, ← hb9, c44, hk]
                first | (rw [if_neg (by decide)]; rfl) | (rw [if_pos rfl]; exact sub_i1 _ _)
              · rcases Nat.lt_succ_iff_lt_or_eq.mp hv with h9 | h9
                · exact hi v h9
                · rw [h9]
                  show (leftT T j w && _) = false
                  rw [← hb9, c44]
                  first | rfl | (rw [decide_eq_false (fun q => c51 (by rw [hk, ← q, Int32.sub_self]))]; rfl)
            · skip
              refine g_iload dX10_leftAt_54 rfl ?_
              exact g_iret (_, _, _, _, _, _, _) dX10_leftAt_56 (Nat.le_refl _) (Nat.le_refl _) (by unfold aLeftAt; rw [hit]; refine ⟨rfl, Or.inl ⟨w, by omega, ?_, hi, rfl⟩⟩; show (leftT T j w && _) = true; rw [← hb9, c44, decide_eq_true (by rw [hk] at c51; exact sub_i0 c51)]; rfl) (fun _ h => h)
          · skip
            refine g_goto (tgt := 60) dX10_leftAt_47 (by decide) ?_
            refine g_iinc_n (b := 1) (L' := [(0, _), (1, _), (2, _), (3, _), (4, _)]) dX10_leftAt_60 rfl rfl (by decide) rfl rfl ?_
            refine g_goto (tgt := 28) dX10_leftAt_63 (by decide) ?_
            have e9 : cnt (leftT T j) (w + 1) = cnt (leftT T j) w + (if leftT T j w = true then 1 else 0) := rfl
            refine ih28 (w + 1) _ (by omega) (by omega) ?_ (fun v hv => ?_)
            · rw [e9, ← hb9, c44, hk]
              first | (rw [if_neg (by decide)]; rfl) | (rw [if_pos rfl]; exact sub_i1 _ _)
            · rcases Nat.lt_succ_iff_lt_or_eq.mp hv with h9 | h9
              · exact hi v h9
              · rw [h9]
                show (leftT T j w && _) = false
                rw [← hb9, c44]
                first | rfl | (rw [decide_eq_false (fun q => c51 (by rw [hk, ← q, Int32.sub_self]))]; rfl)
    exact loop28 (pairsL + 1) 0 k0a (by omega) (by omega) (by show _ = _ - nI 0; rw [show nI 0 = (0 : Int32) from rfl, Int32.sub_zero]) (fun v hv => absurd hv (Nat.not_lt_zero _))
set_option maxHeartbeats 4000000 in
/-- is a world left -/
theorem ct_isLeft (T : Talk) (t0 w0 : Int32) (hK : KIs known T) : CT l D cl tys yX10_isLeft cX10_isLeft 3 (some .boolean) ({ frames := 87, cells := 0, slots := 0, locals := 2570 } : Room) [.ref (ma 0), .int t0, .int w0] (HM D cl tys mi cI cJ cZ ma known fresh_ saved images isImage thrown tape taped size_ at_ begin_ token value open_ bad badPlace faultKind faultPlace xs ys pairs rows top heaps endsBehind path order firstOrder ordersMany tSort tMany numbers) (Qi (fun (v : Int32) (u : Nat × (Nat → Nat) × (Nat → Nat) × Nat × (Nat → Int64) × Nat × (Nat → Nat)) => ans (aIsLeft T t0 w0) u.1 v) (fun (u : Nat × (Nat → Nat) × (Nat → Nat) × Nat × (Nat → Int64) × Nat × (Nat → Nat)) => HM D cl tys mi cI cJ cZ ma known fresh_ saved images isImage u.1 tape taped size_ at_ begin_ token value open_ bad badPlace faultKind faultPlace u.2.1 u.2.2.1 u.2.2.2.1 u.2.2.2.2.1 u.2.2.2.2.2.1 u.2.2.2.2.2.2 endsBehind path order firstOrder ordersMany tSort tMany numbers) (AM ma)) (AM ma) := by
  obtain ⟨⟨o1, o2, o3, o4, o5, o6, o7, o8, o9, o10⟩, k0, k1, k2, k3, k4, k5, k6, k7, k8⟩ := id hK
  refine CT.of (L := [(0, .ref (ma 0)), (1, .int t0), (2, .int w0)]) rfl (by decide +kernel) rfl (Nat.le_of_ble_eq_true rfl) ?_
  rcases hiw : iR w0 (tP T) with _ | j
  · skip
    refine g_aload_n 0 dX10_isLeft_0 rfl rfl ?_
    refine g_aload_n 0 dX10_isLeft_1 rfl rfl ?_
    refine g_iload_n 2 dX10_isLeft_2 rfl rfl ?_
    refine m_cVi (ct_isWorld _ (tLow T) (tHigh T) (tMost T) (tUn T) k1 k2 k3 k4 o1 o2 o3 o4 o5) hvX10_isWorld hyX10_isWorld rfl ⟨Nat.le_of_ble_eq_true rfl, Nat.le_of_ble_eq_true rfl⟩ ⟨Nat.zero_le _, Nat.zero_le _⟩ rfl (Nat.le_of_ble_eq_true rfl) dX10_isLeft_3 m_rec (fun r ul hld => ?_)
    obtain ⟨xsL, ysL, pairsL⟩ := ul
    dsimp only
    obtain ⟨hl, hr9⟩ := hld
    have hl : layd xsL ysL pairsL (tW T) := hl
    have hW := layd_OK hl o1 o3
    have hP : pairsL ≤ 1830 := hW.1
    have hPT : pairsL = tP T := hl.1
    subst hr9
    refine GG.topi (y := nI 0) (by show bI (iR _ (tP T)).isSome = _; rw [hiw]; rfl) ?_
    refine g_if_ne_n (tgt := 13) dX10_isLeft_6 (by decide) (by decide) (fun h => absurd h (by decide)) (fun _ => ?_)
    refine g_iconst (v := nI 1) dX10_isLeft_9 (by decide +kernel) ?_
    refine g_goto (tgt := 26) dX10_isLeft_10 (by decide) ?_
    refine m_put_thrown dX10_isLeft_26 ?_
    refine g_aload_n 0 dX10_isLeft_29 rfl rfl ?_
    refine m_get_thrown dX10_isLeft_30 ?_
    refine g_if_le_n (tgt := 38) dX10_isLeft_33 (by decide) (by decide) (fun h => absurd h (by decide)) (fun _ => ?_)
    refine g_iconst (v := nI 0) dX10_isLeft_36 (by decide +kernel) ?_
    exact g_zret (b := false) (_, _, _, _, _, _, _) dX10_isLeft_37 (Nat.le_refl _) (Nat.le_refl _) (by exact ansF (by first | (unfold aIsLeft; rw [hiw]; done) | (unfold aIsLeft; rw [hiw]; rfl) | (unfold aIsLeft; simp only [hiw]; done) | (unfold aIsLeft; simp only [hiw]; rfl) | (unfold aIsLeft; rw [hiw]; dsimp only)) (Nat.succ_ne_zero _)) (fun _ h => h)
  · skip
    obtain ⟨hj, ej⟩ := iR_some hiw
    subst ej
    rcases hit : iR t0 (tNT T + 1) with _ | i
    · skip
      refine g_aload_n 0 dX10_isLeft_0 rfl rfl ?_
      refine g_aload_n 0 dX10_isLeft_1 rfl rfl ?_
      refine g_iload_n 2 dX10_isLeft_2 rfl rfl ?_
      refine m_cVi (ct_isWorld _ (tLow T) (tHigh T) (tMost T) (tUn T) k1 k2 k3 k4 o1 o2 o3 o4 o5) hvX10_isWorld hyX10_isWorld rfl ⟨Nat.le_of_ble_eq_true rfl, Nat.le_of_ble_eq_true rfl⟩ ⟨Nat.zero_le _, Nat.zero_le _⟩ rfl (Nat.le_of_ble_eq_true rfl) dX10_isLeft_3 m_rec (fun r ul hld => ?_)
      obtain ⟨xsL, ysL, pairsL⟩ := ul
      dsimp only
      obtain ⟨hl, hr9⟩ := hld
      have hl : layd xsL ysL pairsL (tW T) := hl
      have hW := layd_OK hl o1 o3
      have hP : pairsL ≤ 1830 := hW.1
      have hPT : pairsL = tP T := hl.1
      subst hr9
      refine GG.topi (y := nI 1) (by show bI (iR _ (tP T)).isSome = _; rw [hiw]; rfl) ?_
      refine g_if_ne_n (tgt := 13) dX10_isLeft_6 (by decide) (by decide) (fun _ => ?_) (fun h => absurd h (by decide))
      refine g_aload_n 0 dX10_isLeft_13 rfl rfl ?_
      refine g_iload_n 1 dX10_isLeft_14 rfl rfl ?_
      refine m_cVi (ct_isBehind _ (tNT T) k6 (by omega)) hvX10_isBehind hyX10_isBehind rfl ⟨Nat.le_of_ble_eq_true rfl, Nat.le_of_ble_eq_true rfl⟩ ⟨Nat.zero_le _, Nat.zero_le _⟩ rfl (Nat.le_of_ble_eq_true rfl) dX10_isLeft_15 m_rec (fun r u9 hp => ?_)
      obtain rfl := hp
      refine GG.topi (y := nI 0) (by rw [hit]; rfl) ?_
      refine g_if_eq_n (tgt := 25) dX10_isLeft_18 (by decide) (by decide) (fun _ => ?_) (fun h => absurd h (by decide))
      refine g_iconst (v := nI 2) dX10_isLeft_25 (by decide +kernel) ?_
      refine m_put_thrown dX10_isLeft_26 ?_
      refine g_aload_n 0 dX10_isLeft_29 rfl rfl ?_
      refine m_get_thrown dX10_isLeft_30 ?_
      refine g_if_le_n (tgt := 38) dX10_isLeft_33 (by decide) (by decide) (fun h => absurd h (by decide)) (fun _ => ?_)
      refine g_iconst (v := nI 0) dX10_isLeft_36 (by decide +kernel) ?_
      exact g_zret (b := false) (_, _, _, _, _, _, _) dX10_isLeft_37 (Nat.le_refl _) (Nat.le_refl _) (by exact ansF (by unfold aIsLeft; rw [hiw]; dsimp only; rw [hit]) (Nat.succ_ne_zero _)) (fun _ h => h)
    · skip
      obtain ⟨hi, ei⟩ := iR_some hit
      subst ei
      refine g_aload_n 0 dX10_isLeft_0 rfl rfl ?_
      refine g_aload_n 0 dX10_isLeft_1 rfl rfl ?_
      refine g_iload_n 2 dX10_isLeft_2 rfl rfl ?_
      refine m_cVi (ct_isWorld _ (tLow T) (tHigh T) (tMost T) (tUn T) k1 k2 k3 k4 o1 o2 o3 o4 o5) hvX10_isWorld hyX10_isWorld rfl ⟨Nat.le_of_ble_eq_true rfl, Nat.le_of_ble_eq_true rfl⟩ ⟨Nat.zero_le _, Nat.zero_le _⟩ rfl (Nat.le_of_ble_eq_true rfl) dX10_isLeft_3 m_rec (fun r ul hld => ?_)
      obtain ⟨xsL, ysL, pairsL⟩ := ul
      dsimp only
      obtain ⟨hl, hr9⟩ := hld
      have hl : layd xsL ysL pairsL (tW T) := hl
      have hW := layd_OK hl o1 o3
      have hP : pairsL ≤ 1830 := hW.1
      have hPT : pairsL = tP T := hl.1
      subst hr9
      refine GG.topi (y := nI 1) (by show bI (iR _ (tP T)).isSome = _; rw [hiw]; rfl) ?_
      refine g_if_ne_n (tgt := 13) dX10_isLeft_6 (by decide) (by decide) (fun _ => ?_) (fun h => absurd h (by decide))
      refine g_aload_n 0 dX10_isLeft_13 rfl rfl ?_
      refine g_iload_n 1 dX10_isLeft_14 rfl rfl ?_
      refine m_cVi (ct_isBehind _ (tNT T) k6 (by omega)) hvX10_isBehind hyX10_isBehind rfl ⟨Nat.le_of_ble_eq_true rfl, Nat.le_of_ble_eq_true rfl⟩ ⟨Nat.zero_le _, Nat.zero_le _⟩ rfl (Nat.le_of_ble_eq_true rfl) dX10_isLeft_15 m_rec (fun r u9 hp => ?_)
      obtain rfl := hp
      refine GG.topi (y := nI 1) (by rw [hit]; rfl) ?_
      refine g_if_eq_n (tgt := 25) dX10_isLeft_18 (by decide) (by decide) (fun h => absurd h (by decide)) (fun _ => ?_)
      refine g_iconst (v := nI 0) dX10_isLeft_21 (by decide +kernel) ?_
      refine g_goto (tgt := 26) dX10_isLeft_22 (by decide) ?_
      refine m_put_thrown dX10_isLeft_26 ?_
      refine g_aload_n 0 dX10_isLeft_29 rfl rfl ?_
      refine m_get_thrown dX10_isLeft_30 ?_
      refine g_if_le_n (tgt := 38) dX10_isLeft_33 (by decide) (by decide) (fun _ => ?_) (fun h => absurd h (by decide))
      refine g_aload_n 0 dX10_isLeft_38 rfl rfl ?_
      refine m_cVv (ct_lays T hK) hvX10_lays hyX10_lays rfl ⟨Nat.le_of_ble_eq_true rfl, Nat.le_of_ble_eq_true rfl⟩ ⟨Nat.zero_le _, Nat.zero_le _⟩ rfl (Nat.le_of_ble_eq_true rfl) dX10_isLeft_39 m_rec (fun ul hul => ?_)
      obtain ⟨heapsL, rowsZ, xsL, ysL, pairsL⟩ := ul
      dsimp only
      obtain ⟨hl, hr⟩ := hul
      have hl : layd xsL ysL pairsL (tW T) := hl
      have hr : rowsL rowsZ T (tNT T) := hr
      have hW := layd_OK hl o1 o3
      have hP : pairsL ≤ 1830 := hW.1
      have hPT : pairsL = tP T := hl.1
      refine g_aload_n 0 dX10_isLeft_42 rfl rfl ?_
      refine g_iload_n 1 dX10_isLeft_43 rfl rfl ?_
      refine g_iload_n 2 dX10_isLeft_44 rfl rfl ?_
      refine m_cVi (ct_has _ _ (by omega) (by omega)) hvX10_has hyX10_has rfl ⟨Nat.le_of_ble_eq_true rfl, Nat.le_of_ble_eq_true rfl⟩ ⟨Nat.zero_le _, Nat.zero_le _⟩ rfl (Nat.le_of_ble_eq_true rfl) dX10_isLeft_45 m_rec (fun r u hp => ?_)
      obtain rfl := hp
      exact g_zret (_, _, _, _, _, _, _) dX10_isLeft_48 (Nat.le_refl _) (Nat.le_refl _) (by exact ansT (by unfold aIsLeft; rw [hiw]; dsimp only; rw [hit]) (congrArg bI (hr i j (by omega) (by omega)))) (fun _ h => h)
set_option maxHeartbeats 4000000 in
/-- the only one left -/
theorem ct_only (T : Talk) (hK : KIs known T) : CT l D cl tys yX10_only cX10_only 1 (some .int) ({ frames := 89, cells := 0, slots := 0, locals := 2610 } : Room) [.ref (ma 0)] (HM D cl tys mi cI cJ cZ ma known fresh_ saved images isImage thrown tape taped size_ at_ begin_ token value open_ bad badPlace faultKind faultPlace xs ys pairs rows top heaps endsBehind path order firstOrder ordersMany tSort tMany numbers) (Qi (fun (v : Int32) (u : Nat × (Nat → Nat) × (Nat → Nat) × Nat × (Nat → Int64) × Nat × (Nat → Nat)) => u.1 = 0 ∧ isOnly T v) (fun (u : Nat × (Nat → Nat) × (Nat → Nat) × Nat × (Nat → Int64) × Nat × (Nat → Nat)) => HM D cl tys mi cI cJ cZ ma known fresh_ saved images isImage u.1 tape taped size_ at_ begin_ token value open_ bad badPlace faultKind faultPlace u.2.1 u.2.2.1 u.2.2.2.1 u.2.2.2.2.1 u.2.2.2.2.2.1 u.2.2.2.2.2.2 endsBehind path order firstOrder ordersMany tSort tMany numbers) (AM ma)) (AM ma) := by
  obtain ⟨⟨o1, o2, o3, o4, o5, o6, o7, o8, o9, o10⟩, k0, k1, k2, k3, k4, k5, k6, k7, k8⟩ := id hK
  refine CT.of (L := [(0, .ref (ma 0))]) rfl (by decide +kernel) rfl (Nat.le_of_ble_eq_true rfl) ?_
  refine g_aload_n 0 dX10_only_0 rfl rfl ?_
  refine g_iconst (v := nI 0) dX10_only_1 (by decide +kernel) ?_
  refine m_put_thrown dX10_only_2 ?_
  refine g_aload_n 0 dX10_only_5 rfl rfl ?_
  refine m_cVi (ct_onlyNow T hK) hvX10_onlyNow hyX10_onlyNow rfl ⟨Nat.le_of_ble_eq_true rfl, Nat.le_of_ble_eq_true rfl⟩ ⟨Nat.zero_le _, Nat.zero_le _⟩ rfl (Nat.le_of_ble_eq_true rfl) dX10_only_6 m_rec (fun r ul hul => ?_)
  obtain ⟨heapsL, rowsZ, xsL, ysL, pairsL⟩ := ul
  dsimp only
  obtain ⟨hl, hr, hO⟩ := hul
  have hl : layd xsL ysL pairsL (tW T) := hl
  have hr : rowsL rowsZ T (tNT T) := hr
  have hW := layd_OK hl o1 o3
  have hP : pairsL ≤ 1830 := hW.1
  have hPT : pairsL = tP T := hl.1
  exact g_iret (_, _, _, _, _, _, _) dX10_only_9 (Nat.le_refl _) (Nat.le_refl _) (by exact ⟨rfl, hO⟩) (fun _ h => h)
end
