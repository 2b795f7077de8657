/-! SPEC: faults -/
set_option maxRecDepth 100000
def aFault (T : Talk) (s w t : Int32) : Nat := match iR s (tNS T), iR w (tP T) with
  | some _, some _ => match iR t (tNT T + 1) with
    | none => 2
    | some _ => 0
  | _, _ => 1
def isJudge (T : Talk) (w : Int32) (thr : Nat) (v : Int32) : Prop := match iR w (tP T) with
  | none => thr = 1
  | some j => thr = 0 ∧ isFst (fun t => !leftT T (t + 1) j) (tNT T) v
theorem cnt_y {f : Nat → Bool} {n : Nat} (h : f n = true) : cnt f (n + 1) = cnt f n + 1 := by
  show cnt f n + _ = _
  rw [if_pos h]
theorem cnt_n {f : Nat → Bool} {n : Nat} (h : f n = false) : cnt f (n + 1) = cnt f n + 0 := by
  show cnt f n + _ = _
  rw [if_neg (by rw [h]; decide)]
theorem bestF_some (d : Nat → Nat) : ∀ n, 0 < n → ∃ b m, bestF d n = some (b, m)
  | n + 1, _ => by
    unfold bestF
    cases bestF d n with
    | none => exact ⟨_, _, rfl⟩
    | some p =>
      obtain ⟨b, m⟩ := p
      dsimp only
      split
      · exact ⟨_, _, rfl⟩
      · exact ⟨_, _, rfl⟩
/-- best and most as the model keeps them -/
def bestM (o : Option (Nat × Nat)) (b : Int32) (m : Nat) : Prop := match o with
  | none => b = -1 ∧ m = 0
  | some (x, y) => b = nI x ∧ m = y ∧ x < 2 ^ 31
/-! THE MODEL, 7: more questions -/
set_option maxRecDepth 100000
theorem bestM_none {d : Nat → Nat} {t m : Nat} {b : Int32} (h : bestM (bestF d t) b m) (hb : b = -1) : bestF d t = none := by
  cases hq : bestF d t with
  | none => rfl
  | some p =>
    rw [hq] at h
    obtain ⟨x, y⟩ := p
    obtain ⟨h1, -, h3⟩ := h
    rw [hb] at h1
    exact absurd h1.symm (nI_m1 h3)
theorem bestM_some {d : Nat → Nat} {t m : Nat} {b : Int32} (h : bestM (bestF d t) b m) (hb : ¬ b = -1) : ∃ x, bestF d t = some (x, m) ∧ b = nI x := by
  cases hq : bestF d t with
  | none =>
    rw [hq] at h
    exact absurd h.1 hb
  | some p =>
    rw [hq] at h
    obtain ⟨x, y⟩ := p
    obtain ⟨h1, h2, h3⟩ := h
    exact ⟨x, by rw [h2], h1⟩
theorem bestM_up0 {d : Nat → Nat} {t m : Nat} {b : Int32} (h : bestM (bestF d t) b m) (hb : b = -1) (ht : t < 2 ^ 31) : bestM (bestF d (t + 1)) (nI t) (d t) := by
  have e := bestM_none h hb
  unfold bestF
  rw [e]
  exact ⟨rfl, rfl, ht⟩
theorem bestM_up {d : Nat → Nat} {t m : Nat} {b : Int32} (h : bestM (bestF d t) b m) (hb : ¬ b = -1) (hc : b = -1 ∨ m < d t) (ht : t < 2 ^ 31) : bestM (bestF d (t + 1)) (nI t) (d t) := by
  obtain ⟨x, e, -⟩ := bestM_some h hb
  unfold bestF
  rw [e]
  dsimp only
  rw [if_neg (by rcases hc with q | q; exact absurd q hb; omega)]
  exact ⟨rfl, rfl, ht⟩
theorem bestM_keep {d : Nat → Nat} {t m : Nat} {b : Int32} (h : bestM (bestF d t) b m) (hb : ¬ b = -1) (hc : d t ≤ m) : bestM (bestF d (t + 1)) b m := by
  obtain ⟨x, e, -⟩ := bestM_some h hb
  rw [e] at h
  unfold bestF
  rw [e]
  dsimp only
  rw [if_pos hc]
  exact h
theorem bestM_m {d : Nat → Nat} {t m : Nat} {b : Int32} (h : bestM (bestF d t) b m) : nI m = (match bestF d t with | none => 0 | some (_, m) => nI m) := by
  cases hq : bestF d t with
  | none => rw [hq] at h; rw [h.2]; rfl
  | some p => rw [hq] at h; obtain ⟨x, y⟩ := p; obtain ⟨h1, h2, h3⟩ := h; rw [h2]
theorem bestM_b {d : Nat → Nat} {t m : Nat} {b : Int32} (h : bestM (bestF d t) b m) : b = (match bestF d t with | none => -1 | some (b, _) => nI b) := by
  cases hq : bestF d t with
  | none => rw [hq] at h; rw [h.1]
  | some p => rw [hq] at h; obtain ⟨x, y⟩ := p; obtain ⟨h1, h2, h3⟩ := h; rw [h1]
section
variable {l : Launch} {D : va_G} {cl : List vw_C} {tys : List (ClassId × FieldType)} {mi : Nat} {cI cJ cZ : ClassId} {ma : Nat → Nat} {known fresh_ saved images : Nat → Int32} {isImage : Nat → Bool} {thrown : Nat} {tape : Nat → Nat} {taped size_ at_ begin_ token value open_ bad badPlace faultKind : Nat} {faultPlace : Int32} {xs ys : Nat → Nat} {pairs : Nat} {rows : Nat → Int64} {top : Nat} {heaps : Nat → Nat} {endsBehind : Nat → Int32} {path order firstOrder : Nat → Nat} {ordersMany : Nat} {tSort : Nat → Int32} {tMany : Nat → Nat} {numbers : Nat → Int64}
set_option maxHeartbeats 4000000 in
/-- is it so -/
theorem ct_so (T : Talk) (t0 w0 : Int32) (hK : KIs known T) : CT l D cl tys yX10_so cX10_so 3 (some .boolean) ({ frames := 87, cells := 0, slots := 0, locals := 2570 } : Room) [.ref (ma 0), .int t0, .int w0] (HM D cl tys mi cI cJ cZ ma known fresh_ saved images isImage thrown tape taped size_ at_ begin_ token value open_ bad badPlace faultKind faultPlace xs ys pairs rows top heaps endsBehind path order firstOrder ordersMany tSort tMany numbers) (Qi (fun (v : Int32) (u : Nat × (Nat → Nat) × (Nat → Nat) × Nat × (Nat → Int64) × Nat × (Nat → Nat)) => ans (aSo T t0 w0) u.1 v) (fun (u : Nat × (Nat → Nat) × (Nat → Nat) × Nat × (Nat → Int64) × Nat × (Nat → Nat)) => HM D cl tys mi cI cJ cZ ma known fresh_ saved images isImage u.1 tape taped size_ at_ begin_ token value open_ bad badPlace faultKind faultPlace u.2.1 u.2.2.1 u.2.2.2.1 u.2.2.2.2.1 u.2.2.2.2.2.1 u.2.2.2.2.2.2 endsBehind path order firstOrder ordersMany tSort tMany numbers) (AM ma)) (AM ma) := by
  obtain ⟨⟨o1, o2, o3, o4, o5, o6, o7, o8, o9, o10⟩, k0, k1, k2, k3, k4, k5, k6, k7, k8⟩ := id hK
  refine CT.of (L := [(0, .ref (ma 0)), (1, .int t0), (2, .int w0)]) rfl (by decide +kernel) rfl (Nat.le_of_ble_eq_true rfl) ?_
  rcases h9a : iR t0 (tNT T) with _ | i
  · skip
    refine g_aload_n 0 dX10_so_0 rfl rfl ?_
    refine g_aload_n 0 dX10_so_1 rfl rfl ?_
    refine g_iload_n 1 dX10_so_2 rfl rfl ?_
    refine m_cVi (ct_isTurn _ (tNT T) k6 (by omega)) hvX10_isTurn hyX10_isTurn rfl ⟨Nat.le_of_ble_eq_true rfl, Nat.le_of_ble_eq_true rfl⟩ ⟨Nat.zero_le _, Nat.zero_le _⟩ rfl (Nat.le_of_ble_eq_true rfl) dX10_so_3 m_rec (fun r u9 hp => ?_)
    obtain rfl := hp
    refine GG.topi (y := nI 0) (by rw [h9a]; rfl) ?_
    refine g_if_eq_n (tgt := 21) dX10_so_6 (by decide) (by decide) (fun _ => ?_) (fun h => absurd h (by decide))
    refine g_iconst (v := nI 1) dX10_so_21 (by decide +kernel) ?_
    refine m_put_thrown dX10_so_22 ?_
    refine g_aload_n 0 dX10_so_25 rfl rfl ?_
    refine m_get_thrown dX10_so_26 ?_
    refine g_if_le_n (tgt := 34) dX10_so_29 (by decide) (by decide) (fun h => absurd h (by decide)) (fun _ => ?_)
    refine g_iconst (v := nI 0) dX10_so_32 (by decide +kernel) ?_
    exact g_zret (b := false) (_, _, _, _, _, _, _) dX10_so_33 (Nat.le_refl _) (Nat.le_refl _) (by exact ansF (by first | (unfold aSo; rw [h9a]; done) | (unfold aSo; rw [h9a]; rfl) | (unfold aSo; simp only [h9a]; done) | (unfold aSo; simp only [h9a]; rfl)) (Nat.succ_ne_zero _)) (fun _ h => h)
  · skip
    obtain ⟨hi, ei⟩ := iR_some h9a
    subst ei
    rcases h9b : iR w0 (tP T) with _ | j
    · skip
      refine g_aload_n 0 dX10_so_0 rfl rfl ?_
      refine g_aload_n 0 dX10_so_1 rfl rfl ?_
      refine g_iload_n 1 dX10_so_2 rfl rfl ?_
      refine m_cVi (ct_isTurn _ (tNT T) k6 (by omega)) hvX10_isTurn hyX10_isTurn rfl ⟨Nat.le_of_ble_eq_true rfl, Nat.le_of_ble_eq_true rfl⟩ ⟨Nat.zero_le _, Nat.zero_le _⟩ rfl (Nat.le_of_ble_eq_true rfl) dX10_so_3 m_rec (fun r u9 hp => ?_)
      obtain rfl := hp
      refine GG.topi (y := nI 1) (by rw [h9a]; rfl) ?_
      refine g_if_eq_n (tgt := 21) dX10_so_6 (by decide) (by decide) (fun h => absurd h (by decide)) (fun _ => ?_)
      refine g_aload_n 0 dX10_so_9 rfl rfl ?_
      refine g_iload_n 2 dX10_so_10 rfl rfl ?_
      refine m_cVi (ct_isWorld _ (tLow T) (tHigh T) (tMost T) (tUn T) k1 k2 k3 k4 o1 o2 o3 o4 o5) hvX10_isWorld hyX10_isWorld rfl ⟨Nat.le_of_ble_eq_true rfl, Nat.le_of_ble_eq_true rfl⟩ ⟨Nat.zero_le _, Nat.zero_le _⟩ rfl (Nat.le_of_ble_eq_true rfl) dX10_so_11 m_rec (fun r ul hld => ?_)
      obtain ⟨xsL, ysL, pairsL⟩ := ul
      dsimp only
      obtain ⟨hl, hr9⟩ := hld
      have hl : layd xsL ysL pairsL (tW T) := hl
      have hW := layd_OK hl o1 o3
      have hP : pairsL ≤ 1830 := hW.1
      have hPT : pairsL = tP T := hl.1
      subst hr9
      refine GG.topi (y := nI 0) (by show bI (iR _ (tP T)).isSome = _; rw [h9b]; rfl) ?_
      refine g_if_eq_n (tgt := 21) dX10_so_14 (by decide) (by decide) (fun _ => ?_) (fun h => absurd h (by decide))
      refine g_iconst (v := nI 1) dX10_so_21 (by decide +kernel) ?_
      refine m_put_thrown dX10_so_22 ?_
      refine g_aload_n 0 dX10_so_25 rfl rfl ?_
      refine m_get_thrown dX10_so_26 ?_
      refine g_if_le_n (tgt := 34) dX10_so_29 (by decide) (by decide) (fun h => absurd h (by decide)) (fun _ => ?_)
      refine g_iconst (v := nI 0) dX10_so_32 (by decide +kernel) ?_
      exact g_zret (b := false) (_, _, _, _, _, _, _) dX10_so_33 (Nat.le_refl _) (Nat.le_refl _) (by exact ansF (by first | (unfold aSo; rw [h9a, h9b]; done) | (unfold aSo; rw [h9a, h9b]; rfl) | (unfold aSo; simp only [h9a, h9b]; done) | (unfold aSo; simp only [h9a, h9b]; rfl)) (Nat.succ_ne_zero _)) (fun _ h => h)
    · skip
      obtain ⟨hj, ej⟩ := iR_some h9b
      subst ej
      refine g_aload_n 0 dX10_so_0 rfl rfl ?_
      refine g_aload_n 0 dX10_so_1 rfl rfl ?_
      refine g_iload_n 1 dX10_so_2 rfl rfl ?_
      refine m_cVi (ct_isTurn _ (tNT T) k6 (by omega)) hvX10_isTurn hyX10_isTurn rfl ⟨Nat.le_of_ble_eq_true rfl, Nat.le_of_ble_eq_true rfl⟩ ⟨Nat.zero_le _, Nat.zero_le _⟩ rfl (Nat.le_of_ble_eq_true rfl) dX10_so_3 m_rec (fun r u9 hp => ?_)
      obtain rfl := hp
      refine GG.topi (y := nI 1) (by rw [h9a]; rfl) ?_
      refine g_if_eq_n (tgt := 21) dX10_so_6 (by decide) (by decide) (fun h => absurd h (by decide)) (fun _ => ?_)
      refine g_aload_n 0 dX10_so_9 rfl rfl ?_
      refine g_iload_n 2 dX10_so_10 rfl rfl ?_
      refine m_cVi (ct_isWorld _ (tLow T) (tHigh T) (tMost T) (tUn T) k1 k2 k3 k4 o1 o2 o3 o4 o5) hvX10_isWorld hyX10_isWorld rfl ⟨Nat.le_of_ble_eq_true rfl, Nat.le_of_ble_eq_true rfl⟩ ⟨Nat.zero_le _, Nat.zero_le _⟩ rfl (Nat.le_of_ble_eq_true rfl) dX10_so_11 m_rec (fun r ul hld => ?_)
      obtain ⟨xsL, ysL, pairsL⟩ := ul
      dsimp only
      obtain ⟨hl, hr9⟩ := hld
      have hl : layd xsL ysL pairsL (tW T) := hl
      have hW := layd_OK hl o1 o3
      have hP : pairsL ≤ 1830 := hW.1
      have hPT : pairsL = tP T := hl.1
      subst hr9
      refine GG.topi (y := nI 1) (by show bI (iR _ (tP T)).isSome = _; rw [h9b]; rfl) ?_
      refine g_if_eq_n (tgt := 21) dX10_so_14 (by decide) (by decide) (fun h => absurd h (by decide)) (fun _ => ?_)
      refine g_iconst (v := nI 0) dX10_so_17 (by decide +kernel) ?_
      refine g_goto (tgt := 22) dX10_so_18 (by decide) ?_
      refine m_put_thrown dX10_so_22 ?_
      refine g_aload_n 0 dX10_so_25 rfl rfl ?_
      refine m_get_thrown dX10_so_26 ?_
      refine g_if_le_n (tgt := 34) dX10_so_29 (by decide) (by decide) (fun _ => ?_) (fun h => absurd h (by decide))
      obtain ⟨hw0, m9, hm9, hsay⟩ := k8 i hi
      refine g_aload_n 0 dX10_so_34 rfl rfl ?_
      refine m_cVv (ct_lays T hK) hvX10_lays hyX10_lays rfl ⟨Nat.le_of_ble_eq_true rfl, Nat.le_of_ble_eq_true rfl⟩ ⟨Nat.zero_le _, Nat.zero_le _⟩ rfl (Nat.le_of_ble_eq_true rfl) dX10_so_35 m_rec (fun ul hul => ?_)
      obtain ⟨heapsL, rowsZ, xsL, ysL, pairsL⟩ := ul
      dsimp only
      obtain ⟨hl, hr⟩ := hul
      have hl : layd xsL ysL pairsL (tW T) := hl
      have hr : rowsL rowsZ T (tNT T) := hr
      have hW := layd_OK hl o1 o3
      have hP : pairsL ≤ 1830 := hW.1
      have hPT : pairsL = tP T := hl.1
      refine g_aload_n 0 dX10_so_38 rfl rfl ?_
      refine g_aload_n 0 dX10_so_39 rfl rfl ?_
      refine g_aload_n 0 dX10_so_40 rfl rfl ?_
      refine m_get_known dX10_so_41 ?_
      refine g_bipush (v := nI 26) dX10_so_44 (by decide +kernel) ?_
      refine g_iconst (v := nI 2) dX10_so_46 (by decide +kernel) ?_
      refine g_iload_n 1 dX10_so_47 rfl rfl ?_
      refine g_imul_n dX10_so_48 ?_
      refine g_iadd_n dX10_so_49 ?_
      refine g_iconst (v := nI 1) dX10_so_50 (by decide +kernel) ?_
      refine g_iadd_n dX10_so_51 ?_
      refine m_ld_known dX10_so_52 (by omega) ?_
      refine GG.topi hm9 ?_
      refine g_iload_n 1 dX10_so_53 rfl rfl ?_
      refine m_cVi (so_all (tNS T) 40 (tSem T i) m9 i _ hsay (EnvM.of hK hl (by omega) (fun t' w a b => hr t' w (by omega) (by omega))) (by omega) (by omega)) hvX10_soIn hyX10_soIn rfl ⟨Nat.le_of_ble_eq_true rfl, Nat.le_of_ble_eq_true rfl⟩ ⟨Nat.zero_le _, Nat.zero_le _⟩ rfl (Nat.le_of_ble_eq_true rfl) dX10_so_54 m_rec (fun r us hus => ?_)
      obtain ⟨heapsS, rowsS⟩ := us
      obtain ⟨hr9, hdone⟩ := hus
      subst hr9
      dsimp only
      have hdone : soDone rowsZ rowsS 21 pairsL _ := hdone
      refine g_iload_n 2 dX10_so_57 rfl rfl ?_
      refine m_cVi (ct_has _ _ (by omega) (by omega)) hvX10_has hyX10_has rfl ⟨Nat.le_of_ble_eq_true rfl, Nat.le_of_ble_eq_true rfl⟩ ⟨Nat.zero_le _, Nat.zero_le _⟩ rfl (Nat.le_of_ble_eq_true rfl) dX10_so_58 m_rec (fun r u hp => ?_)
      obtain rfl := hp
      exact g_zret (_, _, _, _, _, _, _) dX10_so_61 (Nat.le_refl _) (Nat.le_refl _) (by exact ansT (by first | (unfold aSo; rw [h9a, h9b]; done) | (unfold aSo; rw [h9a, h9b]; rfl) | (unfold aSo; simp only [h9a, h9b]; done) | (unfold aSo; simp only [h9a, h9b]; rfl)) (congrArg bI (hdone.1 j (by omega)))) (fun _ h => h)
set_option maxHeartbeats 4000000 in
/-- may it be said -/
theorem ct_may (T : Talk) (t0 w0 : Int32) (hK : KIs known T) : CT l D cl tys yX10_may cX10_may 3 (some .boolean) ({ frames := 87, cells := 0, slots := 0, locals := 2570 } : Room) [.ref (ma 0), .int t0, .int w0] (HM D cl tys mi cI cJ cZ ma known fresh_ saved images isImage thrown tape taped size_ at_ begin_ token value open_ bad badPlace faultKind faultPlace xs ys pairs rows top heaps endsBehind path order firstOrder ordersMany tSort tMany numbers) (Qi (fun (v : Int32) (u : Nat × (Nat → Nat) × (Nat → Nat) × Nat × (Nat → Int64) × Nat × (Nat → Nat)) => ans (aMay T t0 w0) u.1 v) (fun (u : Nat × (Nat → Nat) × (Nat → Nat) × Nat × (Nat → Int64) × Nat × (Nat → Nat)) => HM D cl tys mi cI cJ cZ ma known fresh_ saved images isImage u.1 tape taped size_ at_ begin_ token value open_ bad badPlace faultKind faultPlace u.2.1 u.2.2.1 u.2.2.2.1 u.2.2.2.2.1 u.2.2.2.2.2.1 u.2.2.2.2.2.2 endsBehind path order firstOrder ordersMany tSort tMany numbers) (AM ma)) (AM ma) := by
  obtain ⟨⟨o1, o2, o3, o4, o5, o6, o7, o8, o9, o10⟩, k0, k1, k2, k3, k4, k5, k6, k7, k8⟩ := id hK
  refine CT.of (L := [(0, .ref (ma 0)), (1, .int t0), (2, .int w0)]) rfl (by decide +kernel) rfl (Nat.le_of_ble_eq_true rfl) ?_
  rcases h9a : iR t0 (tNT T) with _ | i
  · skip
    refine g_aload_n 0 dX10_may_0 rfl rfl ?_
    refine g_aload_n 0 dX10_may_1 rfl rfl ?_
    refine g_iload_n 1 dX10_may_2 rfl rfl ?_
    refine m_cVi (ct_isTurn _ (tNT T) k6 (by omega)) hvX10_isTurn hyX10_isTurn rfl ⟨Nat.le_of_ble_eq_true rfl, Nat.le_of_ble_eq_true rfl⟩ ⟨Nat.zero_le _, Nat.zero_le _⟩ rfl (Nat.le_of_ble_eq_true rfl) dX10_may_3 m_rec (fun r u9 hp => ?_)
    obtain rfl := hp
    refine GG.topi (y := nI 0) (by rw [h9a]; rfl) ?_
    refine g_if_eq_n (tgt := 21) dX10_may_6 (by decide) (by decide) (fun _ => ?_) (fun h => absurd h (by decide))
    refine g_iconst (v := nI 1) dX10_may_21 (by decide +kernel) ?_
    refine m_put_thrown dX10_may_22 ?_
    refine g_aload_n 0 dX10_may_25 rfl rfl ?_
    refine m_get_thrown dX10_may_26 ?_
    refine g_if_le_n (tgt := 34) dX10_may_29 (by decide) (by decide) (fun h => absurd h (by decide)) (fun _ => ?_)
    refine g_iconst (v := nI 0) dX10_may_32 (by decide +kernel) ?_
    exact g_zret (b := false) (_, _, _, _, _, _, _) dX10_may_33 (Nat.le_refl _) (Nat.le_refl _) (by exact ansF (by first | (unfold aMay; rw [h9a]; done) | (unfold aMay; rw [h9a]; rfl) | (unfold aMay; simp only [h9a]; done) | (unfold aMay; simp only [h9a]; rfl)) (Nat.succ_ne_zero _)) (fun _ h => h)
  · skip
    obtain ⟨hi, ei⟩ := iR_some h9a
    subst ei
    rcases h9b : iR w0 (tP T) with _ | j
    · skip
      refine g_aload_n 0 dX10_may_0 rfl rfl ?_
      refine g_aload_n 0 dX10_may_1 rfl rfl ?_
      refine g_iload_n 1 dX10_may_2 rfl rfl ?_
      refine m_cVi (ct_isTurn _ (tNT T) k6 (by omega)) hvX10_isTurn hyX10_isTurn rfl ⟨Nat.le_of_ble_eq_true rfl, Nat.le_of_ble_eq_true rfl⟩ ⟨Nat.zero_le _, Nat.zero_le _⟩ rfl (Nat.le_of_ble_eq_true rfl) dX10_may_3 m_rec (fun r u9 hp => ?_)
      obtain rfl := hp
      refine GG.topi (y := nI 1) (by rw [h9a]; rfl) ?_
      refine g_if_eq_n (tgt := 21) dX10_may_6 (by decide) (by decide) (fun h => absurd h (by decide)) (fun _ => ?_)
      refine g_aload_n 0 dX10_may_9 rfl rfl ?_
      refine g_iload_n 2 dX10_may_10 rfl rfl ?_
      refine m_cVi (ct_isWorld _ (tLow T) (tHigh T) (tMost T) (tUn T) k1 k2 k3 k4 o1 o2 o3 o4 o5) hvX10_isWorld hyX10_isWorld rfl ⟨Nat.le_of_ble_eq_true rfl, Nat.le_of_ble_eq_true rfl⟩ ⟨Nat.zero_le _, Nat.zero_le _⟩ rfl (Nat.le_of_ble_eq_true rfl) dX10_may_11 m_rec (fun r ul hld => ?_)
      obtain ⟨xsL, ysL, pairsL⟩ := ul
      dsimp only
      obtain ⟨hl, hr9⟩ := hld
      have hl : layd xsL ysL pairsL (tW T) := hl
      have hW := layd_OK hl o1 o3
      have hP : pairsL ≤ 1830 := hW.1
      have hPT : pairsL = tP T := hl.1
      subst hr9
      refine GG.topi (y := nI 0) (by show bI (iR _ (tP T)).isSome = _; rw [h9b]; rfl) ?_
      refine g_if_eq_n (tgt := 21) dX10_may_14 (by decide) (by decide) (fun _ => ?_) (fun h => absurd h (by decide))
      refine g_iconst (v := nI 1) dX10_may_21 (by decide +kernel) ?_
      refine m_put_thrown dX10_may_22 ?_
      refine g_aload_n 0 dX10_may_25 rfl rfl ?_
      refine m_get_thrown dX10_may_26 ?_
      refine g_if_le_n (tgt := 34) dX10_may_29 (by decide) (by decide) (fun h => absurd h (by decide)) (fun _ => ?_)
      refine g_iconst (v := nI 0) dX10_may_32 (by decide +kernel) ?_
      exact g_zret (b := false) (_, _, _, _, _, _, _) dX10_may_33 (Nat.le_refl _) (Nat.le_refl _) (by exact ansF (by first | (unfold aMay; rw [h9a, h9b]; done) | (unfold aMay; rw [h9a, h9b]; rfl) | (unfold aMay; simp only [h9a, h9b]; done) | (unfold aMay; simp only [h9a, h9b]; rfl)) (Nat.succ_ne_zero _)) (fun _ h => h)
    · skip
      obtain ⟨hj, ej⟩ := iR_some h9b
      subst ej
      refine g_aload_n 0 dX10_may_0 rfl rfl ?_
      refine g_aload_n 0 dX10_may_1 rfl rfl ?_
      refine g_iload_n 1 dX10_may_2 rfl rfl ?_
      refine m_cVi (ct_isTurn _ (tNT T) k6 (by omega)) hvX10_isTurn hyX10_isTurn rfl ⟨Nat.le_of_ble_eq_true rfl, Nat.le_of_ble_eq_true rfl⟩ ⟨Nat.zero_le _, Nat.zero_le _⟩ rfl (Nat.le_of_ble_eq_true rfl) dX10_may_3 m_rec (fun r u9 hp => ?_)
      obtain rfl := hp
      refine GG.topi (y := nI 1) (by rw [h9a]; rfl) ?_
      refine g_if_eq_n (tgt := 21) dX10_may_6 (by decide) (by decide) (fun h => absurd h (by decide)) (fun _ => ?_)
      refine g_aload_n 0 dX10_may_9 rfl rfl ?_
      refine g_iload_n 2 dX10_may_10 rfl rfl ?_
      refine m_cVi (ct_isWorld _ (tLow T) (tHigh T) (tMost T) (tUn T) k1 k2 k3 k4 o1 o2 o3 o4 o5) hvX10_isWorld hyX10_isWorld rfl ⟨Nat.le_of_ble_eq_true rfl, Nat.le_of_ble_eq_true rfl⟩ ⟨Nat.zero_le _, Nat.zero_le _⟩ rfl (Nat.le_of_ble_eq_true rfl) dX10_may_11 m_rec (fun r ul hld => ?_)
      obtain ⟨xsL, ysL, pairsL⟩ := ul
      dsimp only
      obtain ⟨hl, hr9⟩ := hld
      have hl : layd xsL ysL pairsL (tW T) := hl
      have hW := layd_OK hl o1 o3
      have hP : pairsL ≤ 1830 := hW.1
      have hPT : pairsL = tP T := hl.1
      subst hr9
      refine GG.topi (y := nI 1) (by show bI (iR _ (tP T)).isSome = _; rw [h9b]; rfl) ?_
      refine g_if_eq_n (tgt := 21) dX10_may_14 (by decide) (by decide) (fun h => absurd h (by decide)) (fun _ => ?_)
      refine g_iconst (v := nI 0) dX10_may_17 (by decide +kernel) ?_
      refine g_goto (tgt := 22) dX10_may_18 (by decide) ?_
      refine m_put_thrown dX10_may_22 ?_
      refine g_aload_n 0 dX10_may_25 rfl rfl ?_
      refine m_get_thrown dX10_may_26 ?_
      refine g_if_le_n (tgt := 34) dX10_may_29 (by decide) (by decide) (fun _ => ?_) (fun h => absurd h (by decide))
      refine g_aload_n 0 dX10_may_34 rfl rfl ?_
      refine m_cVv (ct_lays T hK) hvX10_lays hyX10_lays rfl ⟨Nat.le_of_ble_eq_true rfl, Nat.le_of_ble_eq_true rfl⟩ ⟨Nat.zero_le _, Nat.zero_le _⟩ rfl (Nat.le_of_ble_eq_true rfl) dX10_may_35 m_rec (fun ul hul => ?_)
      obtain ⟨heapsL, rowsZ, xsL, ysL, pairsL⟩ := ul
      dsimp only
      obtain ⟨hl, hr⟩ := hul
      have hl : layd xsL ysL pairsL (tW T) := hl
      have hr : rowsL rowsZ T (tNT T) := hr
      have hW := layd_OK hl o1 o3
      have hP : pairsL ≤ 1830 := hW.1
      have hPT : pairsL = tP T := hl.1
      refine g_aload_n 0 dX10_may_38 rfl rfl ?_
      refine g_aload_n 0 dX10_may_39 rfl rfl ?_
      refine g_iload_n 1 dX10_may_40 rfl rfl ?_
      refine m_cVi (ct_mays T _ hK hl (by omega) (fun t' w a b => hr t' w (by omega) (by omega)) (by omega) (by omega)) hvX10_mays hyX10_mays rfl ⟨Nat.le_of_ble_eq_true rfl, Nat.le_of_ble_eq_true rfl⟩ ⟨Nat.zero_le _, Nat.zero_le _⟩ rfl (Nat.le_of_ble_eq_true rfl) dX10_may_41 m_rec (fun r um hum => ?_)
      obtain ⟨heapsM, rowsM⟩ := um
      obtain ⟨hr8, hmay⟩ := hum
      subst hr8
      dsimp only
      have hmay : soDone rowsZ rowsM 21 pairsL _ := hmay
      refine g_iload_n 2 dX10_may_44 rfl rfl ?_
      refine m_cVi (ct_has _ _ (by omega) (by omega)) hvX10_has hyX10_has rfl ⟨Nat.le_of_ble_eq_true rfl, Nat.le_of_ble_eq_true rfl⟩ ⟨Nat.zero_le _, Nat.zero_le _⟩ rfl (Nat.le_of_ble_eq_true rfl) dX10_may_45 m_rec (fun r u hp => ?_)
      obtain rfl := hp
      exact g_zret (_, _, _, _, _, _, _) dX10_may_48 (Nat.le_refl _) (Nat.le_refl _) (by exact ansT (by first | (unfold aMay; rw [h9a, h9b]; done) | (unfold aMay; rw [h9a, h9b]; rfl) | (unfold aMay; simp only [h9a, h9b]; done) | (unfold aMay; simp only [h9a, h9b]; rfl)) (congrArg bI (hmay.1 j (by omega)))) (fun _ h => h)
set_option maxHeartbeats 4000000 in
/-- the turn that strikes a world -/
theorem ct_judge (T : Talk) (w0 : Int32) (hK : KIs known T) : CT l D cl tys yX10_judge cX10_judge 3 (some .int) ({ frames := 87, cells := 0, slots := 0, locals := 2570 } : Room) [.ref (ma 0), .int w0] (HM D cl tys mi cI cJ cZ ma known fresh_ saved images isImage thrown tape taped size_ at_ begin_ token value open_ bad badPlace faultKind faultPlace xs ys pairs rows top heaps endsBehind path order firstOrder ordersMany tSort tMany numbers) (Qi (fun (v : Int32) (u : Nat × (Nat → Nat) × (Nat → Nat) × Nat × (Nat → Int64) × Nat × (Nat → Nat)) => isJudge T w0 u.1 v) (fun (u : Nat × (Nat → Nat) × (Nat → Nat) × Nat × (Nat → Int64) × Nat × (Nat → Nat)) => HM D cl tys mi cI cJ cZ ma known fresh_ saved images isImage u.1 tape taped size_ at_ begin_ token value open_ bad badPlace faultKind faultPlace u.2.1 u.2.2.1 u.2.2.2.1 u.2.2.2.2.1 u.2.2.2.2.2.1 u.2.2.2.2.2.2 endsBehind path order firstOrder ordersMany tSort tMany numbers) (AM ma)) (AM ma) := by
  obtain ⟨⟨o1, o2, o3, o4, o5, o6, o7, o8, o9, o10⟩, k0, k1, k2, k3, k4, k5, k6, k7, k8⟩ := id hK
  refine CT.of (L := [(0, .ref (ma 0)), (1, .int w0)]) rfl (by decide +kernel) rfl (Nat.le_of_ble_eq_true rfl) ?_
  rcases hiw : iR w0 (tP T) with _ | j
  · skip
    refine g_aload_n 0 dX10_judge_0 rfl rfl ?_
    refine g_iconst (v := nI 0) dX10_judge_1 (by decide +kernel) ?_
    refine m_put_thrown dX10_judge_2 ?_
    refine g_aload_n 0 dX10_judge_5 rfl rfl ?_
    refine g_iload_n 1 dX10_judge_6 rfl rfl ?_
    refine m_cVi (ct_isWorld _ (tLow T) (tHigh T) (tMost T) (tUn T) k1 k2 k3 k4 o1 o2 o3 o4 o5) hvX10_isWorld hyX10_isWorld rfl ⟨Nat.le_of_ble_eq_true rfl, Nat.le_of_ble_eq_true rfl⟩ ⟨Nat.zero_le _, Nat.zero_le _⟩ rfl (Nat.le_of_ble_eq_true rfl) dX10_judge_7 m_rec (fun r ul hld => ?_)
    obtain ⟨xsL, ysL, pairsL⟩ := ul
    dsimp only
    obtain ⟨hl, hr9⟩ := hld
    have hl : layd xsL ysL pairsL (tW T) := hl
    have hW := layd_OK hl o1 o3
    have hP : pairsL ≤ 1830 := hW.1
    have hPT : pairsL = tP T := hl.1
    subst hr9
    refine GG.topi (y := nI 0) (by show bI (iR _ (tP T)).isSome = _; rw [hiw]; rfl) ?_
    refine g_if_ne_n (tgt := 19) dX10_judge_10 (by decide) (by decide) (fun h => absurd h (by decide)) (fun _ => ?_)
    refine g_aload_n 0 dX10_judge_13 rfl rfl ?_
    refine g_iconst (v := nI 1) dX10_judge_14 (by decide +kernel) ?_
    refine m_cVi (ct_fails _) hvX10_fails hyX10_fails rfl ⟨Nat.le_of_ble_eq_true rfl, Nat.le_of_ble_eq_true rfl⟩ ⟨Nat.zero_le _, Nat.zero_le _⟩ rfl (Nat.le_of_ble_eq_true rfl) dX10_judge_15 m_rec (fun r u hp => ?_)
    obtain rfl := hp
    exact g_iret (_, _, _, _, _, _, _) dX10_judge_18 (Nat.le_refl _) (Nat.le_refl _) (by unfold isJudge; rw [hiw]) (fun _ h => h)
  · skip
    obtain ⟨hj, ej⟩ := iR_some hiw
    subst ej
    refine g_aload_n 0 dX10_judge_0 rfl rfl ?_
    refine g_iconst (v := nI 0) dX10_judge_1 (by decide +kernel) ?_
    refine m_put_thrown dX10_judge_2 ?_
    refine g_aload_n 0 dX10_judge_5 rfl rfl ?_
    refine g_iload_n 1 dX10_judge_6 rfl rfl ?_
    refine m_cVi (ct_isWorld _ (tLow T) (tHigh T) (tMost T) (tUn T) k1 k2 k3 k4 o1 o2 o3 o4 o5) hvX10_isWorld hyX10_isWorld rfl ⟨Nat.le_of_ble_eq_true rfl, Nat.le_of_ble_eq_true rfl⟩ ⟨Nat.zero_le _, Nat.zero_le _⟩ rfl (Nat.le_of_ble_eq_true rfl) dX10_judge_7 m_rec (fun r ul hld => ?_)
    obtain ⟨xsL, ysL, pairsL⟩ := ul
    dsimp only
    obtain ⟨hl, hr9⟩ := hld
    have hl : layd xsL ysL pairsL (tW T) := hl
    have hW := layd_OK hl o1 o3
    have hP : pairsL ≤ 1830 := hW.1
    have hPT : pairsL = tP T := hl.1
    subst hr9
    refine GG.topi (y := nI 1) (by show bI (iR _ (tP T)).isSome = _; rw [hiw]; rfl) ?_
    refine g_if_ne_n (tgt := 19) dX10_judge_10 (by decide) (by decide) (fun _ => ?_) (fun h => absurd h (by decide))
    refine g_aload_n 0 dX10_judge_19 rfl rfl ?_
    refine m_cVv (ct_lays T hK) hvX10_lays hyX10_lays rfl ⟨Nat.le_of_ble_eq_true rfl, Nat.le_of_ble_eq_true rfl⟩ ⟨Nat.zero_le _, Nat.zero_le _⟩ rfl (Nat.le_of_ble_eq_true rfl) dX10_judge_20 m_rec (fun ul hul => ?_)
    obtain ⟨heapsL, rowsZ, xsL, ysL, pairsL⟩ := ul
    dsimp only
    obtain ⟨hl, hr⟩ := hul
    have hl : layd xsL ysL pairsL (tW T) := hl
    have hr : rowsL rowsZ T (tNT T) := hr
    have hW := layd_OK hl o1 o3
    have hP : pairsL ≤ 1830 := hW.1
    have hPT : pairsL = tP T := hl.1
    refine g_iconst (v := nI 0) dX10_judge_23 (by decide +kernel) ?_
    refine g_istore_n (L' := [(0, _), (1, _), (2, _)]) 2 dX10_judge_24 rfl (by decide) rfl rfl ?_
    have loop25 : ∀ (q25 : Nat) (t : Nat), tNT T - t < q25 → (t ≤ tNT T) → (∀ v, v < t → (fun t => !leftT T (t + 1) j) v = false) → GG l D cl tys cX10_judge 3 (some .int) RX10 ({ frames := 87, cells := 0, slots := 0, locals := 2570 } : Room) (AM ma) MT (QM (Qi (fun (v : Int32) (u : Nat × (Nat → Nat) × (Nat → Nat) × Nat × (Nat → Int64) × Nat × (Nat → Nat)) => isJudge T (nI j) u.1 v) (fun (u : Nat × (Nat → Nat) × (Nat → Nat) × Nat × (Nat → Int64) × Nat × (Nat → Nat)) => HM D cl tys mi cI cJ cZ ma known fresh_ saved images isImage u.1 tape taped size_ at_ begin_ token value open_ bad badPlace faultKind faultPlace u.2.1 u.2.2.1 u.2.2.2.1 u.2.2.2.2.1 u.2.2.2.2.2.1 u.2.2.2.2.2.2 endsBehind path order firstOrder ordersMany tSort tMany numbers) (AM ma)) 0 0 (AM ma)) (HM D cl tys mi cI cJ cZ ma known fresh_ saved images isImage 0 tape taped size_ at_ begin_ token value open_ bad badPlace faultKind faultPlace xsL ysL pairsL rowsZ 21 heapsL endsBehind path order firstOrder ordersMany tSort tMany numbers) 0 0 25 [(0, .ref (ma 0)), (1, .int (nI j)), (2, .int (nI t))] [] := by
      intro q25
      induction q25 with
      | zero => intro t hq25; exact absurd hq25 (Nat.not_lt_zero _)
      | succ q25 ih25 =>
        intro t hq25 ht hi
        refine g_iload_n 2 dX10_judge_25 rfl rfl ?_
        refine g_aload_n 0 dX10_judge_26 rfl rfl ?_
        refine m_get_known dX10_judge_27 ?_
        refine g_bipush (v := nI 6) dX10_judge_30 (by decide +kernel) ?_
        refine m_ld_known dX10_judge_32 (by omega) ?_
        refine GG.topi k6 ?_
        refine g_icmp_ge_n (tgt := 55) dX10_judge_33 (by decide) (by omega) (by omega) (fun c33 => ?_) (fun c33 => ?_)
        · skip
          refine g_iconst (v := -1) dX10_judge_55 (by decide +kernel) ?_
          exact g_iret (_, _, _, _, _, _, _) dX10_judge_56 (Nat.le_refl _) (Nat.le_refl _) (by unfold isJudge; rw [hiw]; exact ⟨rfl, Or.inr ⟨fun v hv => hi v (by omega), rfl⟩⟩) (fun _ h => h)
        · skip
          refine g_aload_n 0 dX10_judge_36 rfl rfl ?_
          refine g_iload_n 2 dX10_judge_37 rfl rfl ?_
          refine g_iconst (v := nI 1) dX10_judge_38 (by decide +kernel) ?_
          refine g_iadd_n dX10_judge_39 ?_
          refine g_iload_n 1 dX10_judge_40 rfl rfl ?_
          refine m_cVi (ct_has _ _ (by omega) (by omega)) hvX10_has hyX10_has rfl ⟨Nat.le_of_ble_eq_true rfl, Nat.le_of_ble_eq_true rfl⟩ ⟨Nat.zero_le _, Nat.zero_le _⟩ rfl (Nat.le_of_ble_eq_true rfl) dX10_judge_41 m_rec (fun r u9 hp => ?_)
          obtain rfl := hp
          have hb9 := hr (t + 1) j (by omega) (by omega)
          refine g_if_ne_b (tgt := 49) dX10_judge_44 (by decide) (fun c44 => ?_) (fun c44 => ?_)
          · skip
            refine g_iinc_n (b := 1) (L' := [(0, _), (1, _), (2, _)]) dX10_judge_49 rfl rfl (by decide) rfl rfl ?_
            refine g_goto (tgt := 25) dX10_judge_52 (by decide) ?_
            refine ih25 (t + 1) (by omega) (by omega) (fun v hv => ?_)
            rcases Nat.lt_succ_iff_lt_or_eq.mp hv with h9 | h9
            · exact hi v h9
            · rw [h9]; show (!leftT T (t + 1) j) = false; rw [← hb9, c44]; rfl
          · skip
            refine g_iload_n 2 dX10_judge_47 rfl rfl ?_
            exact g_iret (_, _, _, _, _, _, _) dX10_judge_48 (Nat.le_refl _) (Nat.le_refl _) (by unfold isJudge; rw [hiw]; refine ⟨rfl, Or.inl ⟨t, by omega, ?_, hi, rfl⟩⟩; show (!leftT T (t + 1) j) = true; rw [← hb9, c44]; rfl) (fun _ h => h)
    exact loop25 (tNT T + 1) 0 (by omega) (by omega) (fun v hv => absurd hv (Nat.not_lt_zero _))
set_option maxHeartbeats 4000000 in
/-- what is at fault -/
theorem ct_askFault (T : Talk) (s0 w0 t0 : Int32) (hK : KIs known T) : CT l D cl tys yX10_askFault cX10_askFault 4 (some .int) ({ frames := 2, cells := 0, slots := 0, locals := 46 } : Room) [.ref (ma 0), .int s0, .int w0, .int t0] (HM D cl tys mi cI cJ cZ ma known fresh_ saved images isImage thrown tape taped size_ at_ begin_ token value open_ bad badPlace faultKind faultPlace xs ys pairs rows top heaps endsBehind path order firstOrder ordersMany tSort tMany numbers) (Qi (fun (v : Int32) (u : (Nat → Nat) × (Nat → Nat) × Nat) => v = nI (aFault T s0 w0 t0)) (fun (u : (Nat → Nat) × (Nat → Nat) × Nat) => HM D cl tys mi cI cJ cZ ma known fresh_ saved images isImage thrown tape taped size_ at_ begin_ token value open_ bad badPlace faultKind faultPlace u.1 u.2.1 u.2.2 rows top heaps endsBehind path order firstOrder ordersMany tSort tMany numbers) (AM ma)) (AM ma) := by
  obtain ⟨⟨o1, o2, o3, o4, o5, o6, o7, o8, o9, o10⟩, k0, k1, k2, k3, k4, k5, k6, k7, k8⟩ := id hK
  refine CT.of (L := [(0, .ref (ma 0)), (1, .int s0), (2, .int w0), (3, .int t0)]) rfl (by decide +kernel) rfl (Nat.le_of_ble_eq_true rfl) ?_
  rcases his : iR s0 (tNS T) with _ | i
  · skip
    refine g_aload_n 0 dX10_askFault_0 rfl rfl ?_
    refine g_iload_n 1 dX10_askFault_1 rfl rfl ?_
    refine m_cVi (ct_isSpeaker _ (tNS T) k5 (by omega)) hvX10_isSpeaker hyX10_isSpeaker rfl ⟨Nat.le_of_ble_eq_true rfl, Nat.le_of_ble_eq_true rfl⟩ ⟨Nat.zero_le _, Nat.zero_le _⟩ rfl (Nat.le_of_ble_eq_true rfl) dX10_askFault_2 m_rec (fun r u9 hp => ?_)
    obtain rfl := hp
    refine GG.topi (y := nI 0) (by rw [his]; rfl) ?_
    refine g_if_eq_n (tgt := 16) dX10_askFault_5 (by decide) (by decide) (fun _ => ?_) (fun h => absurd h (by decide))
    refine g_iconst (v := nI 1) dX10_askFault_16 (by decide +kernel) ?_
    refine g_goto (tgt := 33) dX10_askFault_17 (by decide) ?_
    exact g_iret (_, _, _) dX10_askFault_33 (Nat.le_refl _) (Nat.le_refl _) (by rw [show aFault T _ _ _ = 1 from (by first | (unfold aFault; rw [his]; done) | (unfold aFault; rw [his]; rfl) | (unfold aFault; simp only [his]; done) | (unfold aFault; simp only [his]; rfl))]) (fun _ h => h)
  · skip
    obtain ⟨hi, ei⟩ := iR_some his
    subst ei
    rcases hiw : iR w0 (tP T) with _ | j
    · skip
      refine g_aload_n 0 dX10_askFault_0 rfl rfl ?_
      refine g_iload_n 1 dX10_askFault_1 rfl rfl ?_
      refine m_cVi (ct_isSpeaker _ (tNS T) k5 (by omega)) hvX10_isSpeaker hyX10_isSpeaker rfl ⟨Nat.le_of_ble_eq_true rfl, Nat.le_of_ble_eq_true rfl⟩ ⟨Nat.zero_le _, Nat.zero_le _⟩ rfl (Nat.le_of_ble_eq_true rfl) dX10_askFault_2 m_rec (fun r u9 hp => ?_)
      obtain rfl := hp
      refine GG.topi (y := nI 1) (by rw [his]; rfl) ?_
      refine g_if_eq_n (tgt := 16) dX10_askFault_5 (by decide) (by decide) (fun h => absurd h (by decide)) (fun _ => ?_)
      refine g_aload_n 0 dX10_askFault_8 rfl rfl ?_
      refine g_iload_n 2 dX10_askFault_9 rfl rfl ?_
      refine m_cVi (ct_isWorld _ (tLow T) (tHigh T) (tMost T) (tUn T) k1 k2 k3 k4 o1 o2 o3 o4 o5) hvX10_isWorld hyX10_isWorld rfl ⟨Nat.le_of_ble_eq_true rfl, Nat.le_of_ble_eq_true rfl⟩ ⟨Nat.zero_le _, Nat.zero_le _⟩ rfl (Nat.le_of_ble_eq_true rfl) dX10_askFault_10 m_rec (fun r ul hld => ?_)
      obtain ⟨xsL, ysL, pairsL⟩ := ul
      dsimp only
      obtain ⟨hl, hr9⟩ := hld
      have hl : layd xsL ysL pairsL (tW T) := hl
      have hW := layd_OK hl o1 o3
      have hP : pairsL ≤ 1830 := hW.1
      have hPT : pairsL = tP T := hl.1
      subst hr9
      refine GG.topi (y := nI 0) (by show bI (iR _ (tP T)).isSome = _; rw [hiw]; rfl) ?_
      refine g_if_ne_n (tgt := 20) dX10_askFault_13 (by decide) (by decide) (fun h => absurd h (by decide)) (fun _ => ?_)
      refine g_iconst (v := nI 1) dX10_askFault_16 (by decide +kernel) ?_
      refine g_goto (tgt := 33) dX10_askFault_17 (by decide) ?_
      exact g_iret (_, _, _) dX10_askFault_33 (Nat.le_refl _) (Nat.le_refl _) (by rw [show aFault T _ _ _ = 1 from (by first | (unfold aFault; rw [his, hiw]; done) | (unfold aFault; rw [his, hiw]; rfl) | (unfold aFault; simp only [his, hiw]; done) | (unfold aFault; simp only [his, hiw]; rfl))]) (fun _ h => h)
    · skip
      obtain ⟨hj, ej⟩ := iR_some hiw
      subst ej
      rcases hit : iR t0 (tNT T + 1) with _ | k
      · skip
        refine g_aload_n 0 dX10_askFault_0 rfl rfl ?_
        refine g_iload_n 1 dX10_askFault_1 rfl rfl ?_
        refine m_cVi (ct_isSpeaker _ (tNS T) k5 (by omega)) hvX10_isSpeaker hyX10_isSpeaker rfl ⟨Nat.le_of_ble_eq_true rfl, Nat.le_of_ble_eq_true rfl⟩ ⟨Nat.zero_le _, Nat.zero_le _⟩ rfl (Nat.le_of_ble_eq_true rfl) dX10_askFault_2 m_rec (fun r u9 hp => ?_)
        obtain rfl := hp
        refine GG.topi (y := nI 1) (by rw [his]; rfl) ?_
        refine g_if_eq_n (tgt := 16) dX10_askFault_5 (by decide) (by decide) (fun h => absurd h (by decide)) (fun _ => ?_)
        refine g_aload_n 0 dX10_askFault_8 rfl rfl ?_
        refine g_iload_n 2 dX10_askFault_9 rfl rfl ?_
        refine m_cVi (ct_isWorld _ (tLow T) (tHigh T) (tMost T) (tUn T) k1 k2 k3 k4 o1 o2 o3 o4 o5) hvX10_isWorld hyX10_isWorld rfl ⟨Nat.le_of_ble_eq_true rfl, Nat.le_of_ble_eq_true rfl⟩ ⟨Nat.zero_le _, Nat.zero_le _⟩ rfl (Nat.le_of_ble_eq_true rfl) dX10_askFault_10 m_rec (fun r ul hld => ?_)
        obtain ⟨xsL, ysL, pairsL⟩ := ul
        dsimp only
        obtain ⟨hl, hr9⟩ := hld
        have hl : layd xsL ysL pairsL (tW T) := hl
        have hW := layd_OK hl o1 o3
        have hP : pairsL ≤ 1830 := hW.1
        have hPT : pairsL = tP T := hl.1
        subst hr9
        refine GG.topi (y := nI 1) (by show bI (iR _ (tP T)).isSome = _; rw [hiw]; rfl) ?_
        refine g_if_ne_n (tgt := 20) dX10_askFault_13 (by decide) (by decide) (fun _ => ?_) (fun h => absurd h (by decide))
        refine g_aload_n 0 dX10_askFault_20 rfl rfl ?_
        refine g_iload_n 3 dX10_askFault_21 rfl rfl ?_
        refine m_cVi (ct_isBehind _ (tNT T) k6 (by omega)) hvX10_isBehind hyX10_isBehind rfl ⟨Nat.le_of_ble_eq_true rfl, Nat.le_of_ble_eq_true rfl⟩ ⟨Nat.zero_le _, Nat.zero_le _⟩ rfl (Nat.le_of_ble_eq_true rfl) dX10_askFault_22 m_rec (fun r u9 hp => ?_)
        obtain rfl := hp
        refine GG.topi (y := nI 0) (by rw [hit]; rfl) ?_
        refine g_if_eq_n (tgt := 32) dX10_askFault_25 (by decide) (by decide) (fun _ => ?_) (fun h => absurd h (by decide))
        refine g_iconst (v := nI 2) dX10_askFault_32 (by decide +kernel) ?_
        exact g_iret (_, _, _) dX10_askFault_33 (Nat.le_refl _) (Nat.le_refl _) (by exact congrArg nI (show aFault T _ _ _ = _ by unfold aFault; rw [his, hiw]; dsimp only; rw [hit]).symm) (fun _ h => h)
      · skip
        obtain ⟨hk, ek⟩ := iR_some hit
        subst ek
        refine g_aload_n 0 dX10_askFault_0 rfl rfl ?_
        refine g_iload_n 1 dX10_askFault_1 rfl rfl ?_
        refine m_cVi (ct_isSpeaker _ (tNS T) k5 (by omega)) hvX10_isSpeaker hyX10_isSpeaker rfl ⟨Nat.le_of_ble_eq_true rfl, Nat.le_of_ble_eq_true rfl⟩ ⟨Nat.zero_le _, Nat.zero_le _⟩ rfl (Nat.le_of_ble_eq_true rfl) dX10_askFault_2 m_rec (fun r u9 hp => ?_)
        obtain rfl := hp
        refine GG.topi (y := nI 1) (by rw [his]; rfl) ?_
        refine g_if_eq_n (tgt := 16) dX10_askFault_5 (by decide) (by decide) (fun h => absurd h (by decide)) (fun _ => ?_)
        refine g_aload_n 0 dX10_askFault_8 rfl rfl ?_
        refine g_iload_n 2 dX10_askFault_9 rfl rfl ?_
        refine m_cVi (ct_isWorld _ (tLow T) (tHigh T) (tMost T) (tUn T) k1 k2 k3 k4 o1 o2 o3 o4 o5) hvX10_isWorld hyX10_isWorld rfl ⟨Nat.le_of_ble_eq_true rfl, Nat.le_of_ble_eq_true rfl⟩ ⟨Nat.zero_le _, Nat.zero_le _⟩ rfl (Nat.le_of_ble_eq_true rfl) dX10_askFault_10 m_rec (fun r ul hld => ?_)
        obtain ⟨xsL, ysL, pairsL⟩ := ul
        dsimp only
        obtain ⟨hl, hr9⟩ := hld
        have hl : layd xsL ysL pairsL (tW T) := hl
        have hW := layd_OK hl o1 o3
        have hP : pairsL ≤ 1830 := hW.1
        have hPT : pairsL = tP T := hl.1
        subst hr9
        refine GG.topi (y := nI 1) (by show bI (iR _ (tP T)).isSome = _; rw [hiw]; rfl) ?_
        refine g_if_ne_n (tgt := 20) dX10_askFault_13 (by decide) (by decide) (fun _ => ?_) (fun h => absurd h (by decide))
        refine g_aload_n 0 dX10_askFault_20 rfl rfl ?_
        refine g_iload_n 3 dX10_askFault_21 rfl rfl ?_
        refine m_cVi (ct_isBehind _ (tNT T) k6 (by omega)) hvX10_isBehind hyX10_isBehind rfl ⟨Nat.le_of_ble_eq_true rfl, Nat.le_of_ble_eq_true rfl⟩ ⟨Nat.zero_le _, Nat.zero_le _⟩ rfl (Nat.le_of_ble_eq_true rfl) dX10_askFault_22 m_rec (fun r u9 hp => ?_)
        obtain rfl := hp
        refine GG.topi (y := nI 1) (by rw [hit]; rfl) ?_
        refine g_if_eq_n (tgt := 32) dX10_askFault_25 (by decide) (by decide) (fun h => absurd h (by decide)) (fun _ => ?_)
        refine g_iconst (v := nI 0) dX10_askFault_28 (by decide +kernel) ?_
        refine g_goto (tgt := 33) dX10_askFault_29 (by decide) ?_
        exact g_iret (_, _, _) dX10_askFault_33 (Nat.le_refl _) (Nat.le_refl _) (by exact congrArg nI (show aFault T _ _ _ = _ by unfold aFault; rw [his, hiw]; dsimp only; rw [hit]).symm) (fun _ h => h)
set_option maxHeartbeats 4000000 in
/-- does one know -/
theorem ct_knows (T : Talk) (s0 w0 t0 : Int32) (hK : KIs known T) : CT l D cl tys yX10_knows cX10_knows 5 (some .boolean) ({ frames := 87, cells := 0, slots := 0, locals := 2570 } : Room) [.ref (ma 0), .int s0, .int w0, .int t0] (HM D cl tys mi cI cJ cZ ma known fresh_ saved images isImage thrown tape taped size_ at_ begin_ token value open_ bad badPlace faultKind faultPlace xs ys pairs rows top heaps endsBehind path order firstOrder ordersMany tSort tMany numbers) (Qi (fun (v : Int32) (u : Nat × (Nat → Nat) × (Nat → Nat) × Nat × (Nat → Int64) × Nat × (Nat → Nat)) => ans (aKnows T s0 w0 t0) u.1 v) (fun (u : Nat × (Nat → Nat) × (Nat → Nat) × Nat × (Nat → Int64) × Nat × (Nat → Nat)) => HM D cl tys mi cI cJ cZ ma known fresh_ saved images isImage u.1 tape taped size_ at_ begin_ token value open_ bad badPlace faultKind faultPlace u.2.1 u.2.2.1 u.2.2.2.1 u.2.2.2.2.1 u.2.2.2.2.2.1 u.2.2.2.2.2.2 endsBehind path order firstOrder ordersMany tSort tMany numbers) (AM ma)) (AM ma) := by
  obtain ⟨⟨o1, o2, o3, o4, o5, o6, o7, o8, o9, o10⟩, k0, k1, k2, k3, k4, k5, k6, k7, k8⟩ := id hK
  refine CT.of (L := [(0, .ref (ma 0)), (1, .int s0), (2, .int w0), (3, .int t0)]) rfl (by decide +kernel) rfl (Nat.le_of_ble_eq_true rfl) ?_
  rcases his : iR s0 (tNS T) with _ | i
  · skip
    refine g_aload_n 0 dX10_knows_0 rfl rfl ?_
    refine g_aload_n 0 dX10_knows_1 rfl rfl ?_
    refine g_iload_n 1 dX10_knows_2 rfl rfl ?_
    refine g_iload_n 2 dX10_knows_3 rfl rfl ?_
    refine g_iload_n 3 dX10_knows_4 rfl rfl ?_
    refine m_cVi (ct_askFault T _ _ _ hK) hvX10_askFault hyX10_askFault rfl ⟨Nat.le_of_ble_eq_true rfl, Nat.le_of_ble_eq_true rfl⟩ ⟨Nat.zero_le _, Nat.zero_le _⟩ rfl (Nat.le_of_ble_eq_true rfl) dX10_knows_5 m_rec (fun r uf hp => ?_)
    obtain ⟨xsF, ysF, pairsF⟩ := uf
    obtain rfl := hp
    dsimp only
    refine GG.topi (y := nI 1) (congrArg nI (show aFault T _ _ _ = _ by first | (unfold aFault; rw [his]; done) | (unfold aFault; rw [his]; rfl) | (unfold aFault; simp only [his]; done) | (unfold aFault; simp only [his]; rfl))) ?_
    refine m_put_thrown dX10_knows_8 ?_
    refine g_aload_n 0 dX10_knows_11 rfl rfl ?_
    refine m_get_thrown dX10_knows_12 ?_
    refine g_if_le_n (tgt := 20) dX10_knows_15 (by decide) (by decide) (fun h => absurd h (by decide)) (fun _ => ?_)
    refine g_iconst (v := nI 0) dX10_knows_18 (by decide +kernel) ?_
    exact g_zret (b := false) (_, _, _, _, _, _, _) dX10_knows_19 (Nat.le_refl _) (Nat.le_refl _) (by exact ansF (by first | (unfold aKnows; rw [his]; done) | (unfold aKnows; rw [his]; rfl) | (unfold aKnows; simp only [his]; done) | (unfold aKnows; simp only [his]; rfl)) (Nat.succ_ne_zero _)) (fun _ h => h)
  · skip
    obtain ⟨hi, ei⟩ := iR_some his
    subst ei
    rcases hiw : iR w0 (tP T) with _ | j
    · skip
      refine g_aload_n 0 dX10_knows_0 rfl rfl ?_
      refine g_aload_n 0 dX10_knows_1 rfl rfl ?_
      refine g_iload_n 1 dX10_knows_2 rfl rfl ?_
      refine g_iload_n 2 dX10_knows_3 rfl rfl ?_
      refine g_iload_n 3 dX10_knows_4 rfl rfl ?_
      refine m_cVi (ct_askFault T _ _ _ hK) hvX10_askFault hyX10_askFault rfl ⟨Nat.le_of_ble_eq_true rfl, Nat.le_of_ble_eq_true rfl⟩ ⟨Nat.zero_le _, Nat.zero_le _⟩ rfl (Nat.le_of_ble_eq_true rfl) dX10_knows_5 m_rec (fun r uf hp => ?_)
      obtain ⟨xsF, ysF, pairsF⟩ := uf
      obtain rfl := hp
      dsimp only
      refine GG.topi (y := nI 1) (congrArg nI (show aFault T _ _ _ = _ by first | (unfold aFault; rw [his, hiw]; done) | (unfold aFault; rw [his, hiw]; rfl) | (unfold aFault; simp only [his, hiw]; done) | (unfold aFault; simp only [his, hiw]; rfl))) ?_
      refine m_put_thrown dX10_knows_8 ?_
      refine g_aload_n 0 dX10_knows_11 rfl rfl ?_
      refine m_get_thrown dX10_knows_12 ?_
      refine g_if_le_n (tgt := 20) dX10_knows_15 (by decide) (by decide) (fun h => absurd h (by decide)) (fun _ => ?_)
      refine g_iconst (v := nI 0) dX10_knows_18 (by decide +kernel) ?_
      exact g_zret (b := false) (_, _, _, _, _, _, _) dX10_knows_19 (Nat.le_refl _) (Nat.le_refl _) (by exact ansF (by first | (unfold aKnows; rw [his, hiw]; done) | (unfold aKnows; rw [his, hiw]; rfl) | (unfold aKnows; simp only [his, hiw]; done) | (unfold aKnows; simp only [his, hiw]; rfl)) (Nat.succ_ne_zero _)) (fun _ h => h)
    · skip
      obtain ⟨hj, ej⟩ := iR_some hiw
      subst ej
      rcases hit : iR t0 (tNT T + 1) with _ | k
      · skip
        refine g_aload_n 0 dX10_knows_0 rfl rfl ?_
        refine g_aload_n 0 dX10_knows_1 rfl rfl ?_
        refine g_iload_n 1 dX10_knows_2 rfl rfl ?_
        refine g_iload_n 2 dX10_knows_3 rfl rfl ?_
        refine g_iload_n 3 dX10_knows_4 rfl rfl ?_
        refine m_cVi (ct_askFault T _ _ _ hK) hvX10_askFault hyX10_askFault rfl ⟨Nat.le_of_ble_eq_true rfl, Nat.le_of_ble_eq_true rfl⟩ ⟨Nat.zero_le _, Nat.zero_le _⟩ rfl (Nat.le_of_ble_eq_true rfl) dX10_knows_5 m_rec (fun r uf hp => ?_)
        obtain ⟨xsF, ysF, pairsF⟩ := uf
        obtain rfl := hp
        dsimp only
        refine GG.topi (y := nI 2) (congrArg nI (show aFault T _ _ _ = _ by unfold aFault; rw [his, hiw]; dsimp only; rw [hit])) ?_
        refine m_put_thrown dX10_knows_8 ?_
        refine g_aload_n 0 dX10_knows_11 rfl rfl ?_
        refine m_get_thrown dX10_knows_12 ?_
        refine g_if_le_n (tgt := 20) dX10_knows_15 (by decide) (by decide) (fun h => absurd h (by decide)) (fun _ => ?_)
        refine g_iconst (v := nI 0) dX10_knows_18 (by decide +kernel) ?_
        exact g_zret (b := false) (_, _, _, _, _, _, _) dX10_knows_19 (Nat.le_refl _) (Nat.le_refl _) (by exact ansF (by unfold aKnows; rw [his, hiw]; dsimp only; rw [hit]) (Nat.succ_ne_zero _)) (fun _ h => h)
      · skip
        obtain ⟨hk, ek⟩ := iR_some hit
        subst ek
        refine g_aload_n 0 dX10_knows_0 rfl rfl ?_
        refine g_aload_n 0 dX10_knows_1 rfl rfl ?_
        refine g_iload_n 1 dX10_knows_2 rfl rfl ?_
        refine g_iload_n 2 dX10_knows_3 rfl rfl ?_
        refine g_iload_n 3 dX10_knows_4 rfl rfl ?_
        refine m_cVi (ct_askFault T _ _ _ hK) hvX10_askFault hyX10_askFault rfl ⟨Nat.le_of_ble_eq_true rfl, Nat.le_of_ble_eq_true rfl⟩ ⟨Nat.zero_le _, Nat.zero_le _⟩ rfl (Nat.le_of_ble_eq_true rfl) dX10_knows_5 m_rec (fun r uf hp => ?_)
        obtain ⟨xsF, ysF, pairsF⟩ := uf
        obtain rfl := hp
        dsimp only
        refine GG.topi (y := nI 0) (congrArg nI (show aFault T _ _ _ = _ by unfold aFault; rw [his, hiw]; dsimp only; rw [hit])) ?_
        refine m_put_thrown dX10_knows_8 ?_
        refine g_aload_n 0 dX10_knows_11 rfl rfl ?_
        refine m_get_thrown dX10_knows_12 ?_
        refine g_if_le_n (tgt := 20) dX10_knows_15 (by decide) (by decide) (fun _ => ?_) (fun h => absurd h (by decide))
        refine g_aload_n 0 dX10_knows_20 rfl rfl ?_
        refine m_cVv (ct_lays T hK) hvX10_lays hyX10_lays rfl ⟨Nat.le_of_ble_eq_true rfl, Nat.le_of_ble_eq_true rfl⟩ ⟨Nat.zero_le _, Nat.zero_le _⟩ rfl (Nat.le_of_ble_eq_true rfl) dX10_knows_21 m_rec (fun ul hul => ?_)
        obtain ⟨heapsL, rowsZ, xsL, ysL, pairsL⟩ := ul
        dsimp only
        obtain ⟨hl, hr⟩ := hul
        have hl : layd xsL ysL pairsL (tW T) := hl
        have hr : rowsL rowsZ T (tNT T) := hr
        have hW := layd_OK hl o1 o3
        have hP : pairsL ≤ 1830 := hW.1
        have hPT : pairsL = tP T := hl.1
        refine g_aload_n 0 dX10_knows_24 rfl rfl ?_
        refine m_cVi (ct_pushes) hvX10_pushes hyX10_pushes rfl ⟨Nat.le_of_ble_eq_true rfl, Nat.le_of_ble_eq_true rfl⟩ ⟨Nat.zero_le _, Nat.zero_le _⟩ rfl (Nat.le_of_ble_eq_true rfl) dX10_knows_25 m_rec (fun r u hp => ?_)
        obtain rfl := hp
        refine g_istore (L' := [(0, _), (1, _), (2, _), (3, _), (4, _)]) dX10_knows_28 (by decide) rfl rfl ?_
        have join47 : ∀ (b9 : Nat), (b9 = tHear T i k) → GG l D cl tys cX10_knows 5 (some .boolean) RX10 ({ frames := 87, cells := 0, slots := 0, locals := 2570 } : Room) (AM ma) MT (QM (Qi (fun (v : Int32) (u : Nat × (Nat → Nat) × (Nat → Nat) × Nat × (Nat → Int64) × Nat × (Nat → Nat)) => ans (aKnows T (nI i) (nI j) (nI k)) u.1 v) (fun (u : Nat × (Nat → Nat) × (Nat → Nat) × Nat × (Nat → Int64) × Nat × (Nat → Nat)) => HM D cl tys mi cI cJ cZ ma known fresh_ saved images isImage u.1 tape taped size_ at_ begin_ token value open_ bad badPlace faultKind faultPlace u.2.1 u.2.2.1 u.2.2.2.1 u.2.2.2.2.1 u.2.2.2.2.2.1 u.2.2.2.2.2.2 endsBehind path order firstOrder ordersMany tSort tMany numbers) (AM ma)) 0 0 (AM ma)) (HM D cl tys mi cI cJ cZ ma known fresh_ saved images isImage 0 tape taped size_ at_ begin_ token value open_ bad badPlace faultKind faultPlace xsL ysL pairsL rowsZ (21 + 1) heapsL endsBehind path order firstOrder ordersMany tSort tMany numbers) 0 0 47 [(0, .ref (ma 0)), (1, .int (nI i)), (2, .int (nI j)), (3, .int (nI k)), (4, .int (nI 21))] [.int (nI b9), .int (nI i), .ref (ma 0)] := by
          intro b9 hb9
          have hb9le : b9 ≤ k := by rw [hb9]; exact tHear_le _ _ _
          refine g_iload dX10_knows_47 rfl ?_
          refine m_cVv (ct_laysKnowing i _ _ (tKind T i) (by omega) (k7 i hi).1 (by have := o8 i hi; omega) (by omega) (by omega) (by omega) hW) hvX10_laysKnowing hyX10_laysKnowing rfl ⟨Nat.le_of_ble_eq_true rfl, Nat.le_of_ble_eq_true rfl⟩ ⟨Nat.zero_le _, Nat.zero_le _⟩ rfl (Nat.le_of_ble_eq_true rfl) dX10_knows_49 m_rec (fun u3 hk3 => ?_)
          obtain ⟨heaps3, rows3⟩ := u3
          have hk3 : rowsUp rowsZ rows3 21 pairsL _ := hk3
          dsimp only
          have hkn : ∀ v, v < pairsL → rbt rows3 21 v = knowT T i k v := fun v hv => by
            rw [rowsUp_in hk3 hP hv, hPT, hb9]
            exact knowF_congr (by omega) (fun z hz => slW_congr (layd_XY hl (by omega))) (fun z hz => hr _ z (by have := tHear_le T i k; omega) (by omega))
          refine g_aload_n 0 dX10_knows_52 rfl rfl ?_
          refine g_iload dX10_knows_53 rfl ?_
          refine g_iload_n 2 dX10_knows_55 rfl rfl ?_
          refine m_cVi (ct_has _ _ (by omega) (by omega)) hvX10_has hyX10_has rfl ⟨Nat.le_of_ble_eq_true rfl, Nat.le_of_ble_eq_true rfl⟩ ⟨Nat.zero_le _, Nat.zero_le _⟩ rfl (Nat.le_of_ble_eq_true rfl) dX10_knows_56 m_rec (fun r u hp => ?_)
          obtain rfl := hp
          exact g_zret (_, _, _, _, _, _, _) dX10_knows_59 (Nat.le_refl _) (Nat.le_refl _) (by exact ansT (by unfold aKnows; rw [his, hiw]; dsimp only; rw [hit]) (congrArg bI (hkn j (by omega)))) (fun _ h => h)
        refine g_aload_n 0 dX10_knows_30 rfl rfl ?_
        refine g_iload_n 1 dX10_knows_31 rfl rfl ?_
        refine g_aload_n 0 dX10_knows_32 rfl rfl ?_
        refine g_iload_n 1 dX10_knows_33 rfl rfl ?_
        refine g_iconst (v := nI 2) dX10_knows_34 (by decide +kernel) ?_
        refine m_cVi (ct_of _ _ (by omega)) hvX10_of hyX10_of rfl ⟨Nat.le_of_ble_eq_true rfl, Nat.le_of_ble_eq_true rfl⟩ ⟨Nat.zero_le _, Nat.zero_le _⟩ rfl (Nat.le_of_ble_eq_true rfl) dX10_knows_35 m_rec (fun r u hp => ?_)
        obtain rfl := hp
        refine GG.topi (k7 i hi).2.2 ?_
        refine g_iconst (v := nI 1) dX10_knows_38 (by decide +kernel) ?_
        refine g_icmp_ne_b (b := true) (tgt := 46) dX10_knows_39 (by decide) (fun c39 => ?_) (fun c39 => ?_)
        · skip
          refine g_iload_n 3 dX10_knows_46 rfl rfl ?_
          exact join47 _ (by unfold tHear; first | (rw [if_pos c39]) | (rw [if_neg c39]))
        · skip
          refine g_iconst (v := nI 0) dX10_knows_42 (by decide +kernel) ?_
          refine g_goto (tgt := 47) dX10_knows_43 (by decide) ?_
          exact join47 _ (by unfold tHear; first | (rw [if_pos c39]) | (rw [if_neg c39]))
set_option maxHeartbeats 4000000 in
/-- in how many worlds one knows -/
theorem ct_knowing (T : Talk) (s0 t0 : Int32) (hK : KIs known T) : CT l D cl tys yX10_knowing cX10_knowing 6 (some .int) ({ frames := 87, cells := 0, slots := 0, locals := 2570 } : Room) [.ref (ma 0), .int s0, .int t0] (HM D cl tys mi cI cJ cZ ma known fresh_ saved images isImage thrown tape taped size_ at_ begin_ token value open_ bad badPlace faultKind faultPlace xs ys pairs rows top heaps endsBehind path order firstOrder ordersMany tSort tMany numbers) (Qi (fun (v : Int32) (u : Nat × (Nat → Nat) × (Nat → Nat) × Nat × (Nat → Int64) × Nat × (Nat → Nat)) => ans (aKnowing T s0 t0) u.1 v) (fun (u : Nat × (Nat → Nat) × (Nat → Nat) × Nat × (Nat → Int64) × Nat × (Nat → Nat)) => HM D cl tys mi cI cJ cZ ma known fresh_ saved images isImage u.1 tape taped size_ at_ begin_ token value open_ bad badPlace faultKind faultPlace u.2.1 u.2.2.1 u.2.2.2.1 u.2.2.2.2.1 u.2.2.2.2.2.1 u.2.2.2.2.2.2 endsBehind path order firstOrder ordersMany tSort tMany numbers) (AM ma)) (AM ma) := by
  obtain ⟨⟨o1, o2, o3, o4, o5, o6, o7, o8, o9, o10⟩, k0, k1, k2, k3, k4, k5, k6, k7, k8⟩ := id hK
  refine CT.of (L := [(0, .ref (ma 0)), (1, .int s0), (2, .int t0)]) rfl (by decide +kernel) rfl (Nat.le_of_ble_eq_true rfl) ?_
  rcases his : iR s0 (tNS T) with _ | i
  · skip
    refine g_aload_n 0 dX10_knowing_0 rfl rfl ?_
    refine g_aload_n 0 dX10_knowing_1 rfl rfl ?_
    refine g_iload_n 1 dX10_knowing_2 rfl rfl ?_
    refine m_cVi (ct_isSpeaker _ (tNS T) k5 (by omega)) hvX10_isSpeaker hyX10_isSpeaker rfl ⟨Nat.le_of_ble_eq_true rfl, Nat.le_of_ble_eq_true rfl⟩ ⟨Nat.zero_le _, Nat.zero_le _⟩ rfl (Nat.le_of_ble_eq_true rfl) dX10_knowing_3 m_rec (fun r u9 hp => ?_)
    obtain rfl := hp
    refine GG.topi (y := nI 0) (by rw [his]; rfl) ?_
    refine g_if_ne_n (tgt := 13) dX10_knowing_6 (by decide) (by decide) (fun h => absurd h (by decide)) (fun _ => ?_)
    refine g_iconst (v := nI 1) dX10_knowing_9 (by decide +kernel) ?_
    refine g_goto (tgt := 26) dX10_knowing_10 (by decide) ?_
    refine m_put_thrown dX10_knowing_26 ?_
    refine g_aload_n 0 dX10_knowing_29 rfl rfl ?_
    refine m_get_thrown dX10_knowing_30 ?_
    refine g_if_le_n (tgt := 38) dX10_knowing_33 (by decide) (by decide) (fun h => absurd h (by decide)) (fun _ => ?_)
    refine g_iconst (v := nI 0) dX10_knowing_36 (by decide +kernel) ?_
    exact g_iret (_, _, _, _, _, _, _) dX10_knowing_37 (Nat.le_refl _) (Nat.le_refl _) (by exact ansF (by first | (unfold aKnowing; rw [his]; done) | (unfold aKnowing; rw [his]; rfl) | (unfold aKnowing; simp only [his]; done) | (unfold aKnowing; simp only [his]; rfl)) (Nat.succ_ne_zero _)) (fun _ h => h)
  · skip
    obtain ⟨hi, ei⟩ := iR_some his
    subst ei
    rcases hit : iR t0 (tNT T + 1) with _ | k
    · skip
      refine g_aload_n 0 dX10_knowing_0 rfl rfl ?_
      refine g_aload_n 0 dX10_knowing_1 rfl rfl ?_
      refine g_iload_n 1 dX10_knowing_2 rfl rfl ?_
      refine m_cVi (ct_isSpeaker _ (tNS T) k5 (by omega)) hvX10_isSpeaker hyX10_isSpeaker rfl ⟨Nat.le_of_ble_eq_true rfl, Nat.le_of_ble_eq_true rfl⟩ ⟨Nat.zero_le _, Nat.zero_le _⟩ rfl (Nat.le_of_ble_eq_true rfl) dX10_knowing_3 m_rec (fun r u9 hp => ?_)
      obtain rfl := hp
      refine GG.topi (y := nI 1) (by rw [his]; rfl) ?_
      refine g_if_ne_n (tgt := 13) dX10_knowing_6 (by decide) (by decide) (fun _ => ?_) (fun h => absurd h (by decide))
      refine g_aload_n 0 dX10_knowing_13 rfl rfl ?_
      refine g_iload_n 2 dX10_knowing_14 rfl rfl ?_
      refine m_cVi (ct_isBehind _ (tNT T) k6 (by omega)) hvX10_isBehind hyX10_isBehind rfl ⟨Nat.le_of_ble_eq_true rfl, Nat.le_of_ble_eq_true rfl⟩ ⟨Nat.zero_le _, Nat.zero_le _⟩ rfl (Nat.le_of_ble_eq_true rfl) dX10_knowing_15 m_rec (fun r u9 hp => ?_)
      obtain rfl := hp
      refine GG.topi (y := nI 0) (by rw [hit]; rfl) ?_
      refine g_if_eq_n (tgt := 25) dX10_knowing_18 (by decide) (by decide) (fun _ => ?_) (fun h => absurd h (by decide))
      refine g_iconst (v := nI 2) dX10_knowing_25 (by decide +kernel) ?_
      refine m_put_thrown dX10_knowing_26 ?_
      refine g_aload_n 0 dX10_knowing_29 rfl rfl ?_
      refine m_get_thrown dX10_knowing_30 ?_
      refine g_if_le_n (tgt := 38) dX10_knowing_33 (by decide) (by decide) (fun h => absurd h (by decide)) (fun _ => ?_)
      refine g_iconst (v := nI 0) dX10_knowing_36 (by decide +kernel) ?_
      exact g_iret (_, _, _, _, _, _, _) dX10_knowing_37 (Nat.le_refl _) (Nat.le_refl _) (by exact ansF (by unfold aKnowing; rw [his]; dsimp only; rw [hit]) (Nat.succ_ne_zero _)) (fun _ h => h)
    · skip
      obtain ⟨hk, ek⟩ := iR_some hit
      subst ek
      refine g_aload_n 0 dX10_knowing_0 rfl rfl ?_
      refine g_aload_n 0 dX10_knowing_1 rfl rfl ?_
      refine g_iload_n 1 dX10_knowing_2 rfl rfl ?_
      refine m_cVi (ct_isSpeaker _ (tNS T) k5 (by omega)) hvX10_isSpeaker hyX10_isSpeaker rfl ⟨Nat.le_of_ble_eq_true rfl, Nat.le_of_ble_eq_true rfl⟩ ⟨Nat.zero_le _, Nat.zero_le _⟩ rfl (Nat.le_of_ble_eq_true rfl) dX10_knowing_3 m_rec (fun r u9 hp => ?_)
      obtain rfl := hp
      refine GG.topi (y := nI 1) (by rw [his]; rfl) ?_
      refine g_if_ne_n (tgt := 13) dX10_knowing_6 (by decide) (by decide) (fun _ => ?_) (fun h => absurd h (by decide))
      refine g_aload_n 0 dX10_knowing_13 rfl rfl ?_
      refine g_iload_n 2 dX10_knowing_14 rfl rfl ?_
      refine m_cVi (ct_isBehind _ (tNT T) k6 (by omega)) hvX10_isBehind hyX10_isBehind rfl ⟨Nat.le_of_ble_eq_true rfl, Nat.le_of_ble_eq_true rfl⟩ ⟨Nat.zero_le _, Nat.zero_le _⟩ rfl (Nat.le_of_ble_eq_true rfl) dX10_knowing_15 m_rec (fun r u9 hp => ?_)
      obtain rfl := hp
      refine GG.topi (y := nI 1) (by rw [hit]; rfl) ?_
      refine g_if_eq_n (tgt := 25) dX10_knowing_18 (by decide) (by decide) (fun h => absurd h (by decide)) (fun _ => ?_)
      refine g_iconst (v := nI 0) dX10_knowing_21 (by decide +kernel) ?_
      refine g_goto (tgt := 26) dX10_knowing_22 (by decide) ?_
      refine m_put_thrown dX10_knowing_26 ?_
      refine g_aload_n 0 dX10_knowing_29 rfl rfl ?_
      refine m_get_thrown dX10_knowing_30 ?_
      refine g_if_le_n (tgt := 38) dX10_knowing_33 (by decide) (by decide) (fun _ => ?_) (fun h => absurd h (by decide))
      refine g_aload_n 0 dX10_knowing_38 rfl rfl ?_
      refine m_cVv (ct_lays T hK) hvX10_lays hyX10_lays rfl ⟨Nat.le_of_ble_eq_true rfl, Nat.le_of_ble_eq_true rfl⟩ ⟨Nat.zero_le _, Nat.zero_le _⟩ rfl (Nat.le_of_ble_eq_true rfl) dX10_knowing_39 m_rec (fun ul hul => ?_)
      obtain ⟨heapsL, rowsZ, xsL, ysL, pairsL⟩ := ul
      dsimp only
      obtain ⟨hl, hr⟩ := hul
      have hl : layd xsL ysL pairsL (tW T) := hl
      have hr : rowsL rowsZ T (tNT T) := hr
      have hW := layd_OK hl o1 o3
      have hP : pairsL ≤ 1830 := hW.1
      have hPT : pairsL = tP T := hl.1
      refine g_aload_n 0 dX10_knowing_42 rfl rfl ?_
      refine m_cVi (ct_pushes) hvX10_pushes hyX10_pushes rfl ⟨Nat.le_of_ble_eq_true rfl, Nat.le_of_ble_eq_true rfl⟩ ⟨Nat.zero_le _, Nat.zero_le _⟩ rfl (Nat.le_of_ble_eq_true rfl) dX10_knowing_43 m_rec (fun r u hp => ?_)
      obtain rfl := hp
      refine g_istore_n (L' := [(0, _), (1, _), (2, _), (3, _)]) 3 dX10_knowing_46 rfl (by decide) rfl rfl ?_
      have join64 : ∀ (b9 : Nat), (b9 = tHear T i k) → GG l D cl tys cX10_knowing 6 (some .int) RX10 ({ frames := 87, cells := 0, slots := 0, locals := 2570 } : Room) (AM ma) MT (QM (Qi (fun (v : Int32) (u : Nat × (Nat → Nat) × (Nat → Nat) × Nat × (Nat → Int64) × Nat × (Nat → Nat)) => ans (aKnowing T (nI i) (nI k)) u.1 v) (fun (u : Nat × (Nat → Nat) × (Nat → Nat) × Nat × (Nat → Int64) × Nat × (Nat → Nat)) => HM D cl tys mi cI cJ cZ ma known fresh_ saved images isImage u.1 tape taped size_ at_ begin_ token value open_ bad badPlace faultKind faultPlace u.2.1 u.2.2.1 u.2.2.2.1 u.2.2.2.2.1 u.2.2.2.2.2.1 u.2.2.2.2.2.2 endsBehind path order firstOrder ordersMany tSort tMany numbers) (AM ma)) 0 0 (AM ma)) (HM D cl tys mi cI cJ cZ ma known fresh_ saved images isImage 0 tape taped size_ at_ begin_ token value open_ bad badPlace faultKind faultPlace xsL ysL pairsL rowsZ (21 + 1) heapsL endsBehind path order firstOrder ordersMany tSort tMany numbers) 0 0 64 [(0, .ref (ma 0)), (1, .int (nI i)), (2, .int (nI k)), (3, .int (nI 21))] [.int (nI b9), .int (nI i), .ref (ma 0)] := by
        intro b9 hb9
        have hb9le : b9 ≤ k := by rw [hb9]; exact tHear_le _ _ _
        refine g_iload_n 3 dX10_knowing_64 rfl rfl ?_
        refine m_cVv (ct_laysKnowing i _ _ (tKind T i) (by omega) (k7 i hi).1 (by have := o8 i hi; omega) (by omega) (by omega) (by omega) hW) hvX10_laysKnowing hyX10_laysKnowing rfl ⟨Nat.le_of_ble_eq_true rfl, Nat.le_of_ble_eq_true rfl⟩ ⟨Nat.zero_le _, Nat.zero_le _⟩ rfl (Nat.le_of_ble_eq_true rfl) dX10_knowing_65 m_rec (fun u3 hk3 => ?_)
        obtain ⟨heaps3, rows3⟩ := u3
        have hk3 : rowsUp rowsZ rows3 21 pairsL _ := hk3
        dsimp only
        have hkn : ∀ v, v < pairsL → rbt rows3 21 v = knowT T i k v := fun v hv => by
          rw [rowsUp_in hk3 hP hv, hPT, hb9]
          exact knowF_congr (by omega) (fun z hz => slW_congr (layd_XY hl (by omega))) (fun z hz => hr _ z (by have := tHear_le T i k; omega) (by omega))
        refine g_iconst (v := nI 0) dX10_knowing_68 (by decide +kernel) ?_
        refine g_istore (L' := [(0, _), (1, _), (2, _), (3, _), (4, _)]) dX10_knowing_69 (by decide) rfl rfl ?_
        refine g_iconst (v := nI 0) dX10_knowing_71 (by decide +kernel) ?_
        refine g_istore (L' := [(0, _), (1, _), (2, _), (3, _), (4, _), (5, _)]) dX10_knowing_72 (by decide) rfl rfl ?_
        have loop74 : ∀ (q74 : Nat) (w : Nat), pairsL - w < q74 → (w ≤ pairsL) → GG l D cl tys cX10_knowing 6 (some .int) RX10 ({ frames := 87, cells := 0, slots := 0, locals := 2570 } : Room) (AM ma) MT (QM (Qi (fun (v : Int32) (u : Nat × (Nat → Nat) × (Nat → Nat) × Nat × (Nat → Int64) × Nat × (Nat → Nat)) => ans (aKnowing T (nI i) (nI k)) u.1 v) (fun (u : Nat × (Nat → Nat) × (Nat → Nat) × Nat × (Nat → Int64) × Nat × (Nat → Nat)) => HM D cl tys mi cI cJ cZ ma known fresh_ saved images isImage u.1 tape taped size_ at_ begin_ token value open_ bad badPlace faultKind faultPlace u.2.1 u.2.2.1 u.2.2.2.1 u.2.2.2.2.1 u.2.2.2.2.2.1 u.2.2.2.2.2.2 endsBehind path order firstOrder ordersMany tSort tMany numbers) (AM ma)) 0 0 (AM ma)) (HM D cl tys mi cI cJ cZ ma known fresh_ saved images isImage 0 tape taped size_ at_ begin_ token value open_ bad badPlace faultKind faultPlace xsL ysL pairsL rows3 (21 + 1) heaps3 endsBehind path order firstOrder ordersMany tSort tMany numbers) 0 0 74 [(0, .ref (ma 0)), (1, .int (nI i)), (2, .int (nI k)), (3, .int (nI 21)), (4, .int (nI (cnt (fun w => leftT T k w && knowT T i k w) w))), (5, .int (nI w))] [] := by
          intro q74
          induction q74 with
          | zero => intro w hq74; exact absurd hq74 (Nat.not_lt_zero _)
          | succ q74 ih74 =>
            intro w hq74 hw
            refine g_iload dX10_knowing_74 rfl ?_
            refine g_aload_n 0 dX10_knowing_76 rfl rfl ?_
            refine m_get_pairs dX10_knowing_77 ?_
            refine g_icmp_ge_n (tgt := 119) dX10_knowing_80 (by decide) (by omega) (by omega) (fun c80 => ?_) (fun c80 => ?_)
            · skip
              refine g_iload dX10_knowing_119 rfl ?_
              exact g_iret (_, _, _, _, _, _, _) dX10_knowing_121 (Nat.le_refl _) (Nat.le_refl _) (by exact ansT (by unfold aKnowing; rw [his]; dsimp only; rw [hit]) (by have e9 : w = pairsL := (by omega); rw [e9, hPT])) (fun _ h => h)
            · skip
              refine g_iload dX10_knowing_83 rfl ?_
              refine g_aload_n 0 dX10_knowing_85 rfl rfl ?_
              refine g_iload_n 2 dX10_knowing_86 rfl rfl ?_
              refine g_iload dX10_knowing_87 rfl ?_
              refine m_cVi (ct_has _ _ (by omega) (by omega)) hvX10_has hyX10_has rfl ⟨Nat.le_of_ble_eq_true rfl, Nat.le_of_ble_eq_true rfl⟩ ⟨Nat.zero_le _, Nat.zero_le _⟩ rfl (Nat.le_of_ble_eq_true rfl) dX10_knowing_89 m_rec (fun r u hp => ?_)
              obtain rfl := hp
              refine g_if_eq_b (tgt := 109) dX10_knowing_92 (by decide) (fun c92 => ?_) (fun c92 => ?_)
              · skip
                refine g_iconst (v := nI 0) dX10_knowing_109 (by decide +kernel) ?_
                refine g_iadd_n dX10_knowing_110 ?_
                refine g_istore (L' := [(0, _), (1, _), (2, _), (3, _), (4, _), (5, _)]) dX10_knowing_111 (by decide) rfl rfl ?_
                refine g_iinc_n (b := 1) (L' := [(0, _), (1, _), (2, _), (3, _), (4, _), (5, _)]) dX10_knowing_113 rfl rfl (by decide) rfl rfl ?_
                refine g_goto (tgt := 74) dX10_knowing_116 (by decide) ?_
                have e8 : (leftT T k w && knowT T i k w) = (rbt rows3 k w && rbt rows3 21 w) := by rw [hkn w (by omega), rowsUp_ne hk3 (by omega) (by omega), hr k w (by omega) (by omega)]
                first
                  | (rw [c92, c102] at e8; rw [← cnt_y (f := (fun w => leftT T k w && knowT T i k w)) (n := w) e8]; exact ih74 (w + 1) (by omega) (by omega))
                  | (rw [c92, c102] at e8; rw [← cnt_n (f := (fun w => leftT T k w && knowT T i k w)) (n := w) e8]; exact ih74 (w + 1) (by omega) (by omega))
                  | (rw [c92] at e8; rw [← cnt_n (f := (fun w => leftT T k w && knowT T i k w)) (n := w) e8]; exact ih74 (w + 1) (by omega) (by omega))
              · skip
                refine g_aload_n 0 dX10_knowing_95 rfl rfl ?_
                refine g_iload_n 3 dX10_knowing_96 rfl rfl ?_
                refine g_iload dX10_knowing_97 rfl ?_
                refine m_cVi (ct_has _ _ (by omega) (by omega)) hvX10_has hyX10_has rfl ⟨Nat.le_of_ble_eq_true rfl, Nat.le_of_ble_eq_true rfl⟩ ⟨Nat.zero_le _, Nat.zero_le _⟩ rfl (Nat.le_of_ble_eq_true rfl) dX10_knowing_99 m_rec (fun r u hp => ?_)
                obtain rfl := hp
                refine g_if_eq_b (tgt := 109) dX10_knowing_102 (by decide) (fun c102 => ?_) (fun c102 => ?_)
                · skip
                  refine g_iconst (v := nI 0) dX10_knowing_109 (by decide +kernel) ?_
                  refine g_iadd_n dX10_knowing_110 ?_
                  refine g_istore (L' := [(0, _), (1, _), (2, _), (3, _), (4, _), (5, _)]) dX10_knowing_111 (by decide) rfl rfl ?_
                  refine g_iinc_n (b := 1) (L' := [(0, _), (1, _), (2, _), (3, _), (4, _), (5, _)]) dX10_knowing_113 rfl rfl (by decide) rfl rfl ?_
                  refine g_goto (tgt := 74) dX10_knowing_116 (by decide) ?_
                  have e8 : (leftT T k w && knowT T i k w) = (rbt rows3 k w && rbt rows3 21 w) := by rw [hkn w (by omega), rowsUp_ne hk3 (by omega) (by omega), hr k w (by omega) (by omega)]
                  first
                    | (rw [c92, c102] at e8; rw [← cnt_y (f := (fun w => leftT T k w && knowT T i k w)) (n := w) e8]; exact ih74 (w + 1) (by omega) (by omega))
                    | (rw [c92, c102] at e8; rw [← cnt_n (f := (fun w => leftT T k w && knowT T i k w)) (n := w) e8]; exact ih74 (w + 1) (by omega) (by omega))
                    | (rw [c92] at e8; rw [← cnt_n (f := (fun w => leftT T k w && knowT T i k w)) (n := w) e8]; exact ih74 (w + 1) (by omega) (by omega))
                · skip
                  refine g_iconst (v := nI 1) dX10_knowing_105 (by decide +kernel) ?_
                  refine g_goto (tgt := 110) dX10_knowing_106 (by decide) ?_
                  refine g_iadd_n dX10_knowing_110 ?_
                  refine g_istore (L' := [(0, _), (1, _), (2, _), (3, _), (4, _), (5, _)]) dX10_knowing_111 (by decide) rfl rfl ?_
                  refine g_iinc_n (b := 1) (L' := [(0, _), (1, _), (2, _), (3, _), (4, _), (5, _)]) dX10_knowing_113 rfl rfl (by decide) rfl rfl ?_
                  refine g_goto (tgt := 74) dX10_knowing_116 (by decide) ?_
                  have e8 : (leftT T k w && knowT T i k w) = (rbt rows3 k w && rbt rows3 21 w) := by rw [hkn w (by omega), rowsUp_ne hk3 (by omega) (by omega), hr k w (by omega) (by omega)]
                  first
                    | (rw [c92, c102] at e8; rw [← cnt_y (f := (fun w => leftT T k w && knowT T i k w)) (n := w) e8]; exact ih74 (w + 1) (by omega) (by omega))
                    | (rw [c92, c102] at e8; rw [← cnt_n (f := (fun w => leftT T k w && knowT T i k w)) (n := w) e8]; exact ih74 (w + 1) (by omega) (by omega))
                    | (rw [c92] at e8; rw [← cnt_n (f := (fun w => leftT T k w && knowT T i k w)) (n := w) e8]; exact ih74 (w + 1) (by omega) (by omega))
        exact loop74 (pairsL + 1) 0 (by omega) (by omega)
      refine g_aload_n 0 dX10_knowing_47 rfl rfl ?_
      refine g_iload_n 1 dX10_knowing_48 rfl rfl ?_
      refine g_aload_n 0 dX10_knowing_49 rfl rfl ?_
      refine g_iload_n 1 dX10_knowing_50 rfl rfl ?_
      refine g_iconst (v := nI 2) dX10_knowing_51 (by decide +kernel) ?_
      refine m_cVi (ct_of _ _ (by omega)) hvX10_of hyX10_of rfl ⟨Nat.le_of_ble_eq_true rfl, Nat.le_of_ble_eq_true rfl⟩ ⟨Nat.zero_le _, Nat.zero_le _⟩ rfl (Nat.le_of_ble_eq_true rfl) dX10_knowing_52 m_rec (fun r u hp => ?_)
      obtain rfl := hp
      refine GG.topi (k7 i hi).2.2 ?_
      refine g_iconst (v := nI 1) dX10_knowing_55 (by decide +kernel) ?_
      refine g_icmp_ne_b (b := true) (tgt := 63) dX10_knowing_56 (by decide) (fun c56 => ?_) (fun c56 => ?_)
      · skip
        refine g_iload_n 2 dX10_knowing_63 rfl rfl ?_
        exact join64 _ (by unfold tHear; first | (rw [if_pos c56]) | (rw [if_neg c56]))
      · skip
        refine g_iconst (v := nI 0) dX10_knowing_59 (by decide +kernel) ?_
        refine g_goto (tgt := 64) dX10_knowing_60 (by decide) ?_
        exact join64 _ (by unfold tHear; first | (rw [if_pos c56]) | (rw [if_neg c56]))
set_option maxHeartbeats 4000000 in
/-- how many are like one -/
theorem ct_heap (T : Talk) (s0 w0 t0 : Int32) (hK : KIs known T) : CT l D cl tys yX10_heap cX10_heap 4 (some .int) ({ frames := 87, cells := 0, slots := 0, locals := 2570 } : Room) [.ref (ma 0), .int s0, .int w0, .int t0] (HM D cl tys mi cI cJ cZ ma known fresh_ saved images isImage thrown tape taped size_ at_ begin_ token value open_ bad badPlace faultKind faultPlace xs ys pairs rows top heaps endsBehind path order firstOrder ordersMany tSort tMany numbers) (Qi (fun (v : Int32) (u : Nat × (Nat → Nat) × (Nat → Nat) × Nat × (Nat → Int64) × Nat × (Nat → Nat)) => ans (aHeap T s0 w0 t0) u.1 v) (fun (u : Nat × (Nat → Nat) × (Nat → Nat) × Nat × (Nat → Int64) × Nat × (Nat → Nat)) => HM D cl tys mi cI cJ cZ ma known fresh_ saved images isImage u.1 tape taped size_ at_ begin_ token value open_ bad badPlace faultKind faultPlace u.2.1 u.2.2.1 u.2.2.2.1 u.2.2.2.2.1 u.2.2.2.2.2.1 u.2.2.2.2.2.2 endsBehind path order firstOrder ordersMany tSort tMany numbers) (AM ma)) (AM ma) := by
  obtain ⟨⟨o1, o2, o3, o4, o5, o6, o7, o8, o9, o10⟩, k0, k1, k2, k3, k4, k5, k6, k7, k8⟩ := id hK
  refine CT.of (L := [(0, .ref (ma 0)), (1, .int s0), (2, .int w0), (3, .int t0)]) rfl (by decide +kernel) rfl (Nat.le_of_ble_eq_true rfl) ?_
  rcases his : iR s0 (tNS T) with _ | i
  · skip
    refine g_aload_n 0 dX10_heap_0 rfl rfl ?_
    refine g_aload_n 0 dX10_heap_1 rfl rfl ?_
    refine g_iload_n 1 dX10_heap_2 rfl rfl ?_
    refine g_iload_n 2 dX10_heap_3 rfl rfl ?_
    refine g_iload_n 3 dX10_heap_4 rfl rfl ?_
    refine m_cVi (ct_askFault T _ _ _ hK) hvX10_askFault hyX10_askFault rfl ⟨Nat.le_of_ble_eq_true rfl, Nat.le_of_ble_eq_true rfl⟩ ⟨Nat.zero_le _, Nat.zero_le _⟩ rfl (Nat.le_of_ble_eq_true rfl) dX10_heap_5 m_rec (fun r uf hp => ?_)
    obtain ⟨xsF, ysF, pairsF⟩ := uf
    obtain rfl := hp
    dsimp only
    refine GG.topi (y := nI 1) (congrArg nI (show aFault T _ _ _ = _ by first | (unfold aFault; rw [his]; done) | (unfold aFault; rw [his]; rfl) | (unfold aFault; simp only [his]; done) | (unfold aFault; simp only [his]; rfl))) ?_
    refine m_put_thrown dX10_heap_8 ?_
    refine g_aload_n 0 dX10_heap_11 rfl rfl ?_
    refine m_get_thrown dX10_heap_12 ?_
    refine g_if_le_n (tgt := 20) dX10_heap_15 (by decide) (by decide) (fun h => absurd h (by decide)) (fun _ => ?_)
    refine g_iconst (v := nI 0) dX10_heap_18 (by decide +kernel) ?_
    exact g_iret (_, _, _, _, _, _, _) dX10_heap_19 (Nat.le_refl _) (Nat.le_refl _) (by exact ansF (by first | (unfold aHeap; rw [his]; done) | (unfold aHeap; rw [his]; rfl) | (unfold aHeap; simp only [his]; done) | (unfold aHeap; simp only [his]; rfl)) (Nat.succ_ne_zero _)) (fun _ h => h)
  · skip
    obtain ⟨hi, ei⟩ := iR_some his
    subst ei
    rcases hiw : iR w0 (tP T) with _ | j
    · skip
      refine g_aload_n 0 dX10_heap_0 rfl rfl ?_
      refine g_aload_n 0 dX10_heap_1 rfl rfl ?_
      refine g_iload_n 1 dX10_heap_2 rfl rfl ?_
      refine g_iload_n 2 dX10_heap_3 rfl rfl ?_
      refine g_iload_n 3 dX10_heap_4 rfl rfl ?_
      refine m_cVi (ct_askFault T _ _ _ hK) hvX10_askFault hyX10_askFault rfl ⟨Nat.le_of_ble_eq_true rfl, Nat.le_of_ble_eq_true rfl⟩ ⟨Nat.zero_le _, Nat.zero_le _⟩ rfl (Nat.le_of_ble_eq_true rfl) dX10_heap_5 m_rec (fun r uf hp => ?_)
      obtain ⟨xsF, ysF, pairsF⟩ := uf
      obtain rfl := hp
      dsimp only
      refine GG.topi (y := nI 1) (congrArg nI (show aFault T _ _ _ = _ by first | (unfold aFault; rw [his, hiw]; done) | (unfold aFault; rw [his, hiw]; rfl) | (unfold aFault; simp only [his, hiw]; done) | (unfold aFault; simp only [his, hiw]; rfl))) ?_
      refine m_put_thrown dX10_heap_8 ?_
      refine g_aload_n 0 dX10_heap_11 rfl rfl ?_
      refine m_get_thrown dX10_heap_12 ?_
      refine g_if_le_n (tgt := 20) dX10_heap_15 (by decide) (by decide) (fun h => absurd h (by decide)) (fun _ => ?_)
      refine g_iconst (v := nI 0) dX10_heap_18 (by decide +kernel) ?_
      exact g_iret (_, _, _, _, _, _, _) dX10_heap_19 (Nat.le_refl _) (Nat.le_refl _) (by exact ansF (by first | (unfold aHeap; rw [his, hiw]; done) | (unfold aHeap; rw [his, hiw]; rfl) | (unfold aHeap; simp only [his, hiw]; done) | (unfold aHeap; simp only [his, hiw]; rfl)) (Nat.succ_ne_zero _)) (fun _ h => h)
    · skip
      obtain ⟨hj, ej⟩ := iR_some hiw
      subst ej
      rcases hit : iR t0 (tNT T + 1) with _ | k
      · skip
        refine g_aload_n 0 dX10_heap_0 rfl rfl ?_
        refine g_aload_n 0 dX10_heap_1 rfl rfl ?_
        refine g_iload_n 1 dX10_heap_2 rfl rfl ?_
        refine g_iload_n 2 dX10_heap_3 rfl rfl ?_
        refine g_iload_n 3 dX10_heap_4 rfl rfl ?_
        refine m_cVi (ct_askFault T _ _ _ hK) hvX10_askFault hyX10_askFault rfl ⟨Nat.le_of_ble_eq_true rfl, Nat.le_of_ble_eq_true rfl⟩ ⟨Nat.zero_le _, Nat.zero_le _⟩ rfl (Nat.le_of_ble_eq_true rfl) dX10_heap_5 m_rec (fun r uf hp => ?_)
        obtain ⟨xsF, ysF, pairsF⟩ := uf
        obtain rfl := hp
        dsimp only
        refine GG.topi (y := nI 2) (congrArg nI (show aFault T _ _ _ = _ by unfold aFault; rw [his, hiw]; dsimp only; rw [hit])) ?_
        refine m_put_thrown dX10_heap_8 ?_
        refine g_aload_n 0 dX10_heap_11 rfl rfl ?_
        refine m_get_thrown dX10_heap_12 ?_
        refine g_if_le_n (tgt := 20) dX10_heap_15 (by decide) (by decide) (fun h => absurd h (by decide)) (fun _ => ?_)
        refine g_iconst (v := nI 0) dX10_heap_18 (by decide +kernel) ?_
        exact g_iret (_, _, _, _, _, _, _) dX10_heap_19 (Nat.le_refl _) (Nat.le_refl _) (by exact ansF (by unfold aHeap; rw [his, hiw]; dsimp only; rw [hit]) (Nat.succ_ne_zero _)) (fun _ h => h)
      · skip
        obtain ⟨hk, ek⟩ := iR_some hit
        subst ek
        refine g_aload_n 0 dX10_heap_0 rfl rfl ?_
        refine g_aload_n 0 dX10_heap_1 rfl rfl ?_
        refine g_iload_n 1 dX10_heap_2 rfl rfl ?_
        refine g_iload_n 2 dX10_heap_3 rfl rfl ?_
        refine g_iload_n 3 dX10_heap_4 rfl rfl ?_
        refine m_cVi (ct_askFault T _ _ _ hK) hvX10_askFault hyX10_askFault rfl ⟨Nat.le_of_ble_eq_true rfl, Nat.le_of_ble_eq_true rfl⟩ ⟨Nat.zero_le _, Nat.zero_le _⟩ rfl (Nat.le_of_ble_eq_true rfl) dX10_heap_5 m_rec (fun r uf hp => ?_)
        obtain ⟨xsF, ysF, pairsF⟩ := uf
        obtain rfl := hp
        dsimp only
        refine GG.topi (y := nI 0) (congrArg nI (show aFault T _ _ _ = _ by unfold aFault; rw [his, hiw]; dsimp only; rw [hit])) ?_
        refine m_put_thrown dX10_heap_8 ?_
        refine g_aload_n 0 dX10_heap_11 rfl rfl ?_
        refine m_get_thrown dX10_heap_12 ?_
        refine g_if_le_n (tgt := 20) dX10_heap_15 (by decide) (by decide) (fun _ => ?_) (fun h => absurd h (by decide))
        refine g_aload_n 0 dX10_heap_20 rfl rfl ?_
        refine m_cVv (ct_lays T hK) hvX10_lays hyX10_lays rfl ⟨Nat.le_of_ble_eq_true rfl, Nat.le_of_ble_eq_true rfl⟩ ⟨Nat.zero_le _, Nat.zero_le _⟩ rfl (Nat.le_of_ble_eq_true rfl) dX10_heap_21 m_rec (fun ul hul => ?_)
        obtain ⟨heapsL, rowsZ, xsL, ysL, pairsL⟩ := ul
        dsimp only
        obtain ⟨hl, hr⟩ := hul
        have hl : layd xsL ysL pairsL (tW T) := hl
        have hr : rowsL rowsZ T (tNT T) := hr
        have hW := layd_OK hl o1 o3
        have hP : pairsL ≤ 1830 := hW.1
        have hPT : pairsL = tP T := hl.1
        have join41 : ∀ (b9 : Nat), (b9 = tHear T i k) → GG l D cl tys cX10_heap 4 (some .int) RX10 ({ frames := 87, cells := 0, slots := 0, locals := 2570 } : Room) (AM ma) MT (QM (Qi (fun (v : Int32) (u : Nat × (Nat → Nat) × (Nat → Nat) × Nat × (Nat → Int64) × Nat × (Nat → Nat)) => ans (aHeap T (nI i) (nI j) (nI k)) u.1 v) (fun (u : Nat × (Nat → Nat) × (Nat → Nat) × Nat × (Nat → Int64) × Nat × (Nat → Nat)) => HM D cl tys mi cI cJ cZ ma known fresh_ saved images isImage u.1 tape taped size_ at_ begin_ token value open_ bad badPlace faultKind faultPlace u.2.1 u.2.2.1 u.2.2.2.1 u.2.2.2.2.1 u.2.2.2.2.2.1 u.2.2.2.2.2.2 endsBehind path order firstOrder ordersMany tSort tMany numbers) (AM ma)) 0 0 (AM ma)) (HM D cl tys mi cI cJ cZ ma known fresh_ saved images isImage 0 tape taped size_ at_ begin_ token value open_ bad badPlace faultKind faultPlace xsL ysL pairsL rowsZ 21 heapsL endsBehind path order firstOrder ordersMany tSort tMany numbers) 0 0 41 [(0, .ref (ma 0)), (1, .int (nI i)), (2, .int (nI j)), (3, .int (nI k))] [.int (nI b9), .int (nI i), .ref (ma 0)] := by
          intro b9 hb9
          have hb9le : b9 ≤ k := by rw [hb9]; exact tHear_le _ _ _
          refine g_iconst (v := -1) dX10_heap_41 (by decide +kernel) ?_
          refine m_cVv (ct_heapUpN i _ (tKind T i) (by omega) (k7 i hi).1 (by have := o8 i hi; omega) (by omega) hW) hvX10_heapUp hyX10_heapUp rfl ⟨Nat.le_of_ble_eq_true rfl, Nat.le_of_ble_eq_true rfl⟩ ⟨Nat.zero_le _, Nat.zero_le _⟩ rfl (Nat.le_of_ble_eq_true rfl) dX10_heap_42 m_rec (fun heapsH hh => ?_)
          refine g_aload_n 0 dX10_heap_45 rfl rfl ?_
          refine m_get_heaps dX10_heap_46 ?_
          refine g_aload_n 0 dX10_heap_49 rfl rfl ?_
          refine g_iload_n 1 dX10_heap_50 rfl rfl ?_
          refine g_iload_n 2 dX10_heap_51 rfl rfl ?_
          refine m_cVi (ct_slip _ _ (tKind T i) (by omega) (k7 i hi).1 (by have := o8 i hi; omega) (by omega) hW) hvX10_slip hyX10_slip rfl ⟨Nat.le_of_ble_eq_true rfl, Nat.le_of_ble_eq_true rfl⟩ ⟨Nat.zero_le _, Nat.zero_le _⟩ rfl (Nat.le_of_ble_eq_true rfl) dX10_heap_52 m_rec (fun r u9 hp => ?_)
          obtain rfl := hp
          refine m_ld_heaps dX10_heap_55 (slW_lt hW (by omega)) ?_
          exact g_iret (_, _, _, _, _, _, _) dX10_heap_56 (Nat.le_refl _) (Nat.le_refl _) (by exact ansT (by unfold aHeap; rw [his, hiw]; dsimp only; rw [hit]) (congrArg nI (by rw [hh j (by omega), hPT, hb9]; exact likeN_congr (by omega) (fun z hz => slW_congr (layd_XY hl (by omega))) (fun z hz => hr _ z (by have := tHear_le T i k; omega) (by omega))))) (fun _ h => h)
        refine g_aload_n 0 dX10_heap_24 rfl rfl ?_
        refine g_iload_n 1 dX10_heap_25 rfl rfl ?_
        refine g_aload_n 0 dX10_heap_26 rfl rfl ?_
        refine g_iload_n 1 dX10_heap_27 rfl rfl ?_
        refine g_iconst (v := nI 2) dX10_heap_28 (by decide +kernel) ?_
        refine m_cVi (ct_of _ _ (by omega)) hvX10_of hyX10_of rfl ⟨Nat.le_of_ble_eq_true rfl, Nat.le_of_ble_eq_true rfl⟩ ⟨Nat.zero_le _, Nat.zero_le _⟩ rfl (Nat.le_of_ble_eq_true rfl) dX10_heap_29 m_rec (fun r u hp => ?_)
        obtain rfl := hp
        refine GG.topi (k7 i hi).2.2 ?_
        refine g_iconst (v := nI 1) dX10_heap_32 (by decide +kernel) ?_
        refine g_icmp_ne_b (b := true) (tgt := 40) dX10_heap_33 (by decide) (fun c33 => ?_) (fun c33 => ?_)
        · skip
          refine g_iload_n 3 dX10_heap_40 rfl rfl ?_
          exact join41 _ (by unfold tHear; first | (rw [if_pos c33]) | (rw [if_neg c33]))
        · skip
          refine g_iconst (v := nI 0) dX10_heap_36 (by decide +kernel) ?_
          refine g_goto (tgt := 41) dX10_heap_37 (by decide) ?_
          exact join41 _ (by unfold tHear; first | (rw [if_pos c33]) | (rw [if_neg c33]))
set_option maxHeartbeats 4000000 in
/-- the turn that strikes most -/
theorem ct_strikes (T : Talk) (wh : Int32) (hK : KIs known T) : CT l D cl tys yX10_strikes cX10_strikes 6 (some .int) ({ frames := 87, cells := 0, slots := 0, locals := 2570 } : Room) [.ref (ma 0), .int wh] (HM D cl tys mi cI cJ cZ ma known fresh_ saved images isImage thrown tape taped size_ at_ begin_ token value open_ bad badPlace faultKind faultPlace xs ys pairs rows top heaps endsBehind path order firstOrder ordersMany tSort tMany numbers) (Qi (fun (v : Int32) (u : Nat × (Nat → Nat) × (Nat → Nat) × Nat × (Nat → Int64) × Nat × (Nat → Nat)) => ans (aStrikes T wh) u.1 v) (fun (u : Nat × (Nat → Nat) × (Nat → Nat) × Nat × (Nat → Int64) × Nat × (Nat → Nat)) => HM D cl tys mi cI cJ cZ ma known fresh_ saved images isImage u.1 tape taped size_ at_ begin_ token value open_ bad badPlace faultKind faultPlace u.2.1 u.2.2.1 u.2.2.2.1 u.2.2.2.2.1 u.2.2.2.2.2.1 u.2.2.2.2.2.2 endsBehind path order firstOrder ordersMany tSort tMany numbers) (AM ma)) (AM ma) := by
  obtain ⟨⟨o1, o2, o3, o4, o5, o6, o7, o8, o9, o10⟩, k0, k1, k2, k3, k4, k5, k6, k7, k8⟩ := id hK
  refine CT.of (L := [(0, .ref (ma 0)), (1, .int wh)]) rfl (by decide +kernel) rfl (Nat.le_of_ble_eq_true rfl) ?_
  rcases iR2 wh with e | e | ⟨e0, e1, e2⟩
  · skip
    subst e
    refine g_aload_n 0 dX10_strikes_0 rfl rfl ?_
    refine g_iload_n 1 dX10_strikes_1 rfl rfl ?_
    refine g_i2l_n dX10_strikes_2 (by omega) ?_
    refine g_lconst (v := lN 0) dX10_strikes_3 (by decide +kernel) ?_
    refine g_lconst (v := lN 1) dX10_strikes_4 (by decide +kernel) ?_
    refine m_cSi (ct_within _ _ _) hsX10_within hyX10_within rfl ⟨Nat.le_of_ble_eq_true rfl, Nat.le_of_ble_eq_true rfl⟩ ⟨Nat.zero_le _, Nat.zero_le _⟩ rfl (Nat.le_of_ble_eq_true rfl) dX10_strikes_5 (fun r u9 hp => ?_)
    obtain rfl := hp
    refine GG.topi (y := nI 1) (by decide +kernel) ?_
    refine g_if_eq_n (tgt := 15) dX10_strikes_8 (by decide) (by decide) (fun h => absurd h (by decide)) (fun _ => ?_)
    refine g_iconst (v := nI 0) dX10_strikes_11 (by decide +kernel) ?_
    refine g_goto (tgt := 16) dX10_strikes_12 (by decide) ?_
    refine m_put_thrown dX10_strikes_16 ?_
    refine g_aload_n 0 dX10_strikes_19 rfl rfl ?_
    refine m_get_thrown dX10_strikes_20 ?_
    refine g_if_le_n (tgt := 28) dX10_strikes_23 (by decide) (by decide) (fun _ => ?_) (fun h => absurd h (by decide))
    refine g_aload_n 0 dX10_strikes_28 rfl rfl ?_
    refine m_cVv (ct_lays T hK) hvX10_lays hyX10_lays rfl ⟨Nat.le_of_ble_eq_true rfl, Nat.le_of_ble_eq_true rfl⟩ ⟨Nat.zero_le _, Nat.zero_le _⟩ rfl (Nat.le_of_ble_eq_true rfl) dX10_strikes_29 m_rec (fun ul hul => ?_)
    obtain ⟨heapsL, rowsZ, xsL, ysL, pairsL⟩ := ul
    dsimp only
    obtain ⟨hl, hr⟩ := hul
    have hl : layd xsL ysL pairsL (tW T) := hl
    have hr : rowsL rowsZ T (tNT T) := hr
    have hW := layd_OK hl o1 o3
    have hP : pairsL ≤ 1830 := hW.1
    have hPT : pairsL = tP T := hl.1
    refine g_iconst (v := -1) dX10_strikes_32 (by decide +kernel) ?_
    refine g_istore_n (L' := [(0, _), (1, _), (2, _)]) 2 dX10_strikes_33 rfl (by decide) rfl rfl ?_
    refine g_iconst (v := nI 0) dX10_strikes_34 (by decide +kernel) ?_
    refine g_istore_n (L' := [(0, _), (1, _), (2, _), (3, _)]) 3 dX10_strikes_35 rfl (by decide) rfl rfl ?_
    refine g_iconst (v := nI 0) dX10_strikes_36 (by decide +kernel) ?_
    refine g_istore (L' := [(0, _), (1, _), (2, _), (3, _), (4, _)]) dX10_strikes_37 (by decide) rfl rfl ?_
    have loop39 : ∀ (q39 : Nat) (t m : Nat) (b : Int32), tNT T - t < q39 → (t ≤ tNT T) → (bestM (bestF (fun t => leftN T t - leftN T (t + 1)) t) b m) → (m < 2 ^ 31) → GG l D cl tys cX10_strikes 6 (some .int) RX10 ({ frames := 87, cells := 0, slots := 0, locals := 2570 } : Room) (AM ma) MT (QM (Qi (fun (v : Int32) (u : Nat × (Nat → Nat) × (Nat → Nat) × Nat × (Nat → Int64) × Nat × (Nat → Nat)) => ans (aStrikes T (nI 0)) u.1 v) (fun (u : Nat × (Nat → Nat) × (Nat → Nat) × Nat × (Nat → Int64) × Nat × (Nat → Nat)) => HM D cl tys mi cI cJ cZ ma known fresh_ saved images isImage u.1 tape taped size_ at_ begin_ token value open_ bad badPlace faultKind faultPlace u.2.1 u.2.2.1 u.2.2.2.1 u.2.2.2.2.1 u.2.2.2.2.2.1 u.2.2.2.2.2.2 endsBehind path order firstOrder ordersMany tSort tMany numbers) (AM ma)) 0 0 (AM ma)) (HM D cl tys mi cI cJ cZ ma known fresh_ saved images isImage 0 tape taped size_ at_ begin_ token value open_ bad badPlace faultKind faultPlace xsL ysL pairsL rowsZ 21 heapsL endsBehind path order firstOrder ordersMany tSort tMany numbers) 0 0 39 [(0, .ref (ma 0)), (1, .int (nI 0)), (2, .int b), (3, .int (nI m)), (4, .int (nI t))] [] := by
      intro q39
      induction q39 with
      | zero => intro t m b hq39; exact absurd hq39 (Nat.not_lt_zero _)
      | succ q39 ih39 =>
        intro t m b hq39 ht hb hm9
        refine g_iload dX10_strikes_39 rfl ?_
        refine g_aload_n 0 dX10_strikes_41 rfl rfl ?_
        refine m_get_known dX10_strikes_42 ?_
        refine g_bipush (v := nI 6) dX10_strikes_45 (by decide +kernel) ?_
        refine m_ld_known dX10_strikes_47 (by omega) ?_
        refine GG.topi k6 ?_
        refine g_icmp_ge_n (tgt := 94) dX10_strikes_48 (by decide) (by omega) (by omega) (fun c48 => ?_) (fun c48 => ?_)
        · skip
          refine g_iload_n 1 dX10_strikes_94 rfl rfl ?_
          refine g_if_ne_n (tgt := 102) dX10_strikes_95 (by decide) (by decide) (fun h => absurd h (by decide)) (fun _ => ?_)
          refine g_iload_n 3 dX10_strikes_98 rfl rfl ?_
          refine g_goto (tgt := 103) dX10_strikes_99 (by decide) ?_
          exact g_iret (_, _, _, _, _, _, _) dX10_strikes_103 (Nat.le_refl _) (Nat.le_refl _) (by have e9 : t = tNT T := (by omega); rw [e9] at hb; exact ansT (by unfold aStrikes; first | (rw [if_pos (show nI 0 = (0 : Int32) from rfl)]; rfl) | (rw [if_neg nI_1ne0, if_pos (show nI 1 = (1 : Int32) from rfl)]; rfl)) (bestM_m hb)) (fun _ h => h)
        · skip
          refine g_aload_n 0 dX10_strikes_51 rfl rfl ?_
          refine g_iload dX10_strikes_52 rfl ?_
          refine m_cVi (ct_manyOf _ (by omega) (by omega)) hvX10_manyOf hyX10_manyOf rfl ⟨Nat.le_of_ble_eq_true rfl, Nat.le_of_ble_eq_true rfl⟩ ⟨Nat.zero_le _, Nat.zero_le _⟩ rfl (Nat.le_of_ble_eq_true rfl) dX10_strikes_54 m_rec (fun r u9 hp => ?_)
          obtain rfl := hp
          refine GG.topi (y := nI (leftN T t)) (by unfold leftN; rw [← hPT]; exact congrArg nI (cnt_congr (fun w hw => hr _ w (by omega) (by have h9 : w < pairsL := hw; omega)))) ?_
          refine g_aload_n 0 dX10_strikes_57 rfl rfl ?_
          refine g_iload dX10_strikes_58 rfl ?_
          refine g_iconst (v := nI 1) dX10_strikes_60 (by decide +kernel) ?_
          refine g_iadd_n dX10_strikes_61 ?_
          refine m_cVi (ct_manyOf _ (by omega) (by omega)) hvX10_manyOf hyX10_manyOf rfl ⟨Nat.le_of_ble_eq_true rfl, Nat.le_of_ble_eq_true rfl⟩ ⟨Nat.zero_le _, Nat.zero_le _⟩ rfl (Nat.le_of_ble_eq_true rfl) dX10_strikes_62 m_rec (fun r u9 hp => ?_)
          obtain rfl := hp
          refine GG.topi (y := nI (leftN T (t + 1))) (by unfold leftN; rw [← hPT]; exact congrArg nI (cnt_congr (fun w hw => hr _ w (by omega) (by have h9 : w < pairsL := hw; omega)))) ?_
          refine g_isub_n dX10_strikes_65 (leftN_mono T t) ?_
          refine g_istore (L' := [(0, _), (1, _), (2, _), (3, _), (4, _), (5, _)]) dX10_strikes_66 (by decide) rfl rfl ?_
          refine g_iload_n 2 dX10_strikes_68 rfl rfl ?_
          refine g_iconst (v := -1) dX10_strikes_69 (by decide +kernel) ?_
          refine g_icmp_eq (tgt := 82) dX10_strikes_70 (by decide) (fun c70 => ?_) (fun c70 => ?_)
          · skip
            have hb0 := bestM_none hb c70
            refine g_iload dX10_strikes_82 rfl ?_
            refine g_istore_n (L' := [(0, _), (1, _), (2, _), (3, _), (4, _), (5, _)]) 2 dX10_strikes_84 rfl (by decide) rfl rfl ?_
            refine g_iload dX10_strikes_85 rfl ?_
            refine g_istore_n (L' := [(0, _), (1, _), (2, _), (3, _), (4, _), (5, _)]) 3 dX10_strikes_87 rfl (by decide) rfl rfl ?_
            refine g_iinc_n (b := 1) (L' := [(0, _), (1, _), (2, _), (3, _), (4, _), (5, _)]) dX10_strikes_88 rfl rfl (by decide) rfl rfl ?_
            refine g_goto (tgt := 39) dX10_strikes_91 (by decide) ?_
            refine GG.locals [0, 1, 2, 3, 4] rfl ?_
            have h8 := leftN_le T t
            refine ih39 (t + 1) _ _ (by omega) (by omega) ?_ (by omega)
            first
              | exact bestM_up hb c70 (Or.inr c76) (by omega)
              | exact bestM_up0 hb c70 (by omega)
              | exact bestM_keep hb c70 c76
          · skip
            obtain ⟨hx9, hm8⟩ := bestM_some hb c70
            refine g_iload dX10_strikes_73 rfl ?_
            refine g_iload_n 3 dX10_strikes_75 rfl rfl ?_
            refine g_icmp_gt_n (tgt := 82) dX10_strikes_76 (by decide) (by have := leftN_le T t; omega) hm9 (fun c76 => ?_) (fun c76 => ?_)
            · skip
              refine g_iload dX10_strikes_82 rfl ?_
              refine g_istore_n (L' := [(0, _), (1, _), (2, _), (3, _), (4, _), (5, _)]) 2 dX10_strikes_84 rfl (by decide) rfl rfl ?_
              refine g_iload dX10_strikes_85 rfl ?_
              refine g_istore_n (L' := [(0, _), (1, _), (2, _), (3, _), (4, _), (5, _)]) 3 dX10_strikes_87 rfl (by decide) rfl rfl ?_
              refine g_iinc_n (b := 1) (L' := [(0, _), (1, _), (2, _), (3, _), (4, _), (5, _)]) dX10_strikes_88 rfl rfl (by decide) rfl rfl ?_
              refine g_goto (tgt := 39) dX10_strikes_91 (by decide) ?_
              refine GG.locals [0, 1, 2, 3, 4] rfl ?_
              have h8 := leftN_le T t
              refine ih39 (t + 1) _ _ (by omega) (by omega) ?_ (by omega)
              first
                | exact bestM_up hb c70 (Or.inr c76) (by omega)
                | exact bestM_up0 hb c70 (by omega)
                | exact bestM_keep hb c70 c76
            · skip
              refine g_goto (tgt := 88) dX10_strikes_79 (by decide) ?_
              refine g_iinc_n (b := 1) (L' := [(0, _), (1, _), (2, _), (3, _), (4, _), (5, _)]) dX10_strikes_88 rfl rfl (by decide) rfl rfl ?_
              refine g_goto (tgt := 39) dX10_strikes_91 (by decide) ?_
              refine GG.locals [0, 1, 2, 3, 4] rfl ?_
              have h8 := leftN_le T t
              refine ih39 (t + 1) _ _ (by omega) (by omega) ?_ (by omega)
              first
                | exact bestM_up hb c70 (Or.inr c76) (by omega)
                | exact bestM_up0 hb c70 (by omega)
                | exact bestM_keep hb c70 c76
    exact loop39 (tNT T + 1) 0 0 (-1) (by omega) (by omega) ⟨rfl, rfl⟩ (by decide)
  · skip
    subst e
    refine g_aload_n 0 dX10_strikes_0 rfl rfl ?_
    refine g_iload_n 1 dX10_strikes_1 rfl rfl ?_
    refine g_i2l_n dX10_strikes_2 (by omega) ?_
    refine g_lconst (v := lN 0) dX10_strikes_3 (by decide +kernel) ?_
    refine g_lconst (v := lN 1) dX10_strikes_4 (by decide +kernel) ?_
    refine m_cSi (ct_within _ _ _) hsX10_within hyX10_within rfl ⟨Nat.le_of_ble_eq_true rfl, Nat.le_of_ble_eq_true rfl⟩ ⟨Nat.zero_le _, Nat.zero_le _⟩ rfl (Nat.le_of_ble_eq_true rfl) dX10_strikes_5 (fun r u9 hp => ?_)
    obtain rfl := hp
    refine GG.topi (y := nI 1) (by decide +kernel) ?_
    refine g_if_eq_n (tgt := 15) dX10_strikes_8 (by decide) (by decide) (fun h => absurd h (by decide)) (fun _ => ?_)
    refine g_iconst (v := nI 0) dX10_strikes_11 (by decide +kernel) ?_
    refine g_goto (tgt := 16) dX10_strikes_12 (by decide) ?_
    refine m_put_thrown dX10_strikes_16 ?_
    refine g_aload_n 0 dX10_strikes_19 rfl rfl ?_
    refine m_get_thrown dX10_strikes_20 ?_
    refine g_if_le_n (tgt := 28) dX10_strikes_23 (by decide) (by decide) (fun _ => ?_) (fun h => absurd h (by decide))
    refine g_aload_n 0 dX10_strikes_28 rfl rfl ?_
    refine m_cVv (ct_lays T hK) hvX10_lays hyX10_lays rfl ⟨Nat.le_of_ble_eq_true rfl, Nat.le_of_ble_eq_true rfl⟩ ⟨Nat.zero_le _, Nat.zero_le _⟩ rfl (Nat.le_of_ble_eq_true rfl) dX10_strikes_29 m_rec (fun ul hul => ?_)
    obtain ⟨heapsL, rowsZ, xsL, ysL, pairsL⟩ := ul
    dsimp only
    obtain ⟨hl, hr⟩ := hul
    have hl : layd xsL ysL pairsL (tW T) := hl
    have hr : rowsL rowsZ T (tNT T) := hr
    have hW := layd_OK hl o1 o3
    have hP : pairsL ≤ 1830 := hW.1
    have hPT : pairsL = tP T := hl.1
    refine g_iconst (v := -1) dX10_strikes_32 (by decide +kernel) ?_
    refine g_istore_n (L' := [(0, _), (1, _), (2, _)]) 2 dX10_strikes_33 rfl (by decide) rfl rfl ?_
    refine g_iconst (v := nI 0) dX10_strikes_34 (by decide +kernel) ?_
    refine g_istore_n (L' := [(0, _), (1, _), (2, _), (3, _)]) 3 dX10_strikes_35 rfl (by decide) rfl rfl ?_
    refine g_iconst (v := nI 0) dX10_strikes_36 (by decide +kernel) ?_
    refine g_istore (L' := [(0, _), (1, _), (2, _), (3, _), (4, _)]) dX10_strikes_37 (by decide) rfl rfl ?_
    have loop39 : ∀ (q39 : Nat) (t m : Nat) (b : Int32), tNT T - t < q39 → (t ≤ tNT T) → (bestM (bestF (fun t => leftN T t - leftN T (t + 1)) t) b m) → (m < 2 ^ 31) → GG l D cl tys cX10_strikes 6 (some .int) RX10 ({ frames := 87, cells := 0, slots := 0, locals := 2570 } : Room) (AM ma) MT (QM (Qi (fun (v : Int32) (u : Nat × (Nat → Nat) × (Nat → Nat) × Nat × (Nat → Int64) × Nat × (Nat → Nat)) => ans (aStrikes T (nI 1)) u.1 v) (fun (u : Nat × (Nat → Nat) × (Nat → Nat) × Nat × (Nat → Int64) × Nat × (Nat → Nat)) => HM D cl tys mi cI cJ cZ ma known fresh_ saved images isImage u.1 tape taped size_ at_ begin_ token value open_ bad badPlace faultKind faultPlace u.2.1 u.2.2.1 u.2.2.2.1 u.2.2.2.2.1 u.2.2.2.2.2.1 u.2.2.2.2.2.2 endsBehind path order firstOrder ordersMany tSort tMany numbers) (AM ma)) 0 0 (AM ma)) (HM D cl tys mi cI cJ cZ ma known fresh_ saved images isImage 0 tape taped size_ at_ begin_ token value open_ bad badPlace faultKind faultPlace xsL ysL pairsL rowsZ 21 heapsL endsBehind path order firstOrder ordersMany tSort tMany numbers) 0 0 39 [(0, .ref (ma 0)), (1, .int (nI 1)), (2, .int b), (3, .int (nI m)), (4, .int (nI t))] [] := by
      intro q39
      induction q39 with
      | zero => intro t m b hq39; exact absurd hq39 (Nat.not_lt_zero _)
      | succ q39 ih39 =>
        intro t m b hq39 ht hb hm9
        refine g_iload dX10_strikes_39 rfl ?_
        refine g_aload_n 0 dX10_strikes_41 rfl rfl ?_
        refine m_get_known dX10_strikes_42 ?_
        refine g_bipush (v := nI 6) dX10_strikes_45 (by decide +kernel) ?_
        refine m_ld_known dX10_strikes_47 (by omega) ?_
        refine GG.topi k6 ?_
        refine g_icmp_ge_n (tgt := 94) dX10_strikes_48 (by decide) (by omega) (by omega) (fun c48 => ?_) (fun c48 => ?_)
        · skip
          refine g_iload_n 1 dX10_strikes_94 rfl rfl ?_
          refine g_if_ne_n (tgt := 102) dX10_strikes_95 (by decide) (by decide) (fun _ => ?_) (fun h => absurd h (by decide))
          refine g_iload_n 2 dX10_strikes_102 rfl rfl ?_
          exact g_iret (_, _, _, _, _, _, _) dX10_strikes_103 (Nat.le_refl _) (Nat.le_refl _) (by have e9 : t = tNT T := (by omega); rw [e9] at hb; exact ansT (by unfold aStrikes; first | (rw [if_pos (show nI 0 = (0 : Int32) from rfl)]; rfl) | (rw [if_neg nI_1ne0, if_pos (show nI 1 = (1 : Int32) from rfl)]; rfl)) (bestM_b hb)) (fun _ h => h)
        · skip
          refine g_aload_n 0 dX10_strikes_51 rfl rfl ?_
          refine g_iload dX10_strikes_52 rfl ?_
          refine m_cVi (ct_manyOf _ (by omega) (by omega)) hvX10_manyOf hyX10_manyOf rfl ⟨Nat.le_of_ble_eq_true rfl, Nat.le_of_ble_eq_true rfl⟩ ⟨Nat.zero_le _, Nat.zero_le _⟩ rfl (Nat.le_of_ble_eq_true rfl) dX10_strikes_54 m_rec (fun r u9 hp => ?_)
          obtain rfl := hp
          refine GG.topi (y := nI (leftN T t)) (by unfold leftN; rw [← hPT]; exact congrArg nI (cnt_congr (fun w hw => hr _ w (by omega) (by have h9 : w < pairsL := hw; omega)))) ?_
          refine g_aload_n 0 dX10_strikes_57 rfl rfl ?_
          refine g_iload dX10_strikes_58 rfl ?_
          refine g_iconst (v := nI 1) dX10_strikes_60 (by decide +kernel) ?_
          refine g_iadd_n dX10_strikes_61 ?_
          refine m_cVi (ct_manyOf _ (by omega) (by omega)) hvX10_manyOf hyX10_manyOf rfl ⟨Nat.le_of_ble_eq_true rfl, Nat.le_of_ble_eq_true rfl⟩ ⟨Nat.zero_le _, Nat.zero_le _⟩ rfl (Nat.le_of_ble_eq_true rfl) dX10_strikes_62 m_rec (fun r u9 hp => ?_)
          obtain rfl := hp
          refine GG.topi (y := nI (leftN T (t + 1))) (by unfold leftN; rw [← hPT]; exact congrArg nI (cnt_congr (fun w hw => hr _ w (by omega) (by have h9 : w < pairsL := hw; omega)))) ?_
          refine g_isub_n dX10_strikes_65 (leftN_mono T t) ?_
          refine g_istore (L' := [(0, _), (1, _), (2, _), (3, _), (4, _), (5, _)]) dX10_strikes_66 (by decide) rfl rfl ?_
          refine g_iload_n 2 dX10_strikes_68 rfl rfl ?_
          refine g_iconst (v := -1) dX10_strikes_69 (by decide +kernel) ?_
          refine g_icmp_eq (tgt := 82) dX10_strikes_70 (by decide) (fun c70 => ?_) (fun c70 => ?_)
          · skip
            have hb0 := bestM_none hb c70
            refine g_iload dX10_strikes_82 rfl ?_
            refine g_istore_n (L' := [(0, _), (1, _), (2, _), (3, _), (4, _), (5, _)]) 2 dX10_strikes_84 rfl (by decide) rfl rfl ?_
            refine g_iload dX10_strikes_85 rfl ?_
            refine g_istore_n (L' := [(0, _), (1, _), (2, _), (3, _), (4, _), (5, _)]) 3 dX10_strikes_87 rfl (by decide) rfl rfl ?_
            refine g_iinc_n (b := 1) (L' := [(0, _), (1, _), (2, _), (3, _), (4, _), (5, _)]) dX10_strikes_88 rfl rfl (by decide) rfl rfl ?_
            refine g_goto (tgt := 39) dX10_strikes_91 (by decide) ?_
            refine GG.locals [0, 1, 2, 3, 4] rfl ?_
            have h8 := leftN_le T t
            refine ih39 (t + 1) _ _ (by omega) (by omega) ?_ (by omega)
            first
              | exact bestM_up hb c70 (Or.inr c76) (by omega)
              | exact bestM_up0 hb c70 (by omega)
              | exact bestM_keep hb c70 c76
          · skip
            obtain ⟨hx9, hm8⟩ := bestM_some hb c70
            refine g_iload dX10_strikes_73 rfl ?_
            refine g_iload_n 3 dX10_strikes_75 rfl rfl ?_
            refine g_icmp_gt_n (tgt := 82) dX10_strikes_76 (by decide) (by have := leftN_le T t; omega) hm9 (fun c76 => ?_) (fun c76 => ?_)
            · skip
              refine g_iload dX10_strikes_82 rfl ?_
              refine g_istore_n (L' := [(0, _), (1, _), (2, _), (3, _), (4, _), (5, _)]) 2 dX10_strikes_84 rfl (by decide) rfl rfl ?_
              refine g_iload dX10_strikes_85 rfl ?_
              refine g_istore_n (L' := [(0, _), (1, _), (2, _), (3, _), (4, _), (5, _)]) 3 dX10_strikes_87 rfl (by decide) rfl rfl ?_
              refine g_iinc_n (b := 1) (L' := [(0, _), (1, _), (2, _), (3, _), (4, _), (5, _)]) dX10_strikes_88 rfl rfl (by decide) rfl rfl ?_
              refine g_goto (tgt := 39) dX10_strikes_91 (by decide) ?_
              refine GG.locals [0, 1, 2, 3, 4] rfl ?_
              have h8 := leftN_le T t
              refine ih39 (t + 1) _ _ (by omega) (by omega) ?_ (by omega)
              first
                | exact bestM_up hb c70 (Or.inr c76) (by omega)
                | exact bestM_up0 hb c70 (by omega)
                | exact bestM_keep hb c70 c76
            · skip
              refine g_goto (tgt := 88) dX10_strikes_79 (by decide) ?_
              refine g_iinc_n (b := 1) (L' := [(0, _), (1, _), (2, _), (3, _), (4, _), (5, _)]) dX10_strikes_88 rfl rfl (by decide) rfl rfl ?_
              refine g_goto (tgt := 39) dX10_strikes_91 (by decide) ?_
              refine GG.locals [0, 1, 2, 3, 4] rfl ?_
              have h8 := leftN_le T t
              refine ih39 (t + 1) _ _ (by omega) (by omega) ?_ (by omega)
              first
                | exact bestM_up hb c70 (Or.inr c76) (by omega)
                | exact bestM_up0 hb c70 (by omega)
                | exact bestM_keep hb c70 c76
    exact loop39 (tNT T + 1) 0 0 (-1) (by omega) (by omega) ⟨rfl, rfl⟩ (by decide)
  · skip
    refine g_aload_n 0 dX10_strikes_0 rfl rfl ?_
    refine g_iload_n 1 dX10_strikes_1 rfl rfl ?_
    refine g_i2l dX10_strikes_2 rfl ?_
    refine g_lconst (v := lN 0) dX10_strikes_3 (by decide +kernel) ?_
    refine g_lconst (v := lN 1) dX10_strikes_4 (by decide +kernel) ?_
    refine m_cSi (ct_within _ _ _) hsX10_within hyX10_within rfl ⟨Nat.le_of_ble_eq_true rfl, Nat.le_of_ble_eq_true rfl⟩ ⟨Nat.zero_le _, Nat.zero_le _⟩ rfl (Nat.le_of_ble_eq_true rfl) dX10_strikes_5 (fun r u9 hp => ?_)
    obtain rfl := hp
    refine GG.topi (y := nI 0) (by rw [wIn_0 wh (by decide) e2]; rfl) ?_
    refine g_if_eq_n (tgt := 15) dX10_strikes_8 (by decide) (by decide) (fun _ => ?_) (fun h => absurd h (by decide))
    refine g_iconst (v := nI 1) dX10_strikes_15 (by decide +kernel) ?_
    refine m_put_thrown dX10_strikes_16 ?_
    refine g_aload_n 0 dX10_strikes_19 rfl rfl ?_
    refine m_get_thrown dX10_strikes_20 ?_
    refine g_if_le_n (tgt := 28) dX10_strikes_23 (by decide) (by decide) (fun h => absurd h (by decide)) (fun _ => ?_)
    refine g_iconst (v := nI 0) dX10_strikes_26 (by decide +kernel) ?_
    exact g_iret (_, _, _, _, _, _, _) dX10_strikes_27 (Nat.le_refl _) (Nat.le_refl _) (by exact ansF (by unfold aStrikes; rw [if_neg e0, if_neg e1]) (Nat.succ_ne_zero _)) (fun _ h => h)
end
