/-! SPEC: feeding -/
set_option maxRecDepth 100000
theorem fW_1 {a b c d e : Int32} {k : Nat} (h : k < 4) : a = fW a b c d e k := (if_pos h).symm
theorem fW_2 {a b c d e : Int32} {k : Nat} (h : 4 ≤ k) (h2 : k < 8) : b = fW a b c d e k := by unfold fW; rw [if_neg (by omega), if_pos h2]
theorem fW_3 {a b c d e : Int32} {k : Nat} (h : 8 ≤ k) (h2 : k < 12) : c = fW a b c d e k := by unfold fW; rw [if_neg (by omega), if_neg (by omega), if_pos h2]
theorem fW_4 {a b c d e : Int32} {k : Nat} (h : 12 ≤ k) (h2 : k < 16) : d = fW a b c d e k := by unfold fW; rw [if_neg (by omega), if_neg (by omega), if_neg (by omega), if_pos h2]
theorem fW_5 {a b c d e : Int32} {k : Nat} (h : 16 ≤ k) : e = fW a b c d e k := by unfold fW; rw [if_neg (by omega), if_neg (by omega), if_neg (by omega), if_neg (by omega)]
theorem isAnswers_ok {T : Talk} {Tr : Trays} {t wh : Int32} {thr i so mn : Nat} {vs : Nat → Int64} {v : Int32} (h : iR t 4 = some i) (hT : Tr i = some (so, mn, vs)) : isAnswers T Tr t wh thr v = (if wh = 0 then thr = 0 ∧ ∃ N, anEnd T mn vs N ∧ v = nI (cnt (anS T vs N) (tP T)) else if wh = 1 then thr = 0 ∧ ∃ N, anEnd T mn vs N ∧ isFst (anS T vs N) (tP T) v else if wh = 2 then thr = 0 ∧ ∃ N, anEnd T mn vs N ∧ v = nI N else thr = 3) := by
  unfold isAnswers; rw [h]; dsimp only; rw [hT]
theorem anG_wIn {T : Talk} {vs : Nat → Int64} {k : Nat} (h : tNS T ≤ 6) : wIn (vs k) (lN 0) (lN 2 * lN (tNS T) - lN 1) = anG T vs k := by
  unfold wIn anG
  rw [ans_hi h, show (lN 0).toInt = 0 from by decide +kernel]
  exact decide_eq_decide.mpr ⟨fun q => by omega, fun q => by omega⟩

/-! THE MODEL, 15: feed, answers -/
set_option maxRecDepth 100000
section
variable {l : Launch} {D : va_G} {cl : List vw_C} {tys : List (ClassId × FieldType)} {mi : Nat} {cI cJ cZ : ClassId} {ma : Nat → Nat} {known fresh_ saved images : Nat → Int32} {isImage : Nat → Bool} {thrown : Nat} {tape : Nat → Nat} {taped size_ at_ begin_ token value open_ bad badPlace faultKind : Nat} {faultPlace : Int32} {xs ys : Nat → Nat} {pairs : Nat} {rows : Nat → Int64} {top : Nat} {heaps : Nat → Nat} {endsBehind : Nat → Int32} {path order firstOrder : Nat → Nat} {ordersMany : Nat} {tSort : Nat → Int32} {tMany : Nat → Nat} {numbers : Nat → Int64}
set_option maxHeartbeats 4000000 in
/-- feeds 20 bytes -/
theorem ct_feed (a0 b0 c0 d0 e0 : Int32) (ht : taped ≤ 900) : CT l D cl tys yX10_feed cX10_feed 8 (some .int) ({ frames := 0, cells := 0, slots := 0, locals := 0 } : Room) [.ref (ma 0), .int a0, .int b0, .int c0, .int d0, .int e0] (HM D cl tys mi cI cJ cZ ma known fresh_ saved images isImage thrown tape taped size_ at_ begin_ token value open_ bad badPlace faultKind faultPlace xs ys pairs rows top heaps endsBehind path order firstOrder ordersMany tSort tMany numbers) (Qi (fun (v : Int32) (u : Nat × (Nat → Nat) × Nat) => u.1 = 0 ∧ (if taped + 20 ≤ 900 then v = nI (taped + 20) ∧ u.2.1 = fedT tape taped a0 b0 c0 d0 e0 20 ∧ u.2.2 = taped + 20 else v = -1 ∧ u.2.1 = tape ∧ u.2.2 = taped)) (fun (u : Nat × (Nat → Nat) × Nat) => HM D cl tys mi cI cJ cZ ma known fresh_ saved images isImage u.1 u.2.1 u.2.2 size_ at_ begin_ token value open_ bad badPlace faultKind faultPlace xs ys pairs rows top heaps endsBehind path order firstOrder ordersMany tSort tMany numbers) (AM ma)) (AM ma) := by
  refine CT.of (L := [(0, .ref (ma 0)), (1, .int a0), (2, .int b0), (3, .int c0), (4, .int d0), (5, .int e0)]) rfl (by decide +kernel) rfl (Nat.le_of_ble_eq_true rfl) ?_
  refine g_aload_n 0 dX10_feed_0 rfl rfl ?_
  refine g_iconst (v := nI 0) dX10_feed_1 (by decide +kernel) ?_
  refine m_put_thrown dX10_feed_2 ?_
  refine g_aload_n 0 dX10_feed_5 rfl rfl ?_
  refine m_get_taped dX10_feed_6 ?_
  refine g_bipush (v := nI 20) dX10_feed_9 (by decide +kernel) ?_
  refine g_iadd_n dX10_feed_11 ?_
  refine g_sipush (v := nI 900) dX10_feed_12 (by decide +kernel) ?_
  refine g_icmp_le_n (tgt := 20) dX10_feed_15 (by decide) (by omega) (by omega) (fun c15 => ?_) (fun c15 => ?_)
  · skip
    refine g_iconst (v := nI 0) dX10_feed_20 (by decide +kernel) ?_
    refine g_istore (L' := [(0, _), (1, _), (2, _), (3, _), (4, _), (5, _), (6, _)]) dX10_feed_21 (by decide) rfl rfl ?_
    have loop23 : ∀ (q23 : Nat) (k : Nat), 20 - k < q23 → (k ≤ 20) → GG l D cl tys cX10_feed 8 (some .int) RX10 ({ frames := 0, cells := 0, slots := 0, locals := 0 } : Room) (AM ma) MT (QM (Qi (fun (v : Int32) (u : Nat × (Nat → Nat) × Nat) => u.1 = 0 ∧ (if taped + 20 ≤ 900 then v = nI (taped + 20) ∧ u.2.1 = fedT tape taped a0 b0 c0 d0 e0 20 ∧ u.2.2 = taped + 20 else v = -1 ∧ u.2.1 = tape ∧ u.2.2 = taped)) (fun (u : Nat × (Nat → Nat) × Nat) => HM D cl tys mi cI cJ cZ ma known fresh_ saved images isImage u.1 u.2.1 u.2.2 size_ at_ begin_ token value open_ bad badPlace faultKind faultPlace xs ys pairs rows top heaps endsBehind path order firstOrder ordersMany tSort tMany numbers) (AM ma)) 0 0 (AM ma)) (HM D cl tys mi cI cJ cZ ma known fresh_ saved images isImage 0 (fedT tape taped a0 b0 c0 d0 e0 k) (taped + k) size_ at_ begin_ token value open_ bad badPlace faultKind faultPlace xs ys pairs rows top heaps endsBehind path order firstOrder ordersMany tSort tMany numbers) 0 0 23 [(0, .ref (ma 0)), (1, .int a0), (2, .int b0), (3, .int c0), (4, .int d0), (5, .int e0), (6, .int (nI k))] [] := by
      intro q23
      induction q23 with
      | zero => intro k hq23; exact absurd hq23 (Nat.not_lt_zero _)
      | succ q23 ih23 =>
        intro k hq23 hk
        refine g_iload dX10_feed_23 rfl ?_
        refine g_bipush (v := nI 20) dX10_feed_25 (by decide +kernel) ?_
        refine g_icmp_ge_n (tgt := 120) dX10_feed_27 (by decide) (by omega) (by omega) (fun c27 => ?_) (fun c27 => ?_)
        · skip
          refine g_aload_n 0 dX10_feed_120 rfl rfl ?_
          refine m_get_taped dX10_feed_121 ?_
          exact g_iret (_, _, _) dX10_feed_124 (Nat.le_refl _) (Nat.le_refl _) (by have e9 : k = 20 := (by omega); subst e9; refine ⟨rfl, ?_⟩; rw [if_pos (by omega)]; exact ⟨rfl, rfl, rfl⟩) (fun _ h => h)
        · skip
          have join76 : ∀ (w9 : Int32), (w9 = fW a0 b0 c0 d0 e0 k) → GG l D cl tys cX10_feed 8 (some .int) RX10 ({ frames := 0, cells := 0, slots := 0, locals := 0 } : Room) (AM ma) MT (QM (Qi (fun (v : Int32) (u : Nat × (Nat → Nat) × Nat) => u.1 = 0 ∧ (if taped + 20 ≤ 900 then v = nI (taped + 20) ∧ u.2.1 = fedT tape taped a0 b0 c0 d0 e0 20 ∧ u.2.2 = taped + 20 else v = -1 ∧ u.2.1 = tape ∧ u.2.2 = taped)) (fun (u : Nat × (Nat → Nat) × Nat) => HM D cl tys mi cI cJ cZ ma known fresh_ saved images isImage u.1 u.2.1 u.2.2 size_ at_ begin_ token value open_ bad badPlace faultKind faultPlace xs ys pairs rows top heaps endsBehind path order firstOrder ordersMany tSort tMany numbers) (AM ma)) 0 0 (AM ma)) (HM D cl tys mi cI cJ cZ ma known fresh_ saved images isImage 0 (fedT tape taped a0 b0 c0 d0 e0 k) (taped + k) size_ at_ begin_ token value open_ bad badPlace faultKind faultPlace xs ys pairs rows top heaps endsBehind path order firstOrder ordersMany tSort tMany numbers) 0 0 76 [(0, .ref (ma 0)), (1, .int a0), (2, .int b0), (3, .int c0), (4, .int d0), (5, .int e0), (6, .int (nI k))] [.int w9] := by
            intro w9 hw9
            refine g_istore (L' := [(0, _), (1, _), (2, _), (3, _), (4, _), (5, _), (6, _), (7, _)]) dX10_feed_76 (by decide) rfl rfl ?_
            refine g_aload_n 0 dX10_feed_78 rfl rfl ?_
            refine m_get_tape dX10_feed_79 ?_
            refine g_aload_n 0 dX10_feed_82 rfl rfl ?_
            refine m_get_taped dX10_feed_83 ?_
            refine g_iload dX10_feed_86 rfl ?_
            refine g_bipush (v := nI 24) dX10_feed_88 (by decide +kernel) ?_
            refine g_bipush (v := nI 8) dX10_feed_90 (by decide +kernel) ?_
            refine g_iload dX10_feed_92 rfl ?_
            refine g_iconst (v := nI 3) dX10_feed_94 (by decide +kernel) ?_
            refine g_iand dX10_feed_95 ?_
            refine GG.topi (show nI k &&& nI 3 = nI (k % 4) from pk_andN (by omega) 2 (by decide +kernel)) ?_
            refine g_imul_n dX10_feed_96 ?_
            refine g_isub dX10_feed_97 ?_
            refine g_iushr dX10_feed_98 rfl ?_
            refine g_sipush (v := nI 255) dX10_feed_99 (by decide +kernel) ?_
            refine g_iand dX10_feed_102 ?_
            subst hw9
            refine GG.topi (show _ = nI (fB (fW a0 b0 c0 d0 e0 k) (k % 4)) from pk_and _ 8 (by decide +kernel)) ?_
            refine m_st_tape dX10_feed_103 (by omega) ?_
            refine g_aload_n 0 dX10_feed_104 rfl rfl ?_
            refine g_dup dX10_feed_105 rfl ?_
            refine m_get_taped dX10_feed_106 ?_
            refine g_iconst (v := nI 1) dX10_feed_109 (by decide +kernel) ?_
            refine g_iadd_n dX10_feed_110 ?_
            refine m_put_taped dX10_feed_111 ?_
            refine g_iinc_n (b := 1) (L' := [(0, _), (1, _), (2, _), (3, _), (4, _), (5, _), (6, _), (7, _)]) dX10_feed_114 rfl rfl (by decide) rfl rfl ?_
            refine g_goto (tgt := 23) dX10_feed_117 (by decide) ?_
            refine GG.locals [0, 1, 2, 3, 4, 5, 6] rfl ?_
            rw [fedT_step]
            exact ih23 (k + 1) (by omega) (by omega)
          refine g_iload dX10_feed_30 rfl ?_
          refine g_iconst (v := nI 4) dX10_feed_32 (by decide +kernel) ?_
          refine g_icmp_ge_n (tgt := 40) dX10_feed_33 (by decide) (by omega) (by omega) (fun c33 => ?_) (fun c33 => ?_)
          · skip
            refine g_iload dX10_feed_40 rfl ?_
            refine g_bipush (v := nI 8) dX10_feed_42 (by decide +kernel) ?_
            refine g_icmp_ge_n (tgt := 51) dX10_feed_44 (by decide) (by omega) (by omega) (fun c44 => ?_) (fun c44 => ?_)
            · skip
              refine g_iload dX10_feed_51 rfl ?_
              refine g_bipush (v := nI 12) dX10_feed_53 (by decide +kernel) ?_
              refine g_icmp_ge_n (tgt := 62) dX10_feed_55 (by decide) (by omega) (by omega) (fun c55 => ?_) (fun c55 => ?_)
              · skip
                refine g_iload dX10_feed_62 rfl ?_
                refine g_bipush (v := nI 16) dX10_feed_64 (by decide +kernel) ?_
                refine g_icmp_ge_n (tgt := 74) dX10_feed_66 (by decide) (by omega) (by omega) (fun c66 => ?_) (fun c66 => ?_)
                · skip
                  refine g_iload dX10_feed_74 rfl ?_
                  exact join76 _ (by first | exact fW_1 (by omega) | exact fW_2 (by omega) (by omega) | exact fW_3 (by omega) (by omega) | exact fW_4 (by omega) (by omega) | exact fW_5 (by omega))
                · skip
                  refine g_iload dX10_feed_69 rfl ?_
                  refine g_goto (tgt := 76) dX10_feed_71 (by decide) ?_
                  exact join76 _ (by first | exact fW_1 (by omega) | exact fW_2 (by omega) (by omega) | exact fW_3 (by omega) (by omega) | exact fW_4 (by omega) (by omega) | exact fW_5 (by omega))
              · skip
                refine g_iload_n 3 dX10_feed_58 rfl rfl ?_
                refine g_goto (tgt := 76) dX10_feed_59 (by decide) ?_
                exact join76 _ (by first | exact fW_1 (by omega) | exact fW_2 (by omega) (by omega) | exact fW_3 (by omega) (by omega) | exact fW_4 (by omega) (by omega) | exact fW_5 (by omega))
            · skip
              refine g_iload_n 2 dX10_feed_47 rfl rfl ?_
              refine g_goto (tgt := 76) dX10_feed_48 (by decide) ?_
              exact join76 _ (by first | exact fW_1 (by omega) | exact fW_2 (by omega) (by omega) | exact fW_3 (by omega) (by omega) | exact fW_4 (by omega) (by omega) | exact fW_5 (by omega))
          · skip
            refine g_iload_n 1 dX10_feed_36 rfl rfl ?_
            refine g_goto (tgt := 76) dX10_feed_37 (by decide) ?_
            exact join76 _ (by first | exact fW_1 (by omega) | exact fW_2 (by omega) (by omega) | exact fW_3 (by omega) (by omega) | exact fW_4 (by omega) (by omega) | exact fW_5 (by omega))
    have h0 := loop23 21 0 (by omega) (by omega)
    rw [fedT_0] at h0
    exact h0
  · skip
    refine g_iconst (v := -1) dX10_feed_18 (by decide +kernel) ?_
    exact g_iret (_, _, _) dX10_feed_19 (Nat.le_refl _) (Nat.le_refl _) (by refine ⟨rfl, ?_⟩; rw [if_neg (by omega)]; exact ⟨rfl, rfl, rfl⟩) (fun _ h => h)
set_option maxHeartbeats 4000000 in
/-- what stays by answers -/
theorem ct_answers (T : Talk) (Tr : Trays) (t0 wh : Int32) (hK : KIs known T) (hTr : TrM tSort tMany numbers Tr) : CT l D cl tys yX10_answers cX10_answers 8 (some .int) ({ frames := 5, cells := 0, slots := 0, locals := 119 } : Room) [.ref (ma 0), .int t0, .int wh] (HM D cl tys mi cI cJ cZ ma known fresh_ saved images isImage thrown tape taped size_ at_ begin_ token value open_ bad badPlace faultKind faultPlace xs ys pairs rows top heaps endsBehind path order firstOrder ordersMany tSort tMany numbers) (Qi (fun (v : Int32) (u : Nat × (Nat → Nat) × (Nat → Nat) × Nat × (Nat → Int64) × Nat × (Nat → Nat)) => isAnswers T Tr t0 wh u.1 v) (fun (u : Nat × (Nat → Nat) × (Nat → Nat) × Nat × (Nat → Int64) × Nat × (Nat → Nat)) => HM D cl tys mi cI cJ cZ ma known fresh_ saved images isImage u.1 tape taped size_ at_ begin_ token value open_ bad badPlace faultKind faultPlace u.2.1 u.2.2.1 u.2.2.2.1 u.2.2.2.2.1 u.2.2.2.2.2.1 u.2.2.2.2.2.2 endsBehind path order firstOrder ordersMany tSort tMany numbers) (AM ma)) (AM ma) := by
  obtain ⟨⟨o1, o2, o3, o4, o5, o6, o7, o8, o9, o10⟩, k0, k1, k2, k3, k4, k5, k6, k7, k8⟩ := id hK
  refine CT.of (L := [(0, .ref (ma 0)), (1, .int t0), (2, .int wh)]) rfl (by decide +kernel) rfl (Nat.le_of_ble_eq_true rfl) ?_
  rcases hit : iR t0 4 with _ | i
  · skip
    skip
    · skip
      have h2f : trFault Tr t0 = 1 := (by first | (unfold trFault; rw [hit]; done) | (unfold trFault; rw [hit]; rfl) | (unfold trFault; simp only [hit]; done) | (unfold trFault; simp only [hit]; rfl))
      refine g_aload_n 0 dX10_answers_0 rfl rfl ?_
      refine g_aload_n 0 dX10_answers_1 rfl rfl ?_
      refine g_iload_n 1 dX10_answers_2 rfl rfl ?_
      refine m_cVi (ct_trayFault Tr _ hTr) hvX10_trayFault hyX10_trayFault rfl ⟨Nat.le_of_ble_eq_true rfl, Nat.le_of_ble_eq_true rfl⟩ ⟨Nat.zero_le _, Nat.zero_le _⟩ rfl (Nat.le_of_ble_eq_true rfl) dX10_answers_3 m_rec (fun r u9 hp => ?_)
      obtain rfl := hp
      refine GG.topi (y := nI 1) (congrArg nI h2f) ?_
      refine m_put_thrown dX10_answers_6 ?_
      refine g_aload_n 0 dX10_answers_9 rfl rfl ?_
      refine m_get_thrown dX10_answers_10 ?_
      refine g_if_ne_n (tgt := 33) dX10_answers_13 (by decide) (by decide) (fun _ => ?_) (fun h => absurd h (by decide))
      refine g_aload_n 0 dX10_answers_33 rfl rfl ?_
      refine m_get_thrown dX10_answers_34 ?_
      refine g_if_le_n (tgt := 42) dX10_answers_37 (by decide) (by decide) (fun h => absurd h (by decide)) (fun _ => ?_)
      refine g_iconst (v := nI 0) dX10_answers_40 (by decide +kernel) ?_
      exact g_iret (_, _, _, _, _, _, _) dX10_answers_41 (Nat.le_refl _) (Nat.le_refl _) (by unfold isAnswers; rw [hit]) (fun _ h => h)
  · skip
    obtain ⟨hi, ei⟩ := iR_some hit
    subst ei
    rcases hTi : Tr i with _ | ⟨so, mn, vs⟩
    · skip
      have h2f : trFault Tr (nI i) = 2 := (by first | (unfold trFault; rw [hit, hTi]; done) | (unfold trFault; rw [hit, hTi]; rfl) | (unfold trFault; simp only [hit, hTi]; done) | (unfold trFault; simp only [hit, hTi]; rfl))
      refine g_aload_n 0 dX10_answers_0 rfl rfl ?_
      refine g_aload_n 0 dX10_answers_1 rfl rfl ?_
      refine g_iload_n 1 dX10_answers_2 rfl rfl ?_
      refine m_cVi (ct_trayFault Tr _ hTr) hvX10_trayFault hyX10_trayFault rfl ⟨Nat.le_of_ble_eq_true rfl, Nat.le_of_ble_eq_true rfl⟩ ⟨Nat.zero_le _, Nat.zero_le _⟩ rfl (Nat.le_of_ble_eq_true rfl) dX10_answers_3 m_rec (fun r u9 hp => ?_)
      obtain rfl := hp
      refine GG.topi (y := nI 2) (congrArg nI h2f) ?_
      refine m_put_thrown dX10_answers_6 ?_
      refine g_aload_n 0 dX10_answers_9 rfl rfl ?_
      refine m_get_thrown dX10_answers_10 ?_
      refine g_if_ne_n (tgt := 33) dX10_answers_13 (by decide) (by decide) (fun _ => ?_) (fun h => absurd h (by decide))
      refine g_aload_n 0 dX10_answers_33 rfl rfl ?_
      refine m_get_thrown dX10_answers_34 ?_
      refine g_if_le_n (tgt := 42) dX10_answers_37 (by decide) (by decide) (fun h => absurd h (by decide)) (fun _ => ?_)
      refine g_iconst (v := nI 0) dX10_answers_40 (by decide +kernel) ?_
      exact g_iret (_, _, _, _, _, _, _) dX10_answers_41 (Nat.le_refl _) (Nat.le_refl _) (by unfold isAnswers; rw [hit]; dsimp only; rw [hTi]) (fun _ h => h)
    · skip
      have h2f : trFault Tr (nI i) = 0 := (by first | (unfold trFault; rw [hit, hTi]; done) | (unfold trFault; rw [hit, hTi]; rfl) | (unfold trFault; simp only [hit, hTi]; done) | (unfold trFault; simp only [hit, hTi]; rfl))
      obtain ⟨b1, b2, b3, b4, b5⟩ := (hTr i hi).2 so mn vs hTi
      subst b3
      rcases iR3 wh with rfl | rfl | rfl | ⟨q0, q1, q2, hiw⟩
      · skip
        refine g_aload_n 0 dX10_answers_0 rfl rfl ?_
        refine g_aload_n 0 dX10_answers_1 rfl rfl ?_
        refine g_iload_n 1 dX10_answers_2 rfl rfl ?_
        refine m_cVi (ct_trayFault Tr _ hTr) hvX10_trayFault hyX10_trayFault rfl ⟨Nat.le_of_ble_eq_true rfl, Nat.le_of_ble_eq_true rfl⟩ ⟨Nat.zero_le _, Nat.zero_le _⟩ rfl (Nat.le_of_ble_eq_true rfl) dX10_answers_3 m_rec (fun r u9 hp => ?_)
        obtain rfl := hp
        refine GG.topi (y := nI 0) (congrArg nI h2f) ?_
        refine m_put_thrown dX10_answers_6 ?_
        refine g_aload_n 0 dX10_answers_9 rfl rfl ?_
        refine m_get_thrown dX10_answers_10 ?_
        refine g_if_ne_n (tgt := 33) dX10_answers_13 (by decide) (by decide) (fun h => absurd h (by decide)) (fun _ => ?_)
        refine g_iload_n 2 dX10_answers_16 rfl rfl ?_
        refine g_i2l_n dX10_answers_17 (by omega) ?_
        refine g_lconst (v := lN 0) dX10_answers_18 (by decide +kernel) ?_
        refine g_ldc2 (v := lN 2) dX10_answers_19 q2376 ?_
        refine m_cSi (ct_within _ _ _) hsX10_within hyX10_within rfl ⟨Nat.le_of_ble_eq_true rfl, Nat.le_of_ble_eq_true rfl⟩ ⟨Nat.zero_le _, Nat.zero_le _⟩ rfl (Nat.le_of_ble_eq_true rfl) dX10_answers_22 (fun r u9 hp => ?_)
        obtain rfl := hp
        refine GG.topi (y := nI 1) (by decide +kernel) ?_
        refine g_if_ne_n (tgt := 33) dX10_answers_25 (by decide) (by decide) (fun _ => ?_) (fun h => absurd h (by decide))
        refine g_aload_n 0 dX10_answers_33 rfl rfl ?_
        refine m_get_thrown dX10_answers_34 ?_
        refine g_if_le_n (tgt := 42) dX10_answers_37 (by decide) (by decide) (fun _ => ?_) (fun h => absurd h (by decide))
        refine g_aload_n 0 dX10_answers_42 rfl rfl ?_
        refine m_cVv (ct_layPairs (tLow T) (tHigh T) (tMost T) (tUn T) k1 k2 k3 k4 o1 o2 o3 o4 o5) hvX10_layPairs hyX10_layPairs rfl ⟨Nat.le_of_ble_eq_true rfl, Nat.le_of_ble_eq_true rfl⟩ ⟨Nat.zero_le _, Nat.zero_le _⟩ rfl (Nat.le_of_ble_eq_true rfl) dX10_answers_43 m_rec (fun ul hld => ?_)
        obtain ⟨xsL, ysL, pairsL⟩ := ul
        dsimp only
        have hl : layd xsL ysL pairsL (tW T) := hld
        have hW := layd_OK hl o1 o3
        have hP : pairsL ≤ 1830 := hW.1
        have hPT : pairsL = tP T := hl.1
        refine g_iconst (v := nI 0) dX10_answers_46 (by decide +kernel) ?_
        refine g_istore_n (L' := [(0, _), (1, _), (2, _), (3, _)]) 3 dX10_answers_47 rfl (by decide) rfl rfl ?_
        refine g_iconst (v := nI 1) dX10_answers_48 (by decide +kernel) ?_
        refine g_istore (L' := [(0, _), (1, _), (2, _), (3, _), (4, _)]) dX10_answers_49 (by decide) rfl rfl ?_
        refine g_aload_n 0 dX10_answers_51 rfl rfl ?_
        refine g_iload_n 3 dX10_answers_52 rfl rfl ?_
        refine g_iconst (v := nI 1) dX10_answers_53 (by decide +kernel) ?_
        refine m_cVv (ct_fills _ true (by omega) (by omega)) hvX10_fills hyX10_fills rfl ⟨Nat.le_of_ble_eq_true rfl, Nat.le_of_ble_eq_true rfl⟩ ⟨Nat.zero_le _, Nat.zero_le _⟩ rfl (Nat.le_of_ble_eq_true rfl) dX10_answers_54 m_rec (fun rows2 hp => ?_)
        refine g_iconst (v := nI 0) dX10_answers_57 (by decide +kernel) ?_
        refine g_istore (L' := [(0, _), (1, _), (2, _), (3, _), (4, _), (5, _)]) dX10_answers_58 (by decide) rfl rfl ?_
        have loop60 : ∀ (q60 : Nat) (k n0 n1 : Nat) (heaps1 : Nat → Nat) (rows1 : Nat → Int64), tMany i - k < q60 → (n0 < 2) → (n1 < 2) → (¬ n0 = n1) → (k ≤ tMany i) → (∀ j, j < k → anG T vs j = true) → (∀ w, w < pairsL → rbt rows1 n0 w = anS T vs k w) → GG l D cl tys cX10_answers 8 (some .int) RX10 ({ frames := 5, cells := 0, slots := 0, locals := 119 } : Room) (AM ma) MT (QM (Qi (fun (v : Int32) (u : Nat × (Nat → Nat) × (Nat → Nat) × Nat × (Nat → Int64) × Nat × (Nat → Nat)) => isAnswers T Tr (nI i) (nI 0) u.1 v) (fun (u : Nat × (Nat → Nat) × (Nat → Nat) × Nat × (Nat → Int64) × Nat × (Nat → Nat)) => HM D cl tys mi cI cJ cZ ma known fresh_ saved images isImage u.1 tape taped size_ at_ begin_ token value open_ bad badPlace faultKind faultPlace u.2.1 u.2.2.1 u.2.2.2.1 u.2.2.2.2.1 u.2.2.2.2.2.1 u.2.2.2.2.2.2 endsBehind path order firstOrder ordersMany tSort tMany numbers) (AM ma)) 0 0 (AM ma)) (HM D cl tys mi cI cJ cZ ma known fresh_ saved images isImage 0 tape taped size_ at_ begin_ token value open_ bad badPlace faultKind faultPlace xsL ysL pairsL rows1 top heaps1 endsBehind path order firstOrder ordersMany tSort tMany numbers) 0 0 60 [(0, .ref (ma 0)), (1, .int (nI i)), (2, .int (nI 0)), (3, .int (nI n0)), (4, .int (nI n1)), (5, .int (nI k))] [] := by
          intro q60
          induction q60 with
          | zero => intro k n0 n1 heaps1 rows1 hq60; exact absurd hq60 (Nat.not_lt_zero _)
          | succ q60 ih60 =>
            intro k n0 n1 heaps1 rows1 hq60 hn0 hn1 hne hkm hG hS
            refine g_iload dX10_answers_60 rfl ?_
            refine g_aload_n 0 dX10_answers_62 rfl rfl ?_
            refine m_get_tMany dX10_answers_63 ?_
            refine g_iload_n 1 dX10_answers_66 rfl rfl ?_
            refine m_ld_tMany dX10_answers_67 (by omega) ?_
            refine g_icmp_ge_n (tgt := 158) dX10_answers_68 (by decide) (by omega) (by omega) (fun c68 => ?_) (fun c68 => ?_)
            · skip
              refine g_iload_n 2 dX10_answers_158 rfl rfl ?_
              refine g_if_ne_n (tgt := 170) dX10_answers_159 (by decide) (by decide) (fun h => absurd h (by decide)) (fun _ => ?_)
              refine g_aload_n 0 dX10_answers_162 rfl rfl ?_
              refine g_iload_n 3 dX10_answers_163 rfl rfl ?_
              refine m_cVi (ct_manyOf _ (by omega) (by omega)) hvX10_manyOf hyX10_manyOf rfl ⟨Nat.le_of_ble_eq_true rfl, Nat.le_of_ble_eq_true rfl⟩ ⟨Nat.zero_le _, Nat.zero_le _⟩ rfl (Nat.le_of_ble_eq_true rfl) dX10_answers_164 m_rec (fun r u hp => ?_)
              obtain rfl := hp
              refine g_goto (tgt := 185) dX10_answers_167 (by decide) ?_
              exact g_iret (_, _, _, _, _, _, _) dX10_answers_185 (Nat.le_refl _) (Nat.le_refl _) (by have hend : anEnd T (tMany i) vs k := ⟨hkm, hG, (by first | exact Or.inl (by omega) | exact Or.inr c100)⟩; rw [isAnswers_ok hit hTi, if_pos (show nI 0 = 0 from by decide +kernel)]; exact ⟨rfl, k, hend, by rw [← hPT]; exact congrArg nI (cnt_congr (fun w hw => hS w hw))⟩) (fun _ h => h)
            · skip
              refine g_aload_n 0 dX10_answers_71 rfl rfl ?_
              refine m_get_numbers dX10_answers_72 ?_
              refine g_bipush (v := nI 40) dX10_answers_75 (by decide +kernel) ?_
              refine g_iload_n 1 dX10_answers_77 rfl rfl ?_
              refine g_imul_n dX10_answers_78 ?_
              refine g_iload dX10_answers_79 rfl ?_
              refine g_iadd_n dX10_answers_81 ?_
              refine m_ld_numbers dX10_answers_82 (by omega) ?_
              refine GG.topl (b5 k (by omega)) ?_
              refine g_lconst (v := lN 0) dX10_answers_83 (by decide +kernel) ?_
              refine g_ldc2 (v := lN 2) dX10_answers_84 q2376 ?_
              refine g_aload_n 0 dX10_answers_87 rfl rfl ?_
              refine m_get_known dX10_answers_88 ?_
              refine g_iconst (v := nI 5) dX10_answers_91 (by decide +kernel) ?_
              refine m_ld_known dX10_answers_92 (by omega) ?_
              refine GG.topi k5 ?_
              refine g_i2l_n dX10_answers_93 (by omega) ?_
              refine g_lmul dX10_answers_94 ?_
              refine g_lconst (v := lN 1) dX10_answers_95 (by decide +kernel) ?_
              refine g_lsub dX10_answers_96 ?_
              refine m_cSi (ct_within _ _ _) hsX10_within hyX10_within rfl ⟨Nat.le_of_ble_eq_true rfl, Nat.le_of_ble_eq_true rfl⟩ ⟨Nat.zero_le _, Nat.zero_le _⟩ rfl (Nat.le_of_ble_eq_true rfl) dX10_answers_97 (fun r u9 hp => ?_)
              obtain rfl := hp
              refine GG.topi (y := bI (anG T vs k)) (congrArg bI (anG_wIn o6)) ?_
              refine g_if_eq_b (tgt := 158) dX10_answers_100 (by decide) (fun c100 => ?_) (fun c100 => ?_)
              · skip
                refine g_iload_n 2 dX10_answers_158 rfl rfl ?_
                refine g_if_ne_n (tgt := 170) dX10_answers_159 (by decide) (by decide) (fun h => absurd h (by decide)) (fun _ => ?_)
                refine g_aload_n 0 dX10_answers_162 rfl rfl ?_
                refine g_iload_n 3 dX10_answers_163 rfl rfl ?_
                refine m_cVi (ct_manyOf _ (by omega) (by omega)) hvX10_manyOf hyX10_manyOf rfl ⟨Nat.le_of_ble_eq_true rfl, Nat.le_of_ble_eq_true rfl⟩ ⟨Nat.zero_le _, Nat.zero_le _⟩ rfl (Nat.le_of_ble_eq_true rfl) dX10_answers_164 m_rec (fun r u hp => ?_)
                obtain rfl := hp
                refine g_goto (tgt := 185) dX10_answers_167 (by decide) ?_
                exact g_iret (_, _, _, _, _, _, _) dX10_answers_185 (Nat.le_refl _) (Nat.le_refl _) (by have hend : anEnd T (tMany i) vs k := ⟨hkm, hG, (by first | exact Or.inl (by omega) | exact Or.inr c100)⟩; rw [isAnswers_ok hit hTi, if_pos (show nI 0 = 0 from by decide +kernel)]; exact ⟨rfl, k, hend, by rw [← hPT]; exact congrArg nI (cnt_congr (fun w hw => hS w hw))⟩) (fun _ h => h)
              · skip
                obtain ⟨x, hx, hvx, hxn⟩ := anG_lN c100
                refine g_aload_n 0 dX10_answers_103 rfl rfl ?_
                refine m_get_numbers dX10_answers_104 ?_
                refine g_bipush (v := nI 40) dX10_answers_107 (by decide +kernel) ?_
                refine g_iload_n 1 dX10_answers_109 rfl rfl ?_
                refine g_imul_n dX10_answers_110 ?_
                refine g_iload dX10_answers_111 rfl ?_
                refine g_iadd_n dX10_answers_113 ?_
                refine m_ld_numbers dX10_answers_114 (by omega) ?_
                refine GG.topl ((b5 k (by omega)).trans hvx) ?_
                refine g_l2i dX10_answers_115 rfl ?_
                refine GG.topi (lN_i x) ?_
                refine g_istore (L' := [(0, _), (1, _), (2, _), (3, _), (4, _), (5, _), (6, _)]) dX10_answers_116 (by decide) rfl rfl ?_
                refine g_aload_n 0 dX10_answers_118 rfl rfl ?_
                refine g_iload dX10_answers_119 rfl ?_
                refine g_iconst (v := nI 2) dX10_answers_121 (by decide +kernel) ?_
                refine g_idiv_n dX10_answers_122 (by omega) (by decide) (by decide) ?_
                refine g_iload_n 3 dX10_answers_123 rfl rfl ?_
                refine g_iload dX10_answers_124 rfl ?_
                refine g_iconst (v := nI 2) dX10_answers_126 (by decide +kernel) ?_
                refine g_irem_n dX10_answers_127 (by omega) (by decide) (by decide) ?_
                refine g_iconst (v := nI 1) dX10_answers_128 (by decide +kernel) ?_
                refine g_icmp_ne_n (tgt := 136) dX10_answers_129 (by decide) (by omega) (by omega) (fun c129 => ?_) (fun c129 => ?_)
                · skip
                  refine g_iconst (v := nI 0) dX10_answers_136 (by decide +kernel) ?_
                  refine g_iload dX10_answers_137 rfl ?_
                  refine m_cVv (ct_laysAnswers (x / 2) n0 n1 (tKind T (x / 2)) false (by omega) (k7 (x / 2) (by omega)).1 (by have := o8 (x / 2) (by omega); omega) (by omega) (by omega) (by omega) hW) hvX10_laysAnswers hyX10_laysAnswers rfl ⟨Nat.le_of_ble_eq_true rfl, Nat.le_of_ble_eq_true rfl⟩ ⟨Nat.zero_le _, Nat.zero_le _⟩ rfl (Nat.le_of_ble_eq_true rfl) dX10_answers_139 m_rec (fun ua ha => ?_)
                  obtain ⟨heaps4, rows4⟩ := ua
                  dsimp only
                  have ha : rowsUp rows1 rows4 n1 pairsL _ := ha
                  have hst : ∀ w, w < pairsL → rbt rows4 n1 w = anS T vs (k + 1) w := fun w hw => by
                    rw [rowsUp_in ha hP (by omega), show anS T vs (k + 1) = shStep T x (anS T vs k) from by show shStep T (vs k).toInt.toNat (anS T vs k) = _; rw [hxn]]
                    exact shStep_env hl rfl (by first | exact (decide_eq_true c129).symm | exact (decide_eq_false c129).symm) (fun z hz => hS z (by omega)) w (by omega)
                  refine g_iload_n 3 dX10_answers_142 rfl rfl ?_
                  refine g_istore (L' := [(0, _), (1, _), (2, _), (3, _), (4, _), (5, _), (6, _), (7, _)]) dX10_answers_143 (by decide) rfl rfl ?_
                  refine g_iload dX10_answers_145 rfl ?_
                  refine g_istore_n (L' := [(0, _), (1, _), (2, _), (3, _), (4, _), (5, _), (6, _), (7, _)]) 3 dX10_answers_147 rfl (by decide) rfl rfl ?_
                  refine g_iload dX10_answers_148 rfl ?_
                  refine g_istore (L' := [(0, _), (1, _), (2, _), (3, _), (4, _), (5, _), (6, _), (7, _)]) dX10_answers_150 (by decide) rfl rfl ?_
                  refine g_iinc_n (b := 1) (L' := [(0, _), (1, _), (2, _), (3, _), (4, _), (5, _), (6, _), (7, _)]) dX10_answers_152 rfl rfl (by decide) rfl rfl ?_
                  refine g_goto (tgt := 60) dX10_answers_155 (by decide) ?_
                  refine GG.locals [0, 1, 2, 3, 4, 5] rfl ?_
                  exact ih60 (k + 1) n1 n0 heaps4 rows4 (by omega) hn1 hn0 (fun q => hne q.symm) (by omega) (fun j hj => (Nat.lt_succ_iff_lt_or_eq.mp hj).elim (fun q => hG j q) (fun q => by rw [q]; exact c100)) hst
                · skip
                  refine g_iconst (v := nI 1) dX10_answers_132 (by decide +kernel) ?_
                  refine g_goto (tgt := 137) dX10_answers_133 (by decide) ?_
                  refine g_iload dX10_answers_137 rfl ?_
                  refine m_cVv (ct_laysAnswers (x / 2) n0 n1 (tKind T (x / 2)) true (by omega) (k7 (x / 2) (by omega)).1 (by have := o8 (x / 2) (by omega); omega) (by omega) (by omega) (by omega) hW) hvX10_laysAnswers hyX10_laysAnswers rfl ⟨Nat.le_of_ble_eq_true rfl, Nat.le_of_ble_eq_true rfl⟩ ⟨Nat.zero_le _, Nat.zero_le _⟩ rfl (Nat.le_of_ble_eq_true rfl) dX10_answers_139 m_rec (fun ua ha => ?_)
                  obtain ⟨heaps4, rows4⟩ := ua
                  dsimp only
                  have ha : rowsUp rows1 rows4 n1 pairsL _ := ha
                  have hst : ∀ w, w < pairsL → rbt rows4 n1 w = anS T vs (k + 1) w := fun w hw => by
                    rw [rowsUp_in ha hP (by omega), show anS T vs (k + 1) = shStep T x (anS T vs k) from by show shStep T (vs k).toInt.toNat (anS T vs k) = _; rw [hxn]]
                    exact shStep_env hl rfl (by first | exact (decide_eq_true c129).symm | exact (decide_eq_false c129).symm) (fun z hz => hS z (by omega)) w (by omega)
                  refine g_iload_n 3 dX10_answers_142 rfl rfl ?_
                  refine g_istore (L' := [(0, _), (1, _), (2, _), (3, _), (4, _), (5, _), (6, _), (7, _)]) dX10_answers_143 (by decide) rfl rfl ?_
                  refine g_iload dX10_answers_145 rfl ?_
                  refine g_istore_n (L' := [(0, _), (1, _), (2, _), (3, _), (4, _), (5, _), (6, _), (7, _)]) 3 dX10_answers_147 rfl (by decide) rfl rfl ?_
                  refine g_iload dX10_answers_148 rfl ?_
                  refine g_istore (L' := [(0, _), (1, _), (2, _), (3, _), (4, _), (5, _), (6, _), (7, _)]) dX10_answers_150 (by decide) rfl rfl ?_
                  refine g_iinc_n (b := 1) (L' := [(0, _), (1, _), (2, _), (3, _), (4, _), (5, _), (6, _), (7, _)]) dX10_answers_152 rfl rfl (by decide) rfl rfl ?_
                  refine g_goto (tgt := 60) dX10_answers_155 (by decide) ?_
                  refine GG.locals [0, 1, 2, 3, 4, 5] rfl ?_
                  exact ih60 (k + 1) n1 n0 heaps4 rows4 (by omega) hn1 hn0 (fun q => hne q.symm) (by omega) (fun j hj => (Nat.lt_succ_iff_lt_or_eq.mp hj).elim (fun q => hG j q) (fun q => by rw [q]; exact c100)) hst
        exact loop60 (tMany i + 1) 0 0 1 heaps rows2 (by omega) (by decide) (by decide) (by decide) (Nat.zero_le _) (fun j hj => absurd hj (Nat.not_lt_zero _)) (fun w hw => by rw [rowsUp_in hp hP hw]; rfl)
      · skip
        refine g_aload_n 0 dX10_answers_0 rfl rfl ?_
        refine g_aload_n 0 dX10_answers_1 rfl rfl ?_
        refine g_iload_n 1 dX10_answers_2 rfl rfl ?_
        refine m_cVi (ct_trayFault Tr _ hTr) hvX10_trayFault hyX10_trayFault rfl ⟨Nat.le_of_ble_eq_true rfl, Nat.le_of_ble_eq_true rfl⟩ ⟨Nat.zero_le _, Nat.zero_le _⟩ rfl (Nat.le_of_ble_eq_true rfl) dX10_answers_3 m_rec (fun r u9 hp => ?_)
        obtain rfl := hp
        refine GG.topi (y := nI 0) (congrArg nI h2f) ?_
        refine m_put_thrown dX10_answers_6 ?_
        refine g_aload_n 0 dX10_answers_9 rfl rfl ?_
        refine m_get_thrown dX10_answers_10 ?_
        refine g_if_ne_n (tgt := 33) dX10_answers_13 (by decide) (by decide) (fun h => absurd h (by decide)) (fun _ => ?_)
        refine g_iload_n 2 dX10_answers_16 rfl rfl ?_
        refine g_i2l_n dX10_answers_17 (by omega) ?_
        refine g_lconst (v := lN 0) dX10_answers_18 (by decide +kernel) ?_
        refine g_ldc2 (v := lN 2) dX10_answers_19 q2376 ?_
        refine m_cSi (ct_within _ _ _) hsX10_within hyX10_within rfl ⟨Nat.le_of_ble_eq_true rfl, Nat.le_of_ble_eq_true rfl⟩ ⟨Nat.zero_le _, Nat.zero_le _⟩ rfl (Nat.le_of_ble_eq_true rfl) dX10_answers_22 (fun r u9 hp => ?_)
        obtain rfl := hp
        refine GG.topi (y := nI 1) (by decide +kernel) ?_
        refine g_if_ne_n (tgt := 33) dX10_answers_25 (by decide) (by decide) (fun _ => ?_) (fun h => absurd h (by decide))
        refine g_aload_n 0 dX10_answers_33 rfl rfl ?_
        refine m_get_thrown dX10_answers_34 ?_
        refine g_if_le_n (tgt := 42) dX10_answers_37 (by decide) (by decide) (fun _ => ?_) (fun h => absurd h (by decide))
        refine g_aload_n 0 dX10_answers_42 rfl rfl ?_
        refine m_cVv (ct_layPairs (tLow T) (tHigh T) (tMost T) (tUn T) k1 k2 k3 k4 o1 o2 o3 o4 o5) hvX10_layPairs hyX10_layPairs rfl ⟨Nat.le_of_ble_eq_true rfl, Nat.le_of_ble_eq_true rfl⟩ ⟨Nat.zero_le _, Nat.zero_le _⟩ rfl (Nat.le_of_ble_eq_true rfl) dX10_answers_43 m_rec (fun ul hld => ?_)
        obtain ⟨xsL, ysL, pairsL⟩ := ul
        dsimp only
        have hl : layd xsL ysL pairsL (tW T) := hld
        have hW := layd_OK hl o1 o3
        have hP : pairsL ≤ 1830 := hW.1
        have hPT : pairsL = tP T := hl.1
        refine g_iconst (v := nI 0) dX10_answers_46 (by decide +kernel) ?_
        refine g_istore_n (L' := [(0, _), (1, _), (2, _), (3, _)]) 3 dX10_answers_47 rfl (by decide) rfl rfl ?_
        refine g_iconst (v := nI 1) dX10_answers_48 (by decide +kernel) ?_
        refine g_istore (L' := [(0, _), (1, _), (2, _), (3, _), (4, _)]) dX10_answers_49 (by decide) rfl rfl ?_
        refine g_aload_n 0 dX10_answers_51 rfl rfl ?_
        refine g_iload_n 3 dX10_answers_52 rfl rfl ?_
        refine g_iconst (v := nI 1) dX10_answers_53 (by decide +kernel) ?_
        refine m_cVv (ct_fills _ true (by omega) (by omega)) hvX10_fills hyX10_fills rfl ⟨Nat.le_of_ble_eq_true rfl, Nat.le_of_ble_eq_true rfl⟩ ⟨Nat.zero_le _, Nat.zero_le _⟩ rfl (Nat.le_of_ble_eq_true rfl) dX10_answers_54 m_rec (fun rows2 hp => ?_)
        refine g_iconst (v := nI 0) dX10_answers_57 (by decide +kernel) ?_
        refine g_istore (L' := [(0, _), (1, _), (2, _), (3, _), (4, _), (5, _)]) dX10_answers_58 (by decide) rfl rfl ?_
        have loop60 : ∀ (q60 : Nat) (k n0 n1 : Nat) (heaps1 : Nat → Nat) (rows1 : Nat → Int64), tMany i - k < q60 → (n0 < 2) → (n1 < 2) → (¬ n0 = n1) → (k ≤ tMany i) → (∀ j, j < k → anG T vs j = true) → (∀ w, w < pairsL → rbt rows1 n0 w = anS T vs k w) → GG l D cl tys cX10_answers 8 (some .int) RX10 ({ frames := 5, cells := 0, slots := 0, locals := 119 } : Room) (AM ma) MT (QM (Qi (fun (v : Int32) (u : Nat × (Nat → Nat) × (Nat → Nat) × Nat × (Nat → Int64) × Nat × (Nat → Nat)) => isAnswers T Tr (nI i) (nI 1) u.1 v) (fun (u : Nat × (Nat → Nat) × (Nat → Nat) × Nat × (Nat → Int64) × Nat × (Nat → Nat)) => HM D cl tys mi cI cJ cZ ma known fresh_ saved images isImage u.1 tape taped size_ at_ begin_ token value open_ bad badPlace faultKind faultPlace u.2.1 u.2.2.1 u.2.2.2.1 u.2.2.2.2.1 u.2.2.2.2.2.1 u.2.2.2.2.2.2 endsBehind path order firstOrder ordersMany tSort tMany numbers) (AM ma)) 0 0 (AM ma)) (HM D cl tys mi cI cJ cZ ma known fresh_ saved images isImage 0 tape taped size_ at_ begin_ token value open_ bad badPlace faultKind faultPlace xsL ysL pairsL rows1 top heaps1 endsBehind path order firstOrder ordersMany tSort tMany numbers) 0 0 60 [(0, .ref (ma 0)), (1, .int (nI i)), (2, .int (nI 1)), (3, .int (nI n0)), (4, .int (nI n1)), (5, .int (nI k))] [] := by
          intro q60
          induction q60 with
          | zero => intro k n0 n1 heaps1 rows1 hq60; exact absurd hq60 (Nat.not_lt_zero _)
          | succ q60 ih60 =>
            intro k n0 n1 heaps1 rows1 hq60 hn0 hn1 hne hkm hG hS
            refine g_iload dX10_answers_60 rfl ?_
            refine g_aload_n 0 dX10_answers_62 rfl rfl ?_
            refine m_get_tMany dX10_answers_63 ?_
            refine g_iload_n 1 dX10_answers_66 rfl rfl ?_
            refine m_ld_tMany dX10_answers_67 (by omega) ?_
            refine g_icmp_ge_n (tgt := 158) dX10_answers_68 (by decide) (by omega) (by omega) (fun c68 => ?_) (fun c68 => ?_)
            · skip
              refine g_iload_n 2 dX10_answers_158 rfl rfl ?_
              refine g_if_ne_n (tgt := 170) dX10_answers_159 (by decide) (by decide) (fun _ => ?_) (fun h => absurd h (by decide))
              refine g_iload_n 2 dX10_answers_170 rfl rfl ?_
              refine g_iconst (v := nI 1) dX10_answers_171 (by decide +kernel) ?_
              refine g_icmp_ne_n (tgt := 183) dX10_answers_172 (by decide) (by decide) (by decide) (fun h => absurd h (by decide)) (fun _ => ?_)
              refine g_aload_n 0 dX10_answers_175 rfl rfl ?_
              refine g_iload_n 3 dX10_answers_176 rfl rfl ?_
              refine m_cVi (ct_first _ (by omega) (by omega)) hvX10_first hyX10_first rfl ⟨Nat.le_of_ble_eq_true rfl, Nat.le_of_ble_eq_true rfl⟩ ⟨Nat.zero_le _, Nat.zero_le _⟩ rfl (Nat.le_of_ble_eq_true rfl) dX10_answers_177 m_rec (fun r u hp => ?_)
              refine g_goto (tgt := 185) dX10_answers_180 (by decide) ?_
              exact g_iret (_, _, _, _, _, _, _) dX10_answers_185 (Nat.le_refl _) (Nat.le_refl _) (by have hend : anEnd T (tMany i) vs k := ⟨hkm, hG, (by first | exact Or.inl (by omega) | exact Or.inr c100)⟩; rw [isAnswers_ok hit hTi, if_neg nI_1ne0, if_pos (show nI 1 = 1 from by decide +kernel)]; exact ⟨rfl, k, hend, by rw [← hPT]; exact isFst_congr (fun w hw => hS w hw) hp⟩) (fun _ h => h)
            · skip
              refine g_aload_n 0 dX10_answers_71 rfl rfl ?_
              refine m_get_numbers dX10_answers_72 ?_
              refine g_bipush (v := nI 40) dX10_answers_75 (by decide +kernel) ?_
              refine g_iload_n 1 dX10_answers_77 rfl rfl ?_
              refine g_imul_n dX10_answers_78 ?_
              refine g_iload dX10_answers_79 rfl ?_
              refine g_iadd_n dX10_answers_81 ?_
              refine m_ld_numbers dX10_answers_82 (by omega) ?_
              refine GG.topl (b5 k (by omega)) ?_
              refine g_lconst (v := lN 0) dX10_answers_83 (by decide +kernel) ?_
              refine g_ldc2 (v := lN 2) dX10_answers_84 q2376 ?_
              refine g_aload_n 0 dX10_answers_87 rfl rfl ?_
              refine m_get_known dX10_answers_88 ?_
              refine g_iconst (v := nI 5) dX10_answers_91 (by decide +kernel) ?_
              refine m_ld_known dX10_answers_92 (by omega) ?_
              refine GG.topi k5 ?_
              refine g_i2l_n dX10_answers_93 (by omega) ?_
              refine g_lmul dX10_answers_94 ?_
              refine g_lconst (v := lN 1) dX10_answers_95 (by decide +kernel) ?_
              refine g_lsub dX10_answers_96 ?_
              refine m_cSi (ct_within _ _ _) hsX10_within hyX10_within rfl ⟨Nat.le_of_ble_eq_true rfl, Nat.le_of_ble_eq_true rfl⟩ ⟨Nat.zero_le _, Nat.zero_le _⟩ rfl (Nat.le_of_ble_eq_true rfl) dX10_answers_97 (fun r u9 hp => ?_)
              obtain rfl := hp
              refine GG.topi (y := bI (anG T vs k)) (congrArg bI (anG_wIn o6)) ?_
              refine g_if_eq_b (tgt := 158) dX10_answers_100 (by decide) (fun c100 => ?_) (fun c100 => ?_)
              · skip
                refine g_iload_n 2 dX10_answers_158 rfl rfl ?_
                refine g_if_ne_n (tgt := 170) dX10_answers_159 (by decide) (by decide) (fun _ => ?_) (fun h => absurd h (by decide))
                refine g_iload_n 2 dX10_answers_170 rfl rfl ?_
                refine g_iconst (v := nI 1) dX10_answers_171 (by decide +kernel) ?_
                refine g_icmp_ne_n (tgt := 183) dX10_answers_172 (by decide) (by decide) (by decide) (fun h => absurd h (by decide)) (fun _ => ?_)
                refine g_aload_n 0 dX10_answers_175 rfl rfl ?_
                refine g_iload_n 3 dX10_answers_176 rfl rfl ?_
                refine m_cVi (ct_first _ (by omega) (by omega)) hvX10_first hyX10_first rfl ⟨Nat.le_of_ble_eq_true rfl, Nat.le_of_ble_eq_true rfl⟩ ⟨Nat.zero_le _, Nat.zero_le _⟩ rfl (Nat.le_of_ble_eq_true rfl) dX10_answers_177 m_rec (fun r u hp => ?_)
                refine g_goto (tgt := 185) dX10_answers_180 (by decide) ?_
                exact g_iret (_, _, _, _, _, _, _) dX10_answers_185 (Nat.le_refl _) (Nat.le_refl _) (by have hend : anEnd T (tMany i) vs k := ⟨hkm, hG, (by first | exact Or.inl (by omega) | exact Or.inr c100)⟩; rw [isAnswers_ok hit hTi, if_neg nI_1ne0, if_pos (show nI 1 = 1 from by decide +kernel)]; exact ⟨rfl, k, hend, by rw [← hPT]; exact isFst_congr (fun w hw => hS w hw) hp⟩) (fun _ h => h)
              · skip
                obtain ⟨x, hx, hvx, hxn⟩ := anG_lN c100
                refine g_aload_n 0 dX10_answers_103 rfl rfl ?_
                refine m_get_numbers dX10_answers_104 ?_
                refine g_bipush (v := nI 40) dX10_answers_107 (by decide +kernel) ?_
                refine g_iload_n 1 dX10_answers_109 rfl rfl ?_
                refine g_imul_n dX10_answers_110 ?_
                refine g_iload dX10_answers_111 rfl ?_
                refine g_iadd_n dX10_answers_113 ?_
                refine m_ld_numbers dX10_answers_114 (by omega) ?_
                refine GG.topl ((b5 k (by omega)).trans hvx) ?_
                refine g_l2i dX10_answers_115 rfl ?_
                refine GG.topi (lN_i x) ?_
                refine g_istore (L' := [(0, _), (1, _), (2, _), (3, _), (4, _), (5, _), (6, _)]) dX10_answers_116 (by decide) rfl rfl ?_
                refine g_aload_n 0 dX10_answers_118 rfl rfl ?_
                refine g_iload dX10_answers_119 rfl ?_
                refine g_iconst (v := nI 2) dX10_answers_121 (by decide +kernel) ?_
                refine g_idiv_n dX10_answers_122 (by omega) (by decide) (by decide) ?_
                refine g_iload_n 3 dX10_answers_123 rfl rfl ?_
                refine g_iload dX10_answers_124 rfl ?_
                refine g_iconst (v := nI 2) dX10_answers_126 (by decide +kernel) ?_
                refine g_irem_n dX10_answers_127 (by omega) (by decide) (by decide) ?_
                refine g_iconst (v := nI 1) dX10_answers_128 (by decide +kernel) ?_
                refine g_icmp_ne_n (tgt := 136) dX10_answers_129 (by decide) (by omega) (by omega) (fun c129 => ?_) (fun c129 => ?_)
                · skip
                  refine g_iconst (v := nI 0) dX10_answers_136 (by decide +kernel) ?_
                  refine g_iload dX10_answers_137 rfl ?_
                  refine m_cVv (ct_laysAnswers (x / 2) n0 n1 (tKind T (x / 2)) false (by omega) (k7 (x / 2) (by omega)).1 (by have := o8 (x / 2) (by omega); omega) (by omega) (by omega) (by omega) hW) hvX10_laysAnswers hyX10_laysAnswers rfl ⟨Nat.le_of_ble_eq_true rfl, Nat.le_of_ble_eq_true rfl⟩ ⟨Nat.zero_le _, Nat.zero_le _⟩ rfl (Nat.le_of_ble_eq_true rfl) dX10_answers_139 m_rec (fun ua ha => ?_)
                  obtain ⟨heaps4, rows4⟩ := ua
                  dsimp only
                  have ha : rowsUp rows1 rows4 n1 pairsL _ := ha
                  have hst : ∀ w, w < pairsL → rbt rows4 n1 w = anS T vs (k + 1) w := fun w hw => by
                    rw [rowsUp_in ha hP (by omega), show anS T vs (k + 1) = shStep T x (anS T vs k) from by show shStep T (vs k).toInt.toNat (anS T vs k) = _; rw [hxn]]
                    exact shStep_env hl rfl (by first | exact (decide_eq_true c129).symm | exact (decide_eq_false c129).symm) (fun z hz => hS z (by omega)) w (by omega)
                  refine g_iload_n 3 dX10_answers_142 rfl rfl ?_
                  refine g_istore (L' := [(0, _), (1, _), (2, _), (3, _), (4, _), (5, _), (6, _), (7, _)]) dX10_answers_143 (by decide) rfl rfl ?_
                  refine g_iload dX10_answers_145 rfl ?_
                  refine g_istore_n (L' := [(0, _), (1, _), (2, _), (3, _), (4, _), (5, _), (6, _), (7, _)]) 3 dX10_answers_147 rfl (by decide) rfl rfl ?_
                  refine g_iload dX10_answers_148 rfl ?_
                  refine g_istore (L' := [(0, _), (1, _), (2, _), (3, _), (4, _), (5, _), (6, _), (7, _)]) dX10_answers_150 (by decide) rfl rfl ?_
                  refine g_iinc_n (b := 1) (L' := [(0, _), (1, _), (2, _), (3, _), (4, _), (5, _), (6, _), (7, _)]) dX10_answers_152 rfl rfl (by decide) rfl rfl ?_
                  refine g_goto (tgt := 60) dX10_answers_155 (by decide) ?_
                  refine GG.locals [0, 1, 2, 3, 4, 5] rfl ?_
                  exact ih60 (k + 1) n1 n0 heaps4 rows4 (by omega) hn1 hn0 (fun q => hne q.symm) (by omega) (fun j hj => (Nat.lt_succ_iff_lt_or_eq.mp hj).elim (fun q => hG j q) (fun q => by rw [q]; exact c100)) hst
                · skip
                  refine g_iconst (v := nI 1) dX10_answers_132 (by decide +kernel) ?_
                  refine g_goto (tgt := 137) dX10_answers_133 (by decide) ?_
                  refine g_iload dX10_answers_137 rfl ?_
                  refine m_cVv (ct_laysAnswers (x / 2) n0 n1 (tKind T (x / 2)) true (by omega) (k7 (x / 2) (by omega)).1 (by have := o8 (x / 2) (by omega); omega) (by omega) (by omega) (by omega) hW) hvX10_laysAnswers hyX10_laysAnswers rfl ⟨Nat.le_of_ble_eq_true rfl, Nat.le_of_ble_eq_true rfl⟩ ⟨Nat.zero_le _, Nat.zero_le _⟩ rfl (Nat.le_of_ble_eq_true rfl) dX10_answers_139 m_rec (fun ua ha => ?_)
                  obtain ⟨heaps4, rows4⟩ := ua
                  dsimp only
                  have ha : rowsUp rows1 rows4 n1 pairsL _ := ha
                  have hst : ∀ w, w < pairsL → rbt rows4 n1 w = anS T vs (k + 1) w := fun w hw => by
                    rw [rowsUp_in ha hP (by omega), show anS T vs (k + 1) = shStep T x (anS T vs k) from by show shStep T (vs k).toInt.toNat (anS T vs k) = _; rw [hxn]]
                    exact shStep_env hl rfl (by first | exact (decide_eq_true c129).symm | exact (decide_eq_false c129).symm) (fun z hz => hS z (by omega)) w (by omega)
                  refine g_iload_n 3 dX10_answers_142 rfl rfl ?_
                  refine g_istore (L' := [(0, _), (1, _), (2, _), (3, _), (4, _), (5, _), (6, _), (7, _)]) dX10_answers_143 (by decide) rfl rfl ?_
                  refine g_iload dX10_answers_145 rfl ?_
                  refine g_istore_n (L' := [(0, _), (1, _), (2, _), (3, _), (4, _), (5, _), (6, _), (7, _)]) 3 dX10_answers_147 rfl (by decide) rfl rfl ?_
                  refine g_iload dX10_answers_148 rfl ?_
                  refine g_istore (L' := [(0, _), (1, _), (2, _), (3, _), (4, _), (5, _), (6, _), (7, _)]) dX10_answers_150 (by decide) rfl rfl ?_
                  refine g_iinc_n (b := 1) (L' := [(0, _), (1, _), (2, _), (3, _), (4, _), (5, _), (6, _), (7, _)]) dX10_answers_152 rfl rfl (by decide) rfl rfl ?_
                  refine g_goto (tgt := 60) dX10_answers_155 (by decide) ?_
                  refine GG.locals [0, 1, 2, 3, 4, 5] rfl ?_
                  exact ih60 (k + 1) n1 n0 heaps4 rows4 (by omega) hn1 hn0 (fun q => hne q.symm) (by omega) (fun j hj => (Nat.lt_succ_iff_lt_or_eq.mp hj).elim (fun q => hG j q) (fun q => by rw [q]; exact c100)) hst
        exact loop60 (tMany i + 1) 0 0 1 heaps rows2 (by omega) (by decide) (by decide) (by decide) (Nat.zero_le _) (fun j hj => absurd hj (Nat.not_lt_zero _)) (fun w hw => by rw [rowsUp_in hp hP hw]; rfl)
      · skip
        refine g_aload_n 0 dX10_answers_0 rfl rfl ?_
        refine g_aload_n 0 dX10_answers_1 rfl rfl ?_
        refine g_iload_n 1 dX10_answers_2 rfl rfl ?_
        refine m_cVi (ct_trayFault Tr _ hTr) hvX10_trayFault hyX10_trayFault rfl ⟨Nat.le_of_ble_eq_true rfl, Nat.le_of_ble_eq_true rfl⟩ ⟨Nat.zero_le _, Nat.zero_le _⟩ rfl (Nat.le_of_ble_eq_true rfl) dX10_answers_3 m_rec (fun r u9 hp => ?_)
        obtain rfl := hp
        refine GG.topi (y := nI 0) (congrArg nI h2f) ?_
        refine m_put_thrown dX10_answers_6 ?_
        refine g_aload_n 0 dX10_answers_9 rfl rfl ?_
        refine m_get_thrown dX10_answers_10 ?_
        refine g_if_ne_n (tgt := 33) dX10_answers_13 (by decide) (by decide) (fun h => absurd h (by decide)) (fun _ => ?_)
        refine g_iload_n 2 dX10_answers_16 rfl rfl ?_
        refine g_i2l_n dX10_answers_17 (by omega) ?_
        refine g_lconst (v := lN 0) dX10_answers_18 (by decide +kernel) ?_
        refine g_ldc2 (v := lN 2) dX10_answers_19 q2376 ?_
        refine m_cSi (ct_within _ _ _) hsX10_within hyX10_within rfl ⟨Nat.le_of_ble_eq_true rfl, Nat.le_of_ble_eq_true rfl⟩ ⟨Nat.zero_le _, Nat.zero_le _⟩ rfl (Nat.le_of_ble_eq_true rfl) dX10_answers_22 (fun r u9 hp => ?_)
        obtain rfl := hp
        refine GG.topi (y := nI 1) (by decide +kernel) ?_
        refine g_if_ne_n (tgt := 33) dX10_answers_25 (by decide) (by decide) (fun _ => ?_) (fun h => absurd h (by decide))
        refine g_aload_n 0 dX10_answers_33 rfl rfl ?_
        refine m_get_thrown dX10_answers_34 ?_
        refine g_if_le_n (tgt := 42) dX10_answers_37 (by decide) (by decide) (fun _ => ?_) (fun h => absurd h (by decide))
        refine g_aload_n 0 dX10_answers_42 rfl rfl ?_
        refine m_cVv (ct_layPairs (tLow T) (tHigh T) (tMost T) (tUn T) k1 k2 k3 k4 o1 o2 o3 o4 o5) hvX10_layPairs hyX10_layPairs rfl ⟨Nat.le_of_ble_eq_true rfl, Nat.le_of_ble_eq_true rfl⟩ ⟨Nat.zero_le _, Nat.zero_le _⟩ rfl (Nat.le_of_ble_eq_true rfl) dX10_answers_43 m_rec (fun ul hld => ?_)
        obtain ⟨xsL, ysL, pairsL⟩ := ul
        dsimp only
        have hl : layd xsL ysL pairsL (tW T) := hld
        have hW := layd_OK hl o1 o3
        have hP : pairsL ≤ 1830 := hW.1
        have hPT : pairsL = tP T := hl.1
        refine g_iconst (v := nI 0) dX10_answers_46 (by decide +kernel) ?_
        refine g_istore_n (L' := [(0, _), (1, _), (2, _), (3, _)]) 3 dX10_answers_47 rfl (by decide) rfl rfl ?_
        refine g_iconst (v := nI 1) dX10_answers_48 (by decide +kernel) ?_
        refine g_istore (L' := [(0, _), (1, _), (2, _), (3, _), (4, _)]) dX10_answers_49 (by decide) rfl rfl ?_
        refine g_aload_n 0 dX10_answers_51 rfl rfl ?_
        refine g_iload_n 3 dX10_answers_52 rfl rfl ?_
        refine g_iconst (v := nI 1) dX10_answers_53 (by decide +kernel) ?_
        refine m_cVv (ct_fills _ true (by omega) (by omega)) hvX10_fills hyX10_fills rfl ⟨Nat.le_of_ble_eq_true rfl, Nat.le_of_ble_eq_true rfl⟩ ⟨Nat.zero_le _, Nat.zero_le _⟩ rfl (Nat.le_of_ble_eq_true rfl) dX10_answers_54 m_rec (fun rows2 hp => ?_)
        refine g_iconst (v := nI 0) dX10_answers_57 (by decide +kernel) ?_
        refine g_istore (L' := [(0, _), (1, _), (2, _), (3, _), (4, _), (5, _)]) dX10_answers_58 (by decide) rfl rfl ?_
        have loop60 : ∀ (q60 : Nat) (k n0 n1 : Nat) (heaps1 : Nat → Nat) (rows1 : Nat → Int64), tMany i - k < q60 → (n0 < 2) → (n1 < 2) → (¬ n0 = n1) → (k ≤ tMany i) → (∀ j, j < k → anG T vs j = true) → (∀ w, w < pairsL → rbt rows1 n0 w = anS T vs k w) → GG l D cl tys cX10_answers 8 (some .int) RX10 ({ frames := 5, cells := 0, slots := 0, locals := 119 } : Room) (AM ma) MT (QM (Qi (fun (v : Int32) (u : Nat × (Nat → Nat) × (Nat → Nat) × Nat × (Nat → Int64) × Nat × (Nat → Nat)) => isAnswers T Tr (nI i) (nI 2) u.1 v) (fun (u : Nat × (Nat → Nat) × (Nat → Nat) × Nat × (Nat → Int64) × Nat × (Nat → Nat)) => HM D cl tys mi cI cJ cZ ma known fresh_ saved images isImage u.1 tape taped size_ at_ begin_ token value open_ bad badPlace faultKind faultPlace u.2.1 u.2.2.1 u.2.2.2.1 u.2.2.2.2.1 u.2.2.2.2.2.1 u.2.2.2.2.2.2 endsBehind path order firstOrder ordersMany tSort tMany numbers) (AM ma)) 0 0 (AM ma)) (HM D cl tys mi cI cJ cZ ma known fresh_ saved images isImage 0 tape taped size_ at_ begin_ token value open_ bad badPlace faultKind faultPlace xsL ysL pairsL rows1 top heaps1 endsBehind path order firstOrder ordersMany tSort tMany numbers) 0 0 60 [(0, .ref (ma 0)), (1, .int (nI i)), (2, .int (nI 2)), (3, .int (nI n0)), (4, .int (nI n1)), (5, .int (nI k))] [] := by
          intro q60
          induction q60 with
          | zero => intro k n0 n1 heaps1 rows1 hq60; exact absurd hq60 (Nat.not_lt_zero _)
          | succ q60 ih60 =>
            intro k n0 n1 heaps1 rows1 hq60 hn0 hn1 hne hkm hG hS
            refine g_iload dX10_answers_60 rfl ?_
            refine g_aload_n 0 dX10_answers_62 rfl rfl ?_
            refine m_get_tMany dX10_answers_63 ?_
            refine g_iload_n 1 dX10_answers_66 rfl rfl ?_
            refine m_ld_tMany dX10_answers_67 (by omega) ?_
            refine g_icmp_ge_n (tgt := 158) dX10_answers_68 (by decide) (by omega) (by omega) (fun c68 => ?_) (fun c68 => ?_)
            · skip
              refine g_iload_n 2 dX10_answers_158 rfl rfl ?_
              refine g_if_ne_n (tgt := 170) dX10_answers_159 (by decide) (by decide) (fun _ => ?_) (fun h => absurd h (by decide))
              refine g_iload_n 2 dX10_answers_170 rfl rfl ?_
              refine g_iconst (v := nI 1) dX10_answers_171 (by decide +kernel) ?_
              refine g_icmp_ne_n (tgt := 183) dX10_answers_172 (by decide) (by decide) (by decide) (fun _ => ?_) (fun h => absurd h (by decide))
              refine g_iload dX10_answers_183 rfl ?_
              exact g_iret (_, _, _, _, _, _, _) dX10_answers_185 (Nat.le_refl _) (Nat.le_refl _) (by have hend : anEnd T (tMany i) vs k := ⟨hkm, hG, (by first | exact Or.inl (by omega) | exact Or.inr c100)⟩; rw [isAnswers_ok hit hTi, if_neg (show ¬ nI 2 = 0 by decide +kernel), if_neg (show ¬ nI 2 = 1 by decide +kernel), if_pos (show nI 2 = 2 from by decide +kernel)]; exact ⟨rfl, k, hend, rfl⟩) (fun _ h => h)
            · skip
              refine g_aload_n 0 dX10_answers_71 rfl rfl ?_
              refine m_get_numbers dX10_answers_72 ?_
              refine g_bipush (v := nI 40) dX10_answers_75 (by decide +kernel) ?_
              refine g_iload_n 1 dX10_answers_77 rfl rfl ?_
              refine g_imul_n dX10_answers_78 ?_
              refine g_iload dX10_answers_79 rfl ?_
              refine g_iadd_n dX10_answers_81 ?_
              refine m_ld_numbers dX10_answers_82 (by omega) ?_
              refine GG.topl (b5 k (by omega)) ?_
              refine g_lconst (v := lN 0) dX10_answers_83 (by decide +kernel) ?_
              refine g_ldc2 (v := lN 2) dX10_answers_84 q2376 ?_
              refine g_aload_n 0 dX10_answers_87 rfl rfl ?_
              refine m_get_known dX10_answers_88 ?_
              refine g_iconst (v := nI 5) dX10_answers_91 (by decide +kernel) ?_
              refine m_ld_known dX10_answers_92 (by omega) ?_
              refine GG.topi k5 ?_
              refine g_i2l_n dX10_answers_93 (by omega) ?_
              refine g_lmul dX10_answers_94 ?_
              refine g_lconst (v := lN 1) dX10_answers_95 (by decide +kernel) ?_
              refine g_lsub dX10_answers_96 ?_
              refine m_cSi (ct_within _ _ _) hsX10_within hyX10_within rfl ⟨Nat.le_of_ble_eq_true rfl, Nat.le_of_ble_eq_true rfl⟩ ⟨Nat.zero_le _, Nat.zero_le _⟩ rfl (Nat.le_of_ble_eq_true rfl) dX10_answers_97 (fun r u9 hp => ?_)
              obtain rfl := hp
              refine GG.topi (y := bI (anG T vs k)) (congrArg bI (anG_wIn o6)) ?_
              refine g_if_eq_b (tgt := 158) dX10_answers_100 (by decide) (fun c100 => ?_) (fun c100 => ?_)
              · skip
                refine g_iload_n 2 dX10_answers_158 rfl rfl ?_
                refine g_if_ne_n (tgt := 170) dX10_answers_159 (by decide) (by decide) (fun _ => ?_) (fun h => absurd h (by decide))
                refine g_iload_n 2 dX10_answers_170 rfl rfl ?_
                refine g_iconst (v := nI 1) dX10_answers_171 (by decide +kernel) ?_
                refine g_icmp_ne_n (tgt := 183) dX10_answers_172 (by decide) (by decide) (by decide) (fun _ => ?_) (fun h => absurd h (by decide))
                refine g_iload dX10_answers_183 rfl ?_
                exact g_iret (_, _, _, _, _, _, _) dX10_answers_185 (Nat.le_refl _) (Nat.le_refl _) (by have hend : anEnd T (tMany i) vs k := ⟨hkm, hG, (by first | exact Or.inl (by omega) | exact Or.inr c100)⟩; rw [isAnswers_ok hit hTi, if_neg (show ¬ nI 2 = 0 by decide +kernel), if_neg (show ¬ nI 2 = 1 by decide +kernel), if_pos (show nI 2 = 2 from by decide +kernel)]; exact ⟨rfl, k, hend, rfl⟩) (fun _ h => h)
              · skip
                obtain ⟨x, hx, hvx, hxn⟩ := anG_lN c100
                refine g_aload_n 0 dX10_answers_103 rfl rfl ?_
                refine m_get_numbers dX10_answers_104 ?_
                refine g_bipush (v := nI 40) dX10_answers_107 (by decide +kernel) ?_
                refine g_iload_n 1 dX10_answers_109 rfl rfl ?_
                refine g_imul_n dX10_answers_110 ?_
                refine g_iload dX10_answers_111 rfl ?_
                refine g_iadd_n dX10_answers_113 ?_
                refine m_ld_numbers dX10_answers_114 (by omega) ?_
                refine GG.topl ((b5 k (by omega)).trans hvx) ?_
                refine g_l2i dX10_answers_115 rfl ?_
                refine GG.topi (lN_i x) ?_
                refine g_istore (L' := [(0, _), (1, _), (2, _), (3, _), (4, _), (5, _), (6, _)]) dX10_answers_116 (by decide) rfl rfl ?_
                refine g_aload_n 0 dX10_answers_118 rfl rfl ?_
                refine g_iload dX10_answers_119 rfl ?_
                refine g_iconst (v := nI 2) dX10_answers_121 (by decide +kernel) ?_
                refine g_idiv_n dX10_answers_122 (by omega) (by decide) (by decide) ?_
                refine g_iload_n 3 dX10_answers_123 rfl rfl ?_
                refine g_iload dX10_answers_124 rfl ?_
                refine g_iconst (v := nI 2) dX10_answers_126 (by decide +kernel) ?_
                refine g_irem_n dX10_answers_127 (by omega) (by decide) (by decide) ?_
                refine g_iconst (v := nI 1) dX10_answers_128 (by decide +kernel) ?_
                refine g_icmp_ne_n (tgt := 136) dX10_answers_129 (by decide) (by omega) (by omega) (fun c129 => ?_) (fun c129 => ?_)
                · skip
                  refine g_iconst (v := nI 0) dX10_answers_136 (by decide +kernel) ?_
                  refine g_iload dX10_answers_137 rfl ?_
                  refine m_cVv (ct_laysAnswers (x / 2) n0 n1 (tKind T (x / 2)) false (by omega) (k7 (x / 2) (by omega)).1 (by have := o8 (x / 2) (by omega); omega) (by omega) (by omega) (by omega) hW) hvX10_laysAnswers hyX10_laysAnswers rfl ⟨Nat.le_of_ble_eq_true rfl, Nat.le_of_ble_eq_true rfl⟩ ⟨Nat.zero_le _, Nat.zero_le _⟩ rfl (Nat.le_of_ble_eq_true rfl) dX10_answers_139 m_rec (fun ua ha => ?_)
                  obtain ⟨heaps4, rows4⟩ := ua
                  dsimp only
                  have ha : rowsUp rows1 rows4 n1 pairsL _ := ha
                  have hst : ∀ w, w < pairsL → rbt rows4 n1 w = anS T vs (k + 1) w := fun w hw => by
                    rw [rowsUp_in ha hP (by omega), show anS T vs (k + 1) = shStep T x (anS T vs k) from by show shStep T (vs k).toInt.toNat (anS T vs k) = _; rw [hxn]]
                    exact shStep_env hl rfl (by first | exact (decide_eq_true c129).symm | exact (decide_eq_false c129).symm) (fun z hz => hS z (by omega)) w (by omega)
                  refine g_iload_n 3 dX10_answers_142 rfl rfl ?_
                  refine g_istore (L' := [(0, _), (1, _), (2, _), (3, _), (4, _), (5, _), (6, _), (7, _)]) dX10_answers_143 (by decide) rfl rfl ?_
                  refine g_iload dX10_answers_145 rfl ?_
                  refine g_istore_n (L' := [(0, _), (1, _), (2, _), (3, _), (4, _), (5, _), (6, _), (7, _)]) 3 dX10_answers_147 rfl (by decide) rfl rfl ?_
                  refine g_iload dX10_answers_148 rfl ?_
                  refine g_istore (L' := [(0, _), (1, _), (2, _), (3, _), (4, _), (5, _), (6, _), (7, _)]) dX10_answers_150 (by decide) rfl rfl ?_
                  refine g_iinc_n (b := 1) (L' := [(0, _), (1, _), (2, _), (3, _), (4, _), (5, _), (6, _), (7, _)]) dX10_answers_152 rfl rfl (by decide) rfl rfl ?_
                  refine g_goto (tgt := 60) dX10_answers_155 (by decide) ?_
                  refine GG.locals [0, 1, 2, 3, 4, 5] rfl ?_
                  exact ih60 (k + 1) n1 n0 heaps4 rows4 (by omega) hn1 hn0 (fun q => hne q.symm) (by omega) (fun j hj => (Nat.lt_succ_iff_lt_or_eq.mp hj).elim (fun q => hG j q) (fun q => by rw [q]; exact c100)) hst
                · skip
                  refine g_iconst (v := nI 1) dX10_answers_132 (by decide +kernel) ?_
                  refine g_goto (tgt := 137) dX10_answers_133 (by decide) ?_
                  refine g_iload dX10_answers_137 rfl ?_
                  refine m_cVv (ct_laysAnswers (x / 2) n0 n1 (tKind T (x / 2)) true (by omega) (k7 (x / 2) (by omega)).1 (by have := o8 (x / 2) (by omega); omega) (by omega) (by omega) (by omega) hW) hvX10_laysAnswers hyX10_laysAnswers rfl ⟨Nat.le_of_ble_eq_true rfl, Nat.le_of_ble_eq_true rfl⟩ ⟨Nat.zero_le _, Nat.zero_le _⟩ rfl (Nat.le_of_ble_eq_true rfl) dX10_answers_139 m_rec (fun ua ha => ?_)
                  obtain ⟨heaps4, rows4⟩ := ua
                  dsimp only
                  have ha : rowsUp rows1 rows4 n1 pairsL _ := ha
                  have hst : ∀ w, w < pairsL → rbt rows4 n1 w = anS T vs (k + 1) w := fun w hw => by
                    rw [rowsUp_in ha hP (by omega), show anS T vs (k + 1) = shStep T x (anS T vs k) from by show shStep T (vs k).toInt.toNat (anS T vs k) = _; rw [hxn]]
                    exact shStep_env hl rfl (by first | exact (decide_eq_true c129).symm | exact (decide_eq_false c129).symm) (fun z hz => hS z (by omega)) w (by omega)
                  refine g_iload_n 3 dX10_answers_142 rfl rfl ?_
                  refine g_istore (L' := [(0, _), (1, _), (2, _), (3, _), (4, _), (5, _), (6, _), (7, _)]) dX10_answers_143 (by decide) rfl rfl ?_
                  refine g_iload dX10_answers_145 rfl ?_
                  refine g_istore_n (L' := [(0, _), (1, _), (2, _), (3, _), (4, _), (5, _), (6, _), (7, _)]) 3 dX10_answers_147 rfl (by decide) rfl rfl ?_
                  refine g_iload dX10_answers_148 rfl ?_
                  refine g_istore (L' := [(0, _), (1, _), (2, _), (3, _), (4, _), (5, _), (6, _), (7, _)]) dX10_answers_150 (by decide) rfl rfl ?_
                  refine g_iinc_n (b := 1) (L' := [(0, _), (1, _), (2, _), (3, _), (4, _), (5, _), (6, _), (7, _)]) dX10_answers_152 rfl rfl (by decide) rfl rfl ?_
                  refine g_goto (tgt := 60) dX10_answers_155 (by decide) ?_
                  refine GG.locals [0, 1, 2, 3, 4, 5] rfl ?_
                  exact ih60 (k + 1) n1 n0 heaps4 rows4 (by omega) hn1 hn0 (fun q => hne q.symm) (by omega) (fun j hj => (Nat.lt_succ_iff_lt_or_eq.mp hj).elim (fun q => hG j q) (fun q => by rw [q]; exact c100)) hst
        exact loop60 (tMany i + 1) 0 0 1 heaps rows2 (by omega) (by decide) (by decide) (by decide) (Nat.zero_le _) (fun j hj => absurd hj (Nat.not_lt_zero _)) (fun w hw => by rw [rowsUp_in hp hP hw]; rfl)
      · skip
        refine g_aload_n 0 dX10_answers_0 rfl rfl ?_
        refine g_aload_n 0 dX10_answers_1 rfl rfl ?_
        refine g_iload_n 1 dX10_answers_2 rfl rfl ?_
        refine m_cVi (ct_trayFault Tr _ hTr) hvX10_trayFault hyX10_trayFault rfl ⟨Nat.le_of_ble_eq_true rfl, Nat.le_of_ble_eq_true rfl⟩ ⟨Nat.zero_le _, Nat.zero_le _⟩ rfl (Nat.le_of_ble_eq_true rfl) dX10_answers_3 m_rec (fun r u9 hp => ?_)
        obtain rfl := hp
        refine GG.topi (y := nI 0) (congrArg nI h2f) ?_
        refine m_put_thrown dX10_answers_6 ?_
        refine g_aload_n 0 dX10_answers_9 rfl rfl ?_
        refine m_get_thrown dX10_answers_10 ?_
        refine g_if_ne_n (tgt := 33) dX10_answers_13 (by decide) (by decide) (fun h => absurd h (by decide)) (fun _ => ?_)
        refine g_iload_n 2 dX10_answers_16 rfl rfl ?_
        refine g_i2l dX10_answers_17 rfl ?_
        refine g_lconst (v := lN 0) dX10_answers_18 (by decide +kernel) ?_
        refine g_ldc2 (v := lN 2) dX10_answers_19 q2376 ?_
        refine m_cSi (ct_within _ _ _) hsX10_within hyX10_within rfl ⟨Nat.le_of_ble_eq_true rfl, Nat.le_of_ble_eq_true rfl⟩ ⟨Nat.zero_le _, Nat.zero_le _⟩ rfl (Nat.le_of_ble_eq_true rfl) dX10_answers_22 (fun r u9 hp => ?_)
        obtain rfl := hp
        refine GG.topi (y := nI 0) (by rw [wIn_0 wh (by decide) hiw]; rfl) ?_
        refine g_if_ne_n (tgt := 33) dX10_answers_25 (by decide) (by decide) (fun h => absurd h (by decide)) (fun _ => ?_)
        refine g_aload_n 0 dX10_answers_28 rfl rfl ?_
        refine g_iconst (v := nI 3) dX10_answers_29 (by decide +kernel) ?_
        refine m_put_thrown dX10_answers_30 ?_
        refine g_aload_n 0 dX10_answers_33 rfl rfl ?_
        refine m_get_thrown dX10_answers_34 ?_
        refine g_if_le_n (tgt := 42) dX10_answers_37 (by decide) (by decide) (fun h => absurd h (by decide)) (fun _ => ?_)
        refine g_iconst (v := nI 0) dX10_answers_40 (by decide +kernel) ?_
        exact g_iret (_, _, _, _, _, _, _) dX10_answers_41 (Nat.le_refl _) (Nat.le_refl _) (by rw [isAnswers_ok hit hTi, if_neg q0, if_neg q1, if_neg q2]) (fun _ h => h)
end
