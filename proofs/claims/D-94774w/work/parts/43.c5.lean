/-! THE COMPONENT, 5: the course: answers, knowsIn, end, only -/
set_option maxRecDepth 100000
theorem ans_1 {rows rows3 rows1 : Nat → Nat → Int64} {r0 r1 many k : Nat} {K : Nat → Bool} (hne : ¬ r0 = r1) (h3 : RT rows rows3 r1 (fun w => decide (w < many) && K w)) (h : RK rows3 rows1 r1 k (fun w => lbt (rows r0) w && decide ((decide (w < many) && K w) = true))) (hk : k < 29) : RK rows3 (up rows1 r1 (up (rows1 r1) k (rows1 r0 k &&& rows1 r1 k))) r1 (k + 1) (fun w => lbt (rows r0) w && decide ((decide (w < many) && K w) = true)) := by
  refine RK_s h (fun i hi => ?_)
  rw [bx_and, RK_l h hk hi, h.2 r0 hne, h3.2 r0 hne, lb_l _ hi, h3.1 _ (by omega)]
  congr 1
  dsimp only
  cases (decide (64 * k + i < many) && K (64 * k + i)) <;> rfl
theorem ans_0 {rows rows3 rows1 : Nat → Nat → Int64} {r0 r1 many k : Nat} {K : Nat → Bool} (hne : ¬ r0 = r1) (h3 : RT rows rows3 r1 (fun w => decide (w < many) && K w)) (h : RK rows3 rows1 r1 k (fun w => lbt (rows r0) w && decide ((decide (w < many) && K w) = false))) (hk : k < 29) : RK rows3 (up rows1 r1 (up (rows1 r1) k (rows1 r0 k &&& (rows1 r1 k ^^^ (-1))))) r1 (k + 1) (fun w => lbt (rows r0) w && decide ((decide (w < many) && K w) = false)) := by
  refine RK_s h (fun i hi => ?_)
  rw [bx_and, bx_not _ hi, RK_l h hk hi, h.2 r0 hne, h3.2 r0 hne, lb_l _ hi, h3.1 _ (by omega)]
  congr 1
  dsimp only
  cases (decide (64 * k + i < many) && K (64 * k + i)) <;> rfl
theorem RT_tr {rows rows3 rows1 : Nat → Nat → Int64} {r1 : Nat} {G G3 : Nat → Bool} (h3 : RT rows rows3 r1 G3) (h : RT rows3 rows1 r1 G) : RT rows rows1 r1 G := ⟨h.1, fun r hr => (h.2 r hr).trans (h3.2 r hr)⟩
theorem cntI_y {f : Nat → Bool} {w : Nat} (h : f w = true) : nI (cnt f w + 1) = nI (cnt f (w + 1)) := by
  show _ = nI (cnt f w + _)
  rw [if_pos h]
theorem cntI_n {f : Nat → Bool} {w : Nat} (h : f w = false) : nI (cnt f w + 0) = nI (cnt f (w + 1)) := by
  show _ = nI (cnt f w + _)
  rw [if_neg (by rw [h]; decide)]

theorem hy_J2_size : yJ2_size.cls ≠ "java/lang/invoke/MethodHandle" ∧ yJ2_size.cls ≠ "java/lang/invoke/VarHandle" ∧ (parseMethodDescriptor yJ2_size.desc).map (fun d => d.parameters.length) = some 0 := by decide +kernel
theorem hy_X1_count : yX1_count.cls ≠ "java/lang/invoke/MethodHandle" ∧ yX1_count.cls ≠ "java/lang/invoke/VarHandle" ∧ (parseMethodDescriptor yX1_count.desc).map (fun d => d.parameters.length) = some 1 := by decide +kernel
theorem hy_X3_end : yX3_end.cls ≠ "java/lang/invoke/MethodHandle" ∧ yX3_end.cls ≠ "java/lang/invoke/VarHandle" ∧ (parseMethodDescriptor yX3_end.desc).map (fun d => d.parameters.length) = some 0 := by decide +kernel
theorem hy_X1_at : yX1_at.cls ≠ "java/lang/invoke/MethodHandle" ∧ yX1_at.cls ≠ "java/lang/invoke/VarHandle" ∧ (parseMethodDescriptor yX1_at.desc).map (fun d => d.parameters.length) = some 3 := by decide +kernel
section
variable {l : Launch} {D : va_G} {Y : Nat → ClassId} {A : Nat → Prop}
set_option maxHeartbeats 4000000 in
/-- answers -/
theorem ctX3_answers {ca ra : Nat → Nat} {b : Nat} {tk : Option Nat} {many used : Nat} {liar : Int32} {xs ys heaps : Nat → Nat} {slips : Nat → Nat → Nat} {rows : Nat → Nat → Int64} {W : va_W} (s0 r0 r1 nS : Nat) (b0 : Bool) (hO : slOK nS many slips) (hs : s0 < nS) (hn : nS ≤ 6) (hr : r0 < 156) (hr1 : r1 < 156) (hne : ¬ r0 = r1) : CT l D clX (tyX Y) yX3_answers cX3_answers 6 none ({ frames := 3, cells := 0, slots := 0, locals := 70 } : Room) [.ref (ca 0), .int (nI s0), .int (bI b0), .ref (ra r0), .ref (ra r1)] (HW D clX A (CoL Y ca ra b tk many used liar xs ys heaps slips rows W)) (Qv (fun (u : (Nat → Nat) × (Nat → Nat → Int64)) => RT rows u.2 r1 (fun w => lbt (rows r0) w && decide ((decide (w < many) && knowF many (slips s0) (lbt (rows r0)) w) = b0))) (fun (u : (Nat → Nat) × (Nat → Nat → Int64)) => HW D clX A (CoL Y ca ra b tk many used liar xs ys u.1 slips u.2 W)) A) A := by
  refine CT.of (L := [(0, .ref (ca 0)), (1, .int (nI s0)), (2, .int (bI b0)), (3, .ref (ra r0)), (4, .ref (ra r1))]) rfl (by decide +kernel) rfl (Nat.le_of_ble_eq_true rfl) ?_
  refine g_aload_n 0 dX3_answers_0 rfl rfl ?_
  refine g_iload_n 1 dX3_answers_1 rfl rfl ?_
  refine g_aload_n 3 dX3_answers_2 rfl rfl ?_
  refine g_aload dX3_answers_3 rfl ?_
  refine h_cVv (ctX3_alone s0 r0 r1 nS hO hs hn hr hr1 hne) (lw_V q635 q637 qs2 q111 q638) ⟨rfl, hy_X3_alone⟩ rfl ⟨Nat.le_of_ble_eq_true rfl, Nat.le_of_ble_eq_true rfl⟩ ⟨Nat.le_of_ble_eq_true rfl, Nat.le_of_ble_eq_true rfl⟩ rfl (Nat.le_of_ble_eq_true rfl) dX3_answers_5 co_rec (fun u3 hu3 => ?_)
  obtain ⟨heaps3, rows3⟩ := u3
  refine g_iconst (v := nI 0) dX3_answers_8 (by decide +kernel) ?_
  refine g_istore (L' := [(0, _), (1, _), (2, _), (3, _), (4, _), (5, _)]) dX3_answers_9 (by decide) rfl rfl ?_
  have loop11 : ∀ (q11 : Nat) (w : Nat) (rows1 : Nat → Nat → Int64), 29 - w < q11 → (w ≤ 29) → (RK rows3 rows1 r1 w (fun w => lbt (rows r0) w && decide ((decide (w < many) && knowF many (slips s0) (lbt (rows r0)) w) = b0))) → GG l D clX (tyX Y) cX3_answers 6 none RX3 ({ frames := 3, cells := 0, slots := 0, locals := 70 } : Room) A MT (QM (Qv (fun (u : (Nat → Nat) × (Nat → Nat → Int64)) => RT rows u.2 r1 (fun w => lbt (rows r0) w && decide ((decide (w < many) && knowF many (slips s0) (lbt (rows r0)) w) = b0))) (fun (u : (Nat → Nat) × (Nat → Nat → Int64)) => HW D clX A (CoL Y ca ra b tk many used liar xs ys u.1 slips u.2 W)) A) 0 0 A) (HW D clX A (CoL Y ca ra b tk many used liar xs ys heaps3 slips rows1 W)) 0 0 11 [(0, .ref (ca 0)), (1, .int (nI s0)), (2, .int (bI b0)), (3, .ref (ra r0)), (4, .ref (ra r1)), (5, .int (nI w))] [] := by
    intro q11
    induction q11 with
    | zero => intro w rows1 hq11; exact absurd hq11 (Nat.not_lt_zero _)
    | succ q11 ih11 =>
      intro w rows1 hq11 hw hi
      refine g_iload dX3_answers_11 rfl ?_
      refine g_bipush (v := nI 29) dX3_answers_13 (by decide +kernel) ?_
      refine g_icmp_ge_n (tgt := 55) dX3_answers_15 (by decide) (by omega) (by omega) (fun c15 => ?_) (fun c15 => ?_)
      · skip
        exact g_vret (heaps3, rows1) dX3_answers_55 (Nat.le_refl _) (Nat.le_refl _) (by have e9 : w = 29 := (by omega); rw [e9] at hi; exact RT_tr hu3 (RK_e hi)) (fun _ h => h)
      · skip
        refine g_aload dX3_answers_18 rfl ?_
        refine g_iload dX3_answers_20 rfl ?_
        refine g_aload_n 3 dX3_answers_22 rfl rfl ?_
        refine g_iload dX3_answers_23 rfl ?_
        refine co_ld_row (by omega) (by omega) dX3_answers_25 ?_
        refine g_iload_n 2 dX3_answers_26 rfl rfl ?_
        refine g_if_eq_b (tgt := 38) dX3_answers_27 (by decide) (fun c27 => ?_) (fun c27 => ?_)
        · skip
          refine g_aload dX3_answers_38 rfl ?_
          refine g_iload dX3_answers_40 rfl ?_
          refine co_ld_row (by omega) (by omega) dX3_answers_42 ?_
          refine g_ldc2 (v := -1) dX3_answers_43 q680 ?_
          refine g_lxor dX3_answers_46 ?_
          refine g_land dX3_answers_47 ?_
          refine co_st_row (by omega) (by omega) dX3_answers_48 ?_
          refine g_iinc_n (b := 1) (L' := [(0, _), (1, _), (2, _), (3, _), (4, _), (5, _)]) dX3_answers_49 rfl rfl (by decide) rfl rfl ?_
          refine g_goto (tgt := 11) dX3_answers_52 (by decide) ?_
          subst c27
          exact ih11 (w + 1) _ (by omega) (by omega) (ans_0 hne hu3 hi c15)
        · skip
          refine g_aload dX3_answers_30 rfl ?_
          refine g_iload dX3_answers_32 rfl ?_
          refine co_ld_row (by omega) (by omega) dX3_answers_34 ?_
          refine g_goto (tgt := 47) dX3_answers_35 (by decide) ?_
          refine g_land dX3_answers_47 ?_
          refine co_st_row (by omega) (by omega) dX3_answers_48 ?_
          refine g_iinc_n (b := 1) (L' := [(0, _), (1, _), (2, _), (3, _), (4, _), (5, _)]) dX3_answers_49 rfl rfl (by decide) rfl rfl ?_
          refine g_goto (tgt := 11) dX3_answers_52 (by decide) ?_
          subst c27
          exact ih11 (w + 1) _ (by omega) (by omega) (ans_1 hne hu3 hi c15)
  exact loop11 30 0 _ (by omega) (by omega) RK_0
set_option maxHeartbeats 4000000 in
/-- whether one knows in a world -/
theorem ctX3_knowsIn {ca ra : Nat → Nat} {b : Nat} {tk : Option Nat} {many used : Nat} {liar : Int32} {xs ys heaps : Nat → Nat} {slips : Nat → Nat → Nat} {rows : Nat → Nat → Int64} {W : va_W} (s0 w0 r0 nS : Nat) (hO : slOK nS many slips) (hs : s0 < nS) (hn : nS ≤ 6) (hr : r0 < 156) (hw0 : w0 < many) : CT l D clX (tyX Y) yX3_knowsIn cX3_knowsIn 6 (some .boolean) ({ frames := 1, cells := 0, slots := 0, locals := 21 } : Room) [.ref (ca 0), .int (nI s0), .int (nI w0), .ref (ra r0)] (HW D clX A (CoL Y ca ra b tk many used liar xs ys heaps slips rows W)) (Qi (fun (v : Int32) (u : Unit) => v = bI (knowF many (slips s0) (lbt (rows r0)) w0)) (fun (u : Unit) => HW D clX A (CoL Y ca ra b tk many used liar xs ys heaps slips rows W)) A) A := by
  have hP : many ≤ 1830 := hO.1
  refine CT.of (L := [(0, .ref (ca 0)), (1, .int (nI s0)), (2, .int (nI w0)), (3, .ref (ra r0))]) rfl (by decide +kernel) rfl (Nat.le_of_ble_eq_true rfl) ?_
  refine g_iconst (v := nI 0) dX3_knowsIn_0 (by decide +kernel) ?_
  refine g_istore (L' := [(0, _), (1, _), (2, _), (3, _), (4, _)]) dX3_knowsIn_1 (by decide) rfl rfl ?_
  refine g_iconst (v := nI 0) dX3_knowsIn_3 (by decide +kernel) ?_
  refine g_istore (L' := [(0, _), (1, _), (2, _), (3, _), (4, _), (5, _)]) dX3_knowsIn_4 (by decide) rfl rfl ?_
  have loop6 : ∀ (q6 : Nat) (w : Nat), many - w < q6 → (w ≤ many) → GG l D clX (tyX Y) cX3_knowsIn 6 (some .boolean) RX3 ({ frames := 1, cells := 0, slots := 0, locals := 21 } : Room) A MT (QM (Qi (fun (v : Int32) (u : Unit) => v = bI (knowF many (slips s0) (lbt (rows r0)) w0)) (fun (u : Unit) => HW D clX A (CoL Y ca ra b tk many used liar xs ys heaps slips rows W)) A) 0 0 A) (HW D clX A (CoL Y ca ra b tk many used liar xs ys heaps slips rows W)) 0 0 6 [(0, .ref (ca 0)), (1, .int (nI s0)), (2, .int (nI w0)), (3, .ref (ra r0)), (4, .int (nI (cnt (fun v => decide (¬ v = w0) && (decide (slips s0 v = slips s0 w0) && lbt (rows r0) v)) w))), (5, .int (nI w))] [] := by
    intro q6
    induction q6 with
    | zero => intro w hq6; exact absurd hq6 (Nat.not_lt_zero _)
    | succ q6 ih6 =>
      intro w hq6 hw
      refine g_iload dX3_knowsIn_6 rfl ?_
      refine g_aload_n 0 dX3_knowsIn_8 rfl rfl ?_
      refine co_get_many q275 dX3_knowsIn_9 ?_
      refine g_icmp_ge_n (tgt := 66) dX3_knowsIn_12 (by decide) (by omega) (by omega) (fun c12 => ?_) (fun c12 => ?_)
      · skip
        refine g_iload dX3_knowsIn_66 rfl ?_
        refine g_if_ne_n (tgt := 75) dX3_knowsIn_68 (by decide) (by have := cnt_le (fun v => decide (¬ v = w0) && (decide (slips s0 v = slips s0 w0) && lbt (rows r0) v)) w; omega) (fun c68 => ?_) (fun c68 => ?_)
        · skip
          refine g_iconst (v := nI 0) dX3_knowsIn_75 (by decide +kernel) ?_
          exact g_zret (b := false) () dX3_knowsIn_76 (Nat.le_refl _) (Nat.le_refl _) (by have e9 : w = many := (by omega); rw [e9] at c68; rw [knowF_out hw0]; first | rw [decide_eq_true c68] | rw [decide_eq_false c68]) (fun _ h => h)
        · skip
          refine g_iconst (v := nI 1) dX3_knowsIn_71 (by decide +kernel) ?_
          refine g_goto (tgt := 76) dX3_knowsIn_72 (by decide) ?_
          exact g_zret (b := true) () dX3_knowsIn_76 (Nat.le_refl _) (Nat.le_refl _) (by have e9 : w = many := (by omega); rw [e9] at c68; rw [knowF_out hw0]; first | rw [decide_eq_true c68] | rw [decide_eq_false c68]) (fun _ h => h)
      · skip
        refine g_iload dX3_knowsIn_15 rfl ?_
        refine g_iload dX3_knowsIn_17 rfl ?_
        refine g_iload_n 2 dX3_knowsIn_19 rfl rfl ?_
        refine g_icmp_eq_n (tgt := 56) dX3_knowsIn_20 (by decide) (by omega) (by omega) (fun c20 => ?_) (fun c20 => ?_)
        · skip
          refine g_iconst (v := nI 0) dX3_knowsIn_56 (by decide +kernel) ?_
          refine g_iadd_n dX3_knowsIn_57 ?_
          refine g_istore (L' := [(0, _), (1, _), (2, _), (3, _), (4, _), (5, _)]) dX3_knowsIn_58 (by decide) rfl rfl ?_
          refine g_iinc_n (b := 1) (L' := [(0, _), (1, _), (2, _), (3, _), (4, _), (5, _)]) dX3_knowsIn_60 rfl rfl (by decide) rfl rfl ?_
          refine g_goto (tgt := 6) dX3_knowsIn_63 (by decide) ?_
          rw [cntI_n (f := (fun v => decide (¬ v = w0) && (decide (slips s0 v = slips s0 w0) && lbt (rows r0) v))) (w := w) (by simp [c20])]
          exact ih6 (w + 1) (by omega) (by omega)
        · skip
          refine g_aload_n 0 dX3_knowsIn_23 rfl rfl ?_
          refine co_get_slips q261 dX3_knowsIn_24 ?_
          refine g_iload_n 1 dX3_knowsIn_27 rfl rfl ?_
          refine co_ld_slips (by omega) dX3_knowsIn_28 ?_
          refine g_iload dX3_knowsIn_29 rfl ?_
          refine co_ld_slip (by omega) (by omega) dX3_knowsIn_31 ?_
          refine g_aload_n 0 dX3_knowsIn_32 rfl rfl ?_
          refine co_get_slips q261 dX3_knowsIn_33 ?_
          refine g_iload_n 1 dX3_knowsIn_36 rfl rfl ?_
          refine co_ld_slips (by omega) dX3_knowsIn_37 ?_
          refine g_iload_n 2 dX3_knowsIn_38 rfl rfl ?_
          refine co_ld_slip (by omega) (by omega) dX3_knowsIn_39 ?_
          refine g_icmp_ne_n (tgt := 56) dX3_knowsIn_40 (by decide) (by have := hO.2 s0 w hs c12; omega) (by have := hO.2 s0 w0 hs hw0; omega) (fun c40 => ?_) (fun c40 => ?_)
          · skip
            refine g_iconst (v := nI 0) dX3_knowsIn_56 (by decide +kernel) ?_
            refine g_iadd_n dX3_knowsIn_57 ?_
            refine g_istore (L' := [(0, _), (1, _), (2, _), (3, _), (4, _), (5, _)]) dX3_knowsIn_58 (by decide) rfl rfl ?_
            refine g_iinc_n (b := 1) (L' := [(0, _), (1, _), (2, _), (3, _), (4, _), (5, _)]) dX3_knowsIn_60 rfl rfl (by decide) rfl rfl ?_
            refine g_goto (tgt := 6) dX3_knowsIn_63 (by decide) ?_
            rw [cntI_n (f := (fun v => decide (¬ v = w0) && (decide (slips s0 v = slips s0 w0) && lbt (rows r0) v))) (w := w) (by simp [c20, c40])]
            exact ih6 (w + 1) (by omega) (by omega)
          · skip
            refine g_aload_n 3 dX3_knowsIn_43 rfl rfl ?_
            refine g_iload dX3_knowsIn_44 rfl ?_
            refine h_cMi (ctX1_has w (f := rows r0) (hw_ix (CoL_row (r := r0) (by omega))) (by omega)) q648 q646 q106 q647 hy_X1_has rfl ⟨Nat.le_of_ble_eq_true rfl, Nat.le_of_ble_eq_true rfl⟩ ⟨Nat.le_of_ble_eq_true rfl, Nat.le_of_ble_eq_true rfl⟩ rfl (Nat.le_of_ble_eq_true rfl) dX3_knowsIn_46 (fun r u hp => ?_)
            obtain rfl := hp
            refine g_if_eq_b (tgt := 56) dX3_knowsIn_49 (by decide) (fun c49 => ?_) (fun c49 => ?_)
            · skip
              refine g_iconst (v := nI 0) dX3_knowsIn_56 (by decide +kernel) ?_
              refine g_iadd_n dX3_knowsIn_57 ?_
              refine g_istore (L' := [(0, _), (1, _), (2, _), (3, _), (4, _), (5, _)]) dX3_knowsIn_58 (by decide) rfl rfl ?_
              refine g_iinc_n (b := 1) (L' := [(0, _), (1, _), (2, _), (3, _), (4, _), (5, _)]) dX3_knowsIn_60 rfl rfl (by decide) rfl rfl ?_
              refine g_goto (tgt := 6) dX3_knowsIn_63 (by decide) ?_
              rw [cntI_n (f := (fun v => decide (¬ v = w0) && (decide (slips s0 v = slips s0 w0) && lbt (rows r0) v))) (w := w) (by simp [c20, c40, c49])]
              exact ih6 (w + 1) (by omega) (by omega)
            · skip
              refine g_iconst (v := nI 1) dX3_knowsIn_52 (by decide +kernel) ?_
              refine g_goto (tgt := 57) dX3_knowsIn_53 (by decide) ?_
              refine g_iadd_n dX3_knowsIn_57 ?_
              refine g_istore (L' := [(0, _), (1, _), (2, _), (3, _), (4, _), (5, _)]) dX3_knowsIn_58 (by decide) rfl rfl ?_
              refine g_iinc_n (b := 1) (L' := [(0, _), (1, _), (2, _), (3, _), (4, _), (5, _)]) dX3_knowsIn_60 rfl rfl (by decide) rfl rfl ?_
              refine g_goto (tgt := 6) dX3_knowsIn_63 (by decide) ?_
              rw [cntI_y (f := (fun v => decide (¬ v = w0) && (decide (slips s0 v = slips s0 w0) && lbt (rows r0) v))) (w := w) (by simp [c20, c40, c49])]
              exact ih6 (w + 1) (by omega) (by omega)
  exact loop6 (many + 1) 0 (by omega) (by omega)
set_option maxHeartbeats 4000000 in
/-- how many are left -/
theorem ctX3_end {ca ra : Nat → Nat} {b : Nat} {many used : Nat} {liar : Int32} {xs ys heaps : Nat → Nat} {slips : Nat → Nat → Nat} {rows : Nat → Nat → Int64} {W : va_W} {T : Talk} {ta : Nat → Nat}  (hT : TalkL Y T ta W) (hb : b + 70 ≤ 156) (hn : tNT T ≤ 20) : CT l D clX (tyX Y) yX3_end cX3_end 1 (some .int) ({ frames := 2, cells := 0, slots := 0, locals := 43 } : Room) [.ref (ca 0)] (HW D clX A (CoL Y ca ra b (some (ta 0)) many used liar xs ys heaps slips rows W)) (Qi (fun (v : Int32) (u : Unit) => v = nI (cnt (lbt (rows (b + tNT T))) 1856)) (fun (u : Unit) => HW D clX A (CoL Y ca ra b (some (ta 0)) many used liar xs ys heaps slips rows W)) A) A := by
  obtain ⟨ea2, na2, mc2, hL2⟩ := hT.2.2.1
  refine CT.of (L := [(0, .ref (ca 0))]) rfl (by decide +kernel) rfl (Nat.le_of_ble_eq_true rfl) ?_
  refine g_aload_n 0 dX3_end_0 rfl rfl ?_
  refine co_get_left q268 dX3_end_1 ?_
  refine g_aload_n 0 dX3_end_4 rfl rfl ?_
  refine co_get_talk q272 dX3_end_5 ?_
  refine g_getfN (C := RX2) (T := TX2) (N := 7) 1 in_X2 rfl (by decide) q210 rfl dX3_end_8 (co_has _ hT.1) rfl ?_
  refine h_cVi (ctJ2_size (co_has _ hL2.1)) (lw_V q521 q522 q523 q110 q524) ⟨rfl, hy_J2_size⟩ rfl ⟨Nat.le_of_ble_eq_true rfl, Nat.le_of_ble_eq_true rfl⟩ ⟨Nat.le_of_ble_eq_true rfl, Nat.le_of_ble_eq_true rfl⟩ rfl (Nat.le_of_ble_eq_true rfl) dX3_end_11 (fun s H hK hP => va_recv hK (co_has _ hL2.1 H hP) (ci := 33) rfl (q0 := 0) rfl) (fun r u hp => ?_)
  obtain rfl := hp
  refine co_ld_left (by omega) dX3_end_14 ?_
  refine h_cMi (ctX1_count (f := rows (b + tNT T)) (hw_ix (CoL_row (r := b + tNT T) (by omega)))) q699 q697 q106 q698 hy_X1_count rfl ⟨Nat.le_of_ble_eq_true rfl, Nat.le_of_ble_eq_true rfl⟩ ⟨Nat.le_of_ble_eq_true rfl, Nat.le_of_ble_eq_true rfl⟩ rfl (Nat.le_of_ble_eq_true rfl) dX3_end_15 (fun r u hp => ?_)
  obtain rfl := hp
  exact g_iret () dX3_end_18 (Nat.le_refl _) (Nat.le_refl _) (rfl) (fun _ h => h)
set_option maxHeartbeats 4000000 in
/-- the only one left -/
theorem ctX3_only {ca ra : Nat → Nat} {b : Nat} {many used : Nat} {liar : Int32} {xs ys heaps : Nat → Nat} {slips : Nat → Nat → Nat} {rows : Nat → Nat → Int64} {W : va_W} {T : Talk} {ta : Nat → Nat}  (hT : TalkL Y T ta W) (hb : b + 70 ≤ 156) (hn : tNT T ≤ 20) (hP : many ≤ 1830) : CT l D clX (tyX Y) yX3_only cX3_only 1 (some .int) ({ frames := 3, cells := 0, slots := 0, locals := 63 } : Room) [.ref (ca 0)] (HW D clX A (CoL Y ca ra b (some (ta 0)) many used liar xs ys heaps slips rows W)) (Qi (fun (v : Int32) (u : Unit) => if cnt (lbt (rows (b + tNT T))) 1856 = 1 then isFst (fun w => lbt (rows (b + tNT T)) w && decide (nI 0 = nI (cnt (lbt (rows (b + tNT T))) w))) many v else v = -1) (fun (u : Unit) => HW D clX A (CoL Y ca ra b (some (ta 0)) many used liar xs ys heaps slips rows W)) A) A := by
  obtain ⟨ea2, na2, mc2, hL2⟩ := hT.2.2.1
  refine CT.of (L := [(0, .ref (ca 0))]) rfl (by decide +kernel) rfl (Nat.le_of_ble_eq_true rfl) ?_
  refine g_aload_n 0 dX3_only_0 rfl rfl ?_
  refine h_cVi (ctX3_end hT hb hn) (lw_V q693 q694 q695 q111 q696) ⟨rfl, hy_X3_end⟩ rfl ⟨Nat.le_of_ble_eq_true rfl, Nat.le_of_ble_eq_true rfl⟩ ⟨Nat.le_of_ble_eq_true rfl, Nat.le_of_ble_eq_true rfl⟩ rfl (Nat.le_of_ble_eq_true rfl) dX3_only_1 co_rec (fun r u hp => ?_)
  obtain rfl := hp
  refine g_iconst (v := nI 1) dX3_only_4 (by decide +kernel) ?_
  refine g_icmp_ne_n (tgt := 34) dX3_only_5 (by decide) (by have := cnt_le (lbt (rows (b + tNT T))) 1856; omega) (by omega) (fun c5 => ?_) (fun c5 => ?_)
  · skip
    refine g_iconst (v := -1) dX3_only_34 (by decide +kernel) ?_
    exact g_iret () dX3_only_35 (Nat.le_refl _) (Nat.le_refl _) (by rw [if_neg c5]) (fun _ h => h)
  · skip
    refine g_aload_n 0 dX3_only_8 rfl rfl ?_
    refine co_get_left q268 dX3_only_9 ?_
    refine g_aload_n 0 dX3_only_12 rfl rfl ?_
    refine co_get_talk q272 dX3_only_13 ?_
    refine g_getfN (C := RX2) (T := TX2) (N := 7) 1 in_X2 rfl (by decide) q210 rfl dX3_only_16 (co_has _ hT.1) rfl ?_
    refine h_cVi (ctJ2_size (co_has _ hL2.1)) (lw_V q521 q522 q523 q110 q524) ⟨rfl, hy_J2_size⟩ rfl ⟨Nat.le_of_ble_eq_true rfl, Nat.le_of_ble_eq_true rfl⟩ ⟨Nat.le_of_ble_eq_true rfl, Nat.le_of_ble_eq_true rfl⟩ rfl (Nat.le_of_ble_eq_true rfl) dX3_only_19 (fun s H hK hP => va_recv hK (co_has _ hL2.1 H hP) (ci := 33) rfl (q0 := 0) rfl) (fun r u hp => ?_)
    obtain rfl := hp
    refine co_ld_left (by omega) dX3_only_22 ?_
    refine g_iconst (v := nI 0) dX3_only_23 (by decide +kernel) ?_
    refine g_aload_n 0 dX3_only_24 rfl rfl ?_
    refine co_get_many q275 dX3_only_25 ?_
    refine h_cMi (ctX1_at (nI 0) many (f := rows (b + tNT T)) (hw_ix (CoL_row (r := b + tNT T) (by omega))) hP) q708 q706 q106 q707 hy_X1_at rfl ⟨Nat.le_of_ble_eq_true rfl, Nat.le_of_ble_eq_true rfl⟩ ⟨Nat.le_of_ble_eq_true rfl, Nat.le_of_ble_eq_true rfl⟩ rfl (Nat.le_of_ble_eq_true rfl) dX3_only_28 (fun r u hp => ?_)
    refine g_goto (tgt := 35) dX3_only_31 (by decide) ?_
    exact g_iret () dX3_only_35 (Nat.le_refl _) (Nat.le_refl _) (by rw [if_pos c5]; exact hp) (fun _ h => h)
end
