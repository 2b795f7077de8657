/-! TWOSLIPS, 7: restore, four, feed -/
set_option maxRecDepth 100000
def bC (w : Int32) (j : Nat) : Int32 := vp_nar .byte (w >>> ((nI 24 - nI (8 * j)) &&& 31)).toInt8.toInt32
def fdC (tape : Nat → Int32) (taped : Nat) (w : Int32) (n : Nat) : Nat → Int32 := fun i => if taped ≤ i ∧ i < taped + n then bC w (i - taped) else tape i
theorem fdC_0 (tape : Nat → Int32) (taped : Nat) (w : Int32) : fdC tape taped w 0 = tape := funext fun i => if_neg (by omega)
theorem fdC_s (tape : Nat → Int32) (taped : Nat) (w : Int32) (n : Nat) : upd (fdC tape taped w n) (taped + n) (bC w n) = fdC tape taped w (n + 1) := by
  funext i
  show (if i = taped + n then bC w n else fdC tape taped w n i) = _
  unfold fdC
  by_cases e : i = taped + n
  · rw [if_pos e, if_pos ⟨by omega, by omega⟩, show i - taped = n by omega]
  · rw [if_neg e]
    by_cases h : taped ≤ i ∧ i < taped + n
    · rw [if_pos h, if_pos ⟨h.1, by omega⟩]
    · rw [if_neg h, if_neg (by omega)]
def fed5 (tape : Nat → Int32) (taped : Nat) (a b c d e : Int32) : Nat → Int32 := fdC (fdC (fdC (fdC (fdC tape taped a 4) (taped + 4) b 4) (taped + 4 + 4) c 4) (taped + 4 + 4 + 4) d 4) (taped + 4 + 4 + 4 + 4) e 4
theorem k24_lt : ∀ j, j < 5 → (nI 24 - nI (8 * j) < 0 ↔ j = 4) := by decide +kernel
theorem k24_s : ∀ j, j < 4 → nI 24 - nI (8 * j) + Int32.ofInt (-8) = nI 24 - nI (8 * (j + 1)) := by decide +kernel

theorem hy_X1_four : yX1_four.cls ≠ "java/lang/invoke/MethodHandle" ∧ yX1_four.cls ≠ "java/lang/invoke/VarHandle" ∧ (parseMethodDescriptor yX1_four.desc).map (fun d => d.parameters.length) = some 1 := by decide +kernel
theorem hy_X1_can : yX1_can.cls ≠ "java/lang/invoke/MethodHandle" ∧ yX1_can.cls ≠ "java/lang/invoke/VarHandle" ∧ (parseMethodDescriptor yX1_can.desc).map (fun d => d.parameters.length) = some 1 := by decide +kernel
theorem hy_X1_begins : yX1_begins.cls ≠ "java/lang/invoke/MethodHandle" ∧ yX1_begins.cls ≠ "java/lang/invoke/VarHandle" ∧ (parseMethodDescriptor yX1_begins.desc).map (fun d => d.parameters.length) = some 1 := by decide +kernel
section XoRows2
variable {l : Launch} {D : va_G} {Y : Nat → ClassId} {A : Nat → Prop} {cf xa ca cb ra : Nat → Nat} {b tx : Nat} {bL : Bool} {tk : Option Nat} {many used : Nat} {liar : Int32} {xs ys heaps : Nat → Nat} {slips : Nat → Nat → Nat} {rows : Nat → Nat → Int64} {taped fk : Nat} {fa : Int32} {an nx : Nat} {images : Nat → Option Nat} {tape : Nat → Int32} {W : va_W}
variable {cc : ByteArray} {nL : Nat} {rt : Option FieldType} {own : String} {R : Room} {MX : Heap → Method → Code → Prop} {QF : List Frame → Array Value → State → State → Prop} {k n pc mc ms : Nat} {L L' : List (Nat × Value)} {st : List Value}
theorem x_ld_imagesV {i : Nat} {v : Value} (hi : i < 3) (hv : va_rf (images i) = v) (hd : decode cc pc = .ok (.aaload, 1)) (K : GG l D clX (tyX Y) cc nL rt own R A MX QF (HW D clX A (CoL Y cf ra b tk many used liar xs ys heaps slips rows (XoL Y xa ca cb ra tx bL taped fk fa an nx images tape W))) k n (pc + 1) L (v :: st)) : GG l D clX (tyX Y) cc nL rt own R A MX QF (HW D clX A (CoL Y cf ra b tk many used liar xs ys heaps slips rows (XoL Y xa ca cb ra tx bL taped fk fa an nx images tape W))) k n pc L (.int (nI i) :: .ref (xa 1) :: st) := g_ldr (cA := Y 7) 7 rfl rfl hi (by decide) hd (hw_mem (co_tl (List.mem_cons_of_mem _ List.mem_cons_self))) hv K
end XoRows2
section
variable {l : Launch} {D : va_G} {Y : Nat → ClassId} {A : Nat → Prop} {Im : Imgs}
set_option maxHeartbeats 4000000 in
/-- four bytes -/
theorem ctX1_four {tx : Nat} {xa ca cb ra : Nat → Nat} {bL : Bool} {tk : Option Nat} {many : Nat} {xs ys heaps : Nat → Nat} {slips : Nat → Nat → Nat} {rows : Nat → Nat → Int64} {taped fk : Nat} {fa : Int32} {an nx : Nat} {images : Nat → Option Nat} {tape : Nat → Int32} {W : va_W} (w : Int32) (ht : taped + 4 ≤ 900) : CT l D clX (tyX Y) yX1_four cX1_four 3 none ({ frames := 0, cells := 0, slots := 0, locals := 0 } : Room) [.ref (xa 0), .int w] (HW D clX A (CoL Y ca ra 0 tk many 0 (-1) xs ys heaps slips rows (XoL Y xa ca cb ra tx bL taped fk fa an nx images tape W))) (Qv (fun (u : Unit) => True) (fun (u : Unit) => HW D clX A (CoL Y ca ra 0 tk many 0 (-1) xs ys heaps slips rows (XoL Y xa ca cb ra tx bL (taped + 4) fk fa an nx images (fdC tape taped w 4) W))) A) A := by
  refine CT.of (L := [(0, .ref (xa 0)), (1, .int w)]) rfl (by decide +kernel) rfl (Nat.le_of_ble_eq_true rfl) ?_
  refine g_bipush (v := nI 24) dX1_four_0 (by decide +kernel) ?_
  refine g_istore_n (L' := [(0, _), (1, _), (2, _)]) 2 dX1_four_2 rfl (by decide) rfl rfl ?_
  have loop3 : ∀ (q3 : Nat) (j : Nat), 5 - j < q3 → (j ≤ 4) → GG l D clX (tyX Y) cX1_four 3 none RX1 ({ frames := 0, cells := 0, slots := 0, locals := 0 } : Room) A MT (QM (Qv (fun (u : Unit) => True) (fun (u : Unit) => HW D clX A (CoL Y ca ra 0 tk many 0 (-1) xs ys heaps slips rows (XoL Y xa ca cb ra tx bL (taped + 4) fk fa an nx images (fdC tape taped w 4) W))) A) 0 0 A) (HW D clX A (CoL Y ca ra 0 tk many 0 (-1) xs ys heaps slips rows (XoL Y xa ca cb ra tx bL (taped + j) fk fa an nx images (fdC tape taped w j) W))) 0 0 3 [(0, .ref (xa 0)), (1, .int w), (2, .int (nI 24 - nI (8 * j)))] [] := by
    intro q3
    induction q3 with
    | zero => intro j hq3; exact absurd hq3 (Nat.not_lt_zero _)
    | succ q3 ih3 =>
      intro j hq3 hj
      refine g_iload_n 2 dX1_four_3 rfl rfl ?_
      refine g_if_lt (tgt := 36) dX1_four_4 (by decide) (fun c4 => ?_) (fun c4 => ?_)
      · skip
        have e9 : j = 4 := (k24_lt j (by omega)).mp c4
        subst e9
        exact g_vret () dX1_four_36 (Nat.le_refl _) (Nat.le_refl _) trivial (fun _ h => h)
      · skip
        have hj4 : j < 4 := by have := mt (k24_lt j (by omega)).mpr c4; omega
        refine g_aload_n 0 dX1_four_7 rfl rfl ?_
        refine x_get_tape q450 dX1_four_8 ?_
        refine g_aload_n 0 dX1_four_11 rfl rfl ?_
        refine x_get_taped q451 dX1_four_12 ?_
        refine g_iload_n 1 dX1_four_15 rfl rfl ?_
        refine g_iload_n 2 dX1_four_16 rfl rfl ?_
        refine g_ishr dX1_four_17 ?_
        refine g_i2b dX1_four_18 rfl ?_
        refine x_st_tape (by omega) dX1_four_19 ?_
        refine g_aload_n 0 dX1_four_20 rfl rfl ?_
        refine g_dup dX1_four_21 rfl ?_
        refine x_get_taped q451 dX1_four_22 ?_
        refine g_iconst (v := nI 1) dX1_four_25 (by decide +kernel) ?_
        refine g_iadd_n dX1_four_26 ?_
        refine x_put_taped q451 dX1_four_27 ?_
        refine g_iinc (L' := [(0, _), (1, _), (2, _)]) dX1_four_30 rfl rfl (by decide) rfl rfl ?_
        refine g_goto (tgt := 3) dX1_four_33 (by decide) ?_
        rw [k24_s j hj4, show vp_nar .byte _ = bC w j from rfl, fdC_s]
        exact ih3 (j + 1) (by omega) (by omega)
  have h0 := loop3 6 0 (by omega) (by omega)
  rw [fdC_0, show nI 24 - nI (8 * 0) = nI 24 by decide +kernel] at h0
  exact h0
set_option maxHeartbeats 4000000 in
/-- feeds twenty bytes -/
theorem ctX1_feed {tx : Nat} {xa ca cb ra : Nat → Nat} {bL : Bool} {tk : Option Nat} {many : Nat} {xs ys heaps : Nat → Nat} {slips : Nat → Nat → Nat} {rows : Nat → Nat → Int64} {taped fk : Nat} {fa : Int32} {an nx : Nat} {images : Nat → Option Nat} {tape : Nat → Int32} {W : va_W} (a b c d e : Int32) (ht : taped ≤ 900) : CT l D clX (tyX Y) yX1_feed cX1_feed 6 (some .int) ({ frames := 1, cells := 0, slots := 0, locals := 22 } : Room) [.ref (xa 0), .int a, .int b, .int c, .int d, .int e] (HW D clX A (CoL Y ca ra 0 tk many 0 (-1) xs ys heaps slips rows (XoL Y xa ca cb ra tx bL taped fk fa an nx images tape W))) (Qi (fun (v : Int32) (u : (Nat → Int32) × Nat) => if taped + 20 ≤ 900 then v = nI (taped + 20) ∧ u.1 = fed5 tape taped a b c d e ∧ u.2 = taped + 20 else v = -1 ∧ u.1 = tape ∧ u.2 = taped) (fun (u : (Nat → Int32) × Nat) => HW D clX A (CoL Y ca ra 0 tk many 0 (-1) xs ys heaps slips rows (XoL Y xa ca cb ra tx bL u.2 fk fa an nx images u.1 W))) A) A := by
  refine CT.of (L := [(0, .ref (xa 0)), (1, .int a), (2, .int b), (3, .int c), (4, .int d), (5, .int e)]) rfl (by decide +kernel) rfl (Nat.le_of_ble_eq_true rfl) ?_
  refine g_aload_n 0 dX1_feed_0 rfl rfl ?_
  refine x_get_taped q451 dX1_feed_1 ?_
  refine g_bipush (v := nI 20) dX1_feed_4 (by decide +kernel) ?_
  refine g_iadd_n dX1_feed_6 ?_
  refine g_sipush (v := nI 900) dX1_feed_7 (by decide +kernel) ?_
  refine g_icmp_le_n (tgt := 15) dX1_feed_10 (by decide) (by omega) (by omega) (fun c10 => ?_) (fun c10 => ?_)
  · skip
    refine g_aload_n 0 dX1_feed_15 rfl rfl ?_
    refine g_iload_n 1 dX1_feed_16 rfl rfl ?_
    refine h_cVv (ctX1_four _ (by omega)) (lw_V q498 q500 qs0 q106 q501) ⟨rfl, hy_X1_four⟩ rfl ⟨Nat.le_of_ble_eq_true rfl, Nat.le_of_ble_eq_true rfl⟩ ⟨Nat.le_of_ble_eq_true rfl, Nat.le_of_ble_eq_true rfl⟩ rfl (Nat.le_of_ble_eq_true rfl) dX1_feed_17 x_rec (fun u9 hp9 => ?_)
    refine g_aload_n 0 dX1_feed_20 rfl rfl ?_
    refine g_iload_n 2 dX1_feed_21 rfl rfl ?_
    refine h_cVv (ctX1_four _ (by omega)) (lw_V q498 q500 qs0 q106 q501) ⟨rfl, hy_X1_four⟩ rfl ⟨Nat.le_of_ble_eq_true rfl, Nat.le_of_ble_eq_true rfl⟩ ⟨Nat.le_of_ble_eq_true rfl, Nat.le_of_ble_eq_true rfl⟩ rfl (Nat.le_of_ble_eq_true rfl) dX1_feed_22 x_rec (fun u9 hp9 => ?_)
    refine g_aload_n 0 dX1_feed_25 rfl rfl ?_
    refine g_iload_n 3 dX1_feed_26 rfl rfl ?_
    refine h_cVv (ctX1_four _ (by omega)) (lw_V q498 q500 qs0 q106 q501) ⟨rfl, hy_X1_four⟩ rfl ⟨Nat.le_of_ble_eq_true rfl, Nat.le_of_ble_eq_true rfl⟩ ⟨Nat.le_of_ble_eq_true rfl, Nat.le_of_ble_eq_true rfl⟩ rfl (Nat.le_of_ble_eq_true rfl) dX1_feed_27 x_rec (fun u9 hp9 => ?_)
    refine g_aload_n 0 dX1_feed_30 rfl rfl ?_
    refine g_iload dX1_feed_31 rfl ?_
    refine h_cVv (ctX1_four _ (by omega)) (lw_V q498 q500 qs0 q106 q501) ⟨rfl, hy_X1_four⟩ rfl ⟨Nat.le_of_ble_eq_true rfl, Nat.le_of_ble_eq_true rfl⟩ ⟨Nat.le_of_ble_eq_true rfl, Nat.le_of_ble_eq_true rfl⟩ rfl (Nat.le_of_ble_eq_true rfl) dX1_feed_33 x_rec (fun u9 hp9 => ?_)
    refine g_aload_n 0 dX1_feed_36 rfl rfl ?_
    refine g_iload dX1_feed_37 rfl ?_
    refine h_cVv (ctX1_four _ (by omega)) (lw_V q498 q500 qs0 q106 q501) ⟨rfl, hy_X1_four⟩ rfl ⟨Nat.le_of_ble_eq_true rfl, Nat.le_of_ble_eq_true rfl⟩ ⟨Nat.le_of_ble_eq_true rfl, Nat.le_of_ble_eq_true rfl⟩ rfl (Nat.le_of_ble_eq_true rfl) dX1_feed_39 x_rec (fun u9 hp9 => ?_)
    refine g_aload_n 0 dX1_feed_42 rfl rfl ?_
    refine x_get_taped q451 dX1_feed_43 ?_
    exact g_iret (fed5 tape taped a b c d e, taped + 4 + 4 + 4 + 4 + 4) dX1_feed_46 (Nat.le_refl _) (Nat.le_refl _) (by rw [if_pos (by omega)]; exact ⟨rfl, rfl, rfl⟩) (fun _ h => h)
  · skip
    refine g_iconst (v := -1) dX1_feed_13 (by decide +kernel) ?_
    exact g_iret (tape, taped) dX1_feed_14 (Nat.le_refl _) (Nat.le_refl _) (by rw [if_neg (by omega)]; exact ⟨rfl, rfl, rfl⟩) (fun _ h => h)
set_option maxHeartbeats 4000000 in
/-- back to an image -/
theorem ctX1_restore {tx : Nat} {xa ca cb ra : Nat → Nat} {bL : Bool} {tk : Option Nat} {many : Nat} {xs ys heaps : Nat → Nat} {slips : Nat → Nat → Nat} {rows : Nat → Nat → Int64} {taped fk : Nat} {fa : Int32} {an nx : Nat} {images : Nat → Option Nat} {tape : Nat → Int32} {W : va_W} {T : Talk} (i0 : Int32) (hl9 : l.stackTraces = false) (hIm : ImC Y W images Im) : CTB l D clX (tyX Y) yX1_restore cX1_restore 2 none ({ frames := 7, cells := 2, slots := 12, locals := 110 } : Room) [.ref (xa 0), .int i0] (HW D clX A (CoL Y ca ra 0 tk many 0 (-1) xs ys heaps slips rows (XoL Y xa ca cb ra tx bL taped fk fa an nx images tape W))) (Qv (fun (u : Nat) => (imBack Im T i0).1 = 0 ∧ ∃ ta2 : Nat → Nat, u = ta2 0 ∧ TalkL Y (imBack Im T i0).2 ta2 W ∧ TOK (imBack Im T i0).2) (fun (u : Nat) => HW D clX A (CoL Y ca ra 0 tk many 0 (-1) xs ys heaps slips rows (XoL Y xa ca cb ra u false taped fk fa an nx images tape W))) A) (fun (u : Nat) => (imBack Im T i0).1 = u ∧ 0 < u) (fun u => exL ["java/util/NoSuchElementException", "java/lang/IllegalStateException"] u) (fun (u : Nat) (_ : Nat) => HW D clX A (CoL Y ca ra 0 tk many 0 (-1) xs ys heaps slips rows (XoL Y xa ca cb ra tx bL taped fk fa an nx images tape W))) A := by
  refine CTB.of (L := [(0, .ref (xa 0)), (1, .int i0)]) rfl (by decide +kernel) rfl (Nat.le_of_ble_eq_true rfl) ?_
  rcases hi : iR i0 3 with _ | i
  · skip
    refine g_iload_n 1 dX1_restore_0 rfl rfl ?_
    refine g_i2l dX1_restore_1 rfl ?_
    refine g_lconst (v := lN 0) dX1_restore_2 (by decide +kernel) ?_
    refine g_ldc2 (v := lN 2) dX1_restore_3 q1686 ?_
    refine h_cSi (ctX1_isIn _ _ _) (lw_S q737 q738 q106 q739) hy_X1_isIn rfl ⟨Nat.le_of_ble_eq_true rfl, Nat.le_of_ble_eq_true rfl⟩ ⟨Nat.le_of_ble_eq_true rfl, Nat.le_of_ble_eq_true rfl⟩ rfl (Nat.le_of_ble_eq_true rfl) dX1_restore_6 (fun r u hp => ?_)
    obtain rfl := hp
    rw [show wIn _ (lN 0) (lN 2) = false by rw [wIn_iR1 _ (by decide), hi]; rfl]
    refine x_cSv (ctX1_there false hl9 (fun H H1 h _ hk => HW.keep h hk)) (lw_S q1374 q1375 q106 q1376) hy_X1_there rfl ⟨Nat.le_of_ble_eq_true rfl, Nat.le_of_ble_eq_true rfl⟩ ⟨Nat.le_of_ble_eq_true rfl, Nat.le_of_ble_eq_true rfl⟩ rfl (Nat.le_of_ble_eq_true rfl) dX1_restore_9 (fun _ _ _ h => h.1) (fun u9 q9 hx9 => xg_out 1 (Nat.le_of_ble_eq_true rfl) (Nat.le_of_ble_eq_true rfl) (⟨by unfold imBack; simp only [hi], Nat.le_of_ble_eq_true rfl⟩) rfl (fun _ h => h)) (fun u9 hy9 => ?_)
    exact absurd hy9 (by decide)
  · skip
    obtain ⟨hiL, rfl⟩ := iR_some hi
    rcases hIi : Im i with _ | T2
    · skip
      refine g_iload_n 1 dX1_restore_0 rfl rfl ?_
      refine g_i2l dX1_restore_1 rfl ?_
      refine g_lconst (v := lN 0) dX1_restore_2 (by decide +kernel) ?_
      refine g_ldc2 (v := lN 2) dX1_restore_3 q1686 ?_
      refine h_cSi (ctX1_isIn _ _ _) (lw_S q737 q738 q106 q739) hy_X1_isIn rfl ⟨Nat.le_of_ble_eq_true rfl, Nat.le_of_ble_eq_true rfl⟩ ⟨Nat.le_of_ble_eq_true rfl, Nat.le_of_ble_eq_true rfl⟩ rfl (Nat.le_of_ble_eq_true rfl) dX1_restore_6 (fun r u hp => ?_)
      obtain rfl := hp
      rw [show wIn _ (lN 0) (lN 2) = true by rw [wIn_iR1 _ (by decide), hi]; rfl]
      refine x_cSv (ctX1_there true hl9 (fun H H1 h _ hk => HW.keep h hk)) (lw_S q1374 q1375 q106 q1376) hy_X1_there rfl ⟨Nat.le_of_ble_eq_true rfl, Nat.le_of_ble_eq_true rfl⟩ ⟨Nat.le_of_ble_eq_true rfl, Nat.le_of_ble_eq_true rfl⟩ rfl (Nat.le_of_ble_eq_true rfl) dX1_restore_9 (fun _ _ _ h => h.1) (fun u9 q9 hx9 => absurd hx9 (by decide)) (fun u9 hy9 => ?_)
      refine g_aload_n 0 dX1_restore_12 rfl rfl ?_
      refine x_get_images q449 dX1_restore_13 ?_
      refine g_iload_n 1 dX1_restore_16 rfl rfl ?_
      refine x_ld_imagesV (v := .null) hiL (by rw [(hIm i hiL).1 hIi]; rfl) dX1_restore_17 ?_
      refine g_ifnullN (tgt := 25) dX1_restore_18 (by decide) ?_
      refine g_iconst (v := nI 0) dX1_restore_25 (by decide +kernel) ?_
      refine x_cSv (ctX1_can false hl9 (fun H H1 h _ hk => HW.keep h hk)) (lw_S q1700 q1701 q106 q1702) hy_X1_can rfl ⟨Nat.le_of_ble_eq_true rfl, Nat.le_of_ble_eq_true rfl⟩ ⟨Nat.le_of_ble_eq_true rfl, Nat.le_of_ble_eq_true rfl⟩ rfl (Nat.le_of_ble_eq_true rfl) dX1_restore_26 (fun _ _ _ h => h.1) (fun u9 q9 hx9 => xg_out 2 (Nat.le_of_ble_eq_true rfl) (Nat.le_of_ble_eq_true rfl) (⟨by unfold imBack; simp only [hi, hIi], Nat.le_of_ble_eq_true rfl⟩) rfl (fun _ h => h)) (fun u9 hy9 => ?_)
      exact absurd hy9 (by decide)
    · skip
      obtain ⟨ta2, hi1, hi2, hi3⟩ := (hIm i hiL).2 T2 hIi
      refine g_iload_n 1 dX1_restore_0 rfl rfl ?_
      refine g_i2l dX1_restore_1 rfl ?_
      refine g_lconst (v := lN 0) dX1_restore_2 (by decide +kernel) ?_
      refine g_ldc2 (v := lN 2) dX1_restore_3 q1686 ?_
      refine h_cSi (ctX1_isIn _ _ _) (lw_S q737 q738 q106 q739) hy_X1_isIn rfl ⟨Nat.le_of_ble_eq_true rfl, Nat.le_of_ble_eq_true rfl⟩ ⟨Nat.le_of_ble_eq_true rfl, Nat.le_of_ble_eq_true rfl⟩ rfl (Nat.le_of_ble_eq_true rfl) dX1_restore_6 (fun r u hp => ?_)
      obtain rfl := hp
      rw [show wIn _ (lN 0) (lN 2) = true by rw [wIn_iR1 _ (by decide), hi]; rfl]
      refine x_cSv (ctX1_there true hl9 (fun H H1 h _ hk => HW.keep h hk)) (lw_S q1374 q1375 q106 q1376) hy_X1_there rfl ⟨Nat.le_of_ble_eq_true rfl, Nat.le_of_ble_eq_true rfl⟩ ⟨Nat.le_of_ble_eq_true rfl, Nat.le_of_ble_eq_true rfl⟩ rfl (Nat.le_of_ble_eq_true rfl) dX1_restore_9 (fun _ _ _ h => h.1) (fun u9 q9 hx9 => absurd hx9 (by decide)) (fun u9 hy9 => ?_)
      refine g_aload_n 0 dX1_restore_12 rfl rfl ?_
      refine x_get_images q449 dX1_restore_13 ?_
      refine g_iload_n 1 dX1_restore_16 rfl rfl ?_
      refine x_ld_imagesV (v := .ref (ta2 0)) hiL (by rw [hi1]; rfl) dX1_restore_17 ?_
      refine g_ifnull dX1_restore_18 ?_
      refine g_iconst (v := nI 1) dX1_restore_21 (by decide +kernel) ?_
      refine g_goto (tgt := 26) dX1_restore_22 (by decide) ?_
      refine x_cSv (ctX1_can true hl9 (fun H H1 h _ hk => HW.keep h hk)) (lw_S q1700 q1701 q106 q1702) hy_X1_can rfl ⟨Nat.le_of_ble_eq_true rfl, Nat.le_of_ble_eq_true rfl⟩ ⟨Nat.le_of_ble_eq_true rfl, Nat.le_of_ble_eq_true rfl⟩ rfl (Nat.le_of_ble_eq_true rfl) dX1_restore_26 (fun _ _ _ h => h.1) (fun u9 q9 hx9 => absurd hx9 (by decide)) (fun u9 hy9 => ?_)
      refine g_aload_n 0 dX1_restore_29 rfl rfl ?_
      refine g_aload_n 0 dX1_restore_30 rfl rfl ?_
      refine x_get_images q449 dX1_restore_31 ?_
      refine g_iload_n 1 dX1_restore_34 rfl rfl ?_
      refine x_ld_imagesV (v := .ref (ta2 0)) hiL (by rw [hi1]; rfl) dX1_restore_35 ?_
      refine h_cVv (ctX1_begins (ta2 0)) (lw_V q1358 q1360 qs32 q106 q1361) ⟨rfl, hy_X1_begins⟩ rfl ⟨Nat.le_of_ble_eq_true rfl, Nat.le_of_ble_eq_true rfl⟩ ⟨Nat.le_of_ble_eq_true rfl, Nat.le_of_ble_eq_true rfl⟩ rfl (Nat.le_of_ble_eq_true rfl) dX1_restore_36 x_rec (fun u9 hp9 => ?_)
      exact GG.ret (g_vret (ta2 0) dX1_restore_39 (Nat.le_of_ble_eq_true rfl) (Nat.le_of_ble_eq_true rfl) (⟨by unfold imBack; simp only [hi, hIi], ta2, rfl, by unfold imBack; simp only [hi, hIi]; exact hi2, by unfold imBack; simp only [hi, hIi]; exact hi3⟩) (fun _ h => h))
end
