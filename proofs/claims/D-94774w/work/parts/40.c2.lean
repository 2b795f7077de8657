/-! THE COMPONENT, 2: rows of bits, fills, small methods of the JDK -/
set_option maxRecDepth 100000
theorem List.set_getElem?_self9 {α : Type} {l : List α} {i : Nat} {a : α} (h : l[i]? = some a) : l.set i a = l := by
  obtain ⟨h1, h2⟩ := List.getElem?_eq_some_iff.mp h
  rw [← h2]; exact List.set_getElem_self h1
section
variable {f : Nat → Int64} {k0 : Int32} {w P : Nat}
theorem at_skip (hi : ∀ v, v < w → (lbt f v && decide (k0 = nI (cnt (lbt f) v))) = false) (h : lbt f w = false) : ∀ v, v < w + 1 → (lbt f v && decide (k0 = nI (cnt (lbt f) v))) = false := by
  intro v hv
  rcases Nat.lt_succ_iff_lt_or_eq.mp hv with q | q
  · exact hi v q
  · rw [q, h]; rfl
theorem at_hit (h : lbt f w = true) (h2 : k0 - nI (cnt (lbt f) w) = 0) : (lbt f w && decide (k0 = nI (cnt (lbt f) w))) = true := by
  have : k0 = nI (cnt (lbt f) w) := by
    have h3 : k0 - nI (cnt (lbt f) w) + nI (cnt (lbt f) w) = 0 + nI (cnt (lbt f) w) := by rw [h2]
    rw [Int32.sub_add_cancel, Int32.zero_add] at h3
    exact h3
  rw [h, decide_eq_true this]; rfl
theorem at_step (hi : ∀ v, v < w → (lbt f v && decide (k0 = nI (cnt (lbt f) v))) = false) (hP : P ≤ 1830) (hw : w < P) (h2 : ¬ k0 - nI (cnt (lbt f) w) = 0) : ∀ v, v < w + 1 → (lbt f v && decide (k0 = nI (cnt (lbt f) v))) = false := by
  intro v hv
  rcases Nat.lt_succ_iff_lt_or_eq.mp hv with q | q
  · exact hi v q
  · rw [q, decide_eq_false (fun e => h2 (by rw [← e, Int32.sub_self])), Bool.and_false]
theorem at_next (h : lbt f w = true) : k0 - nI (cnt (lbt f) w) + Int32.ofInt (-1) = k0 - nI (cnt (lbt f) (w + 1)) := by
  rw [show Int32.ofInt (-1) = -1 from by decide]
  have e : cnt (lbt f) (w + 1) = cnt (lbt f) w + 1 := by
    show cnt _ w + _ = _
    rw [if_pos h]
  rw [e, nI_succ]
  simp only [Int32.sub_eq_add_neg, Int32.neg_add, Int32.add_assoc]
theorem at_same (h : lbt f w = false) : k0 - nI (cnt (lbt f) w) = k0 - nI (cnt (lbt f) (w + 1)) := by
  have e : cnt (lbt f) (w + 1) = cnt (lbt f) w := by
    show cnt _ w + _ = _
    rw [if_neg (by rw [h]; decide)]; rfl
  rw [e]
theorem at_none (hP : P ≤ 1830) (hw : w ≤ P) (hi : ∀ v, v < w → (lbt f v && decide (k0 = nI (cnt (lbt f) v))) = false) (h : P ≤ w ∨ k0 - nI (cnt (lbt f) w) < 0) : ∀ v, v < P → (lbt f v && decide (k0 = nI (cnt (lbt f) v))) = false := by
  intro v hv
  rcases h with h | h
  · exact hi v (by omega)
  · by_cases q : v < w
    · exact hi v q
    · rw [decide_eq_false, Bool.and_false]
      intro e
      have hc : cnt (lbt f) w ≤ cnt (lbt f) v := by
        rw [show v = w + (v - w) by omega, cnt_add]; omega
      have hv2 := cnt_le (lbt f) v
      rw [e, pk_sub hc] at h
      exact nI_pos (by omega) h
end
theorem hy_J17_bitCount : yJ17_bitCount.cls ≠ "java/lang/invoke/MethodHandle" ∧ yJ17_bitCount.cls ≠ "java/lang/invoke/VarHandle" ∧ (parseMethodDescriptor yJ17_bitCount.desc).map (fun d => d.parameters.length) = some 1 := by decide +kernel
theorem hy_X1_has : yX1_has.cls ≠ "java/lang/invoke/MethodHandle" ∧ yX1_has.cls ≠ "java/lang/invoke/VarHandle" ∧ (parseMethodDescriptor yX1_has.desc).map (fun d => d.parameters.length) = some 2 := by decide +kernel
section
variable {l : Launch} {D : va_G} {Y : Nat → ClassId} {A : Nat → Prop}
set_option maxHeartbeats 4000000 in
/-- a bit of a row -/
theorem ctX1_has {HP : Heap → Prop} {a : Nat} {f : Nat → Int64} (w0 : Nat) (hc : ∀ H, HP H → va_P D clX [(a, rwC Y f)] H) (h1 : w0 < 1856) : CT l D clX (tyX Y) yX1_has cX1_has 2 (some .boolean) ({ frames := 0, cells := 0, slots := 0, locals := 0 } : Room) [.ref a, .int (nI w0)] (HP) (Qi (fun (v : Int32) (u : Unit) => v = bI (lbt f w0)) (fun (u : Unit) => HP) A) A := by
  refine CT.of (L := [(0, .ref a), (1, .int (nI w0))]) rfl (by decide +kernel) rfl (Nat.le_of_ble_eq_true rfl) ?_
  refine g_aload_n 0 dX1_has_0 rfl rfl ?_
  refine g_iload_n 1 dX1_has_1 rfl rfl ?_
  refine g_bipush (v := nI 6) dX1_has_2 (by decide +kernel) ?_
  refine g_ishr6 dX1_has_4 (by omega) ?_
  refine g_ldl (cA := Y 1) 1 rfl (by omega) (by decide) dX1_has_5 hc ?_
  refine g_iload_n 1 dX1_has_6 rfl rfl ?_
  refine g_lushr dX1_has_7 rfl ?_
  refine g_lconst (v := lN 1) dX1_has_8 (by decide +kernel) ?_
  refine g_land dX1_has_9 ?_
  refine GG.topl (bit_ldu _ (by omega)) ?_
  refine g_lconst (v := lN 1) dX1_has_10 (by decide +kernel) ?_
  refine g_lcmp dX1_has_11 ?_
  generalize hb : (f (w0 / 64)).toBitVec.getLsbD (w0 % 64) = b9 at *
  refine g_if_ne (tgt := 19) dX1_has_12 (by decide) (fun c12 => ?_) (fun c12 => ?_)
  · skip
    have e9 : b9 = false := by
      cases b9
      · rfl
      · exact absurd (by decide +kernel) c12
    refine g_iconst (v := nI 0) dX1_has_19 (by decide +kernel) ?_
    exact g_zret (b := false) () dX1_has_20 (Nat.le_refl _) (Nat.le_refl _) (by unfold lbt; rw [hb, e9]) (fun _ h => h)
  · skip
    have e9 : b9 = true := by
      cases b9
      · exact absurd c12 (by decide +kernel)
      · rfl
    refine g_iconst (v := nI 1) dX1_has_15 (by decide +kernel) ?_
    refine g_goto (tgt := 20) dX1_has_16 (by decide) ?_
    exact g_zret (b := true) () dX1_has_20 (Nat.le_refl _) (Nat.le_refl _) (by unfold lbt; rw [hb, e9]) (fun _ h => h)
set_option maxHeartbeats 4000000 in
/-- a bit put -/
theorem ctX1_puts {ws : va_W} {wsF : (Nat → Int64) → va_W} {q0 a : Nat} {f : Nat → Int64} (w0 : Nat) (he : ws[q0]? = some (a, rwC Y f)) (hw : ∀ u, ws.set q0 (a, rwC Y u) = wsF u) (h1 : w0 < 1856) : CT l D clX (tyX Y) yX1_puts cX1_puts 2 none ({ frames := 0, cells := 0, slots := 0, locals := 0 } : Room) [.ref a, .int (nI w0)] (HW D clX A ws) (Qv (fun (u : Nat → Int64) => ∀ w', w' < 1856 → lbt u w' = (lbt f w' || decide (w' = w0))) (fun (u : Nat → Int64) => HW D clX A (wsF u)) A) A := by
  refine CT.of (L := [(0, .ref a), (1, .int (nI w0))]) rfl (by decide +kernel) rfl (Nat.le_of_ble_eq_true rfl) ?_
  refine g_aload_n 0 dX1_puts_0 rfl rfl ?_
  refine g_iload_n 1 dX1_puts_1 rfl rfl ?_
  refine g_bipush (v := nI 6) dX1_puts_2 (by decide +kernel) ?_
  refine g_ishr6 dX1_puts_4 (by omega) ?_
  refine g_dup2_11 dX1_puts_5 rfl rfl ?_
  refine g_ldl (cA := Y 1) 1 rfl (by omega) (by decide) dX1_puts_6 (hw_ix he) ?_
  refine g_lconst (v := lN 1) dX1_puts_7 (by decide +kernel) ?_
  refine g_iload_n 1 dX1_puts_8 rfl rfl ?_
  refine g_lshl dX1_puts_9 rfl ?_
  refine g_lor dX1_puts_10 ?_
  refine w_stl (cA := Y 1) 1 rfl (by omega) (by decide) q0 he (hw _) dX1_puts_11 ?_
  exact g_vret _ dX1_puts_12 (Nat.le_refl _) (Nat.le_refl _) (lbt_put h1) (fun _ h => h)
set_option maxHeartbeats 4000000 in
/-- how many bits -/
theorem ctJ17_bitCount {HP : Heap → Prop} (x : Int64)  : CT l D clX (tyX Y) yJ17_bitCount cJ17_bitCount 2 (some .int) ({ frames := 0, cells := 0, slots := 0, locals := 0 } : Room) [.long x] (HP) (Qi (fun (v : Int32) (u : Unit) => v = nI (cnt (fun i => x.toBitVec.getLsbD i) 64)) (fun (u : Unit) => HP) A) A := by
  refine CT.of (L := [(0, .long x)]) rfl (by decide +kernel) rfl (Nat.le_of_ble_eq_true rfl) ?_
  refine g_lload_n 0 dJ17_bitCount_0 rfl rfl ?_
  refine g_lload_n 0 dJ17_bitCount_1 rfl rfl ?_
  refine g_iconst (v := nI 1) dJ17_bitCount_2 (by decide +kernel) ?_
  refine g_lushr dJ17_bitCount_3 rfl ?_
  refine g_ldc2 (v := lN 6148914691236517205) dJ17_bitCount_4 q703 ?_
  refine g_land dJ17_bitCount_7 ?_
  refine g_lsub dJ17_bitCount_8 ?_
  refine GG.namel (fun s1 e1 => ?_)
  refine g_lstore_n (L' := [(0, _)]) 0 dJ17_bitCount_9 rfl (by decide) rfl rfl ?_
  refine g_lload_n 0 dJ17_bitCount_10 rfl rfl ?_
  refine g_ldc2 (v := lN 3689348814741910323) dJ17_bitCount_11 q704 ?_
  refine g_land dJ17_bitCount_14 ?_
  refine g_lload_n 0 dJ17_bitCount_15 rfl rfl ?_
  refine g_iconst (v := nI 2) dJ17_bitCount_16 (by decide +kernel) ?_
  refine g_lushr dJ17_bitCount_17 rfl ?_
  refine g_ldc2 (v := lN 3689348814741910323) dJ17_bitCount_18 q704 ?_
  refine g_land dJ17_bitCount_21 ?_
  refine g_ladd dJ17_bitCount_22 ?_
  refine GG.namel (fun s2 e2 => ?_)
  refine g_lstore_n (L' := [(0, _)]) 0 dJ17_bitCount_23 rfl (by decide) rfl rfl ?_
  refine g_lload_n 0 dJ17_bitCount_24 rfl rfl ?_
  refine g_lload_n 0 dJ17_bitCount_25 rfl rfl ?_
  refine g_iconst (v := nI 4) dJ17_bitCount_26 (by decide +kernel) ?_
  refine g_lushr dJ17_bitCount_27 rfl ?_
  refine g_ladd dJ17_bitCount_28 ?_
  refine g_ldc2 (v := lN 1085102592571150095) dJ17_bitCount_29 q705 ?_
  refine g_land dJ17_bitCount_32 ?_
  refine GG.namel (fun s3 e3 => ?_)
  refine g_lstore_n (L' := [(0, _)]) 0 dJ17_bitCount_33 rfl (by decide) rfl rfl ?_
  refine g_lload_n 0 dJ17_bitCount_34 rfl rfl ?_
  refine g_lload_n 0 dJ17_bitCount_35 rfl rfl ?_
  refine g_bipush (v := nI 8) dJ17_bitCount_36 (by decide +kernel) ?_
  refine g_lushr dJ17_bitCount_38 rfl ?_
  refine g_ladd dJ17_bitCount_39 ?_
  refine GG.namel (fun s4 e4 => ?_)
  refine g_lstore_n (L' := [(0, _)]) 0 dJ17_bitCount_40 rfl (by decide) rfl rfl ?_
  refine g_lload_n 0 dJ17_bitCount_41 rfl rfl ?_
  refine g_lload_n 0 dJ17_bitCount_42 rfl rfl ?_
  refine g_bipush (v := nI 16) dJ17_bitCount_43 (by decide +kernel) ?_
  refine g_lushr dJ17_bitCount_45 rfl ?_
  refine g_ladd dJ17_bitCount_46 ?_
  refine GG.namel (fun s5 e5 => ?_)
  refine g_lstore_n (L' := [(0, _)]) 0 dJ17_bitCount_47 rfl (by decide) rfl rfl ?_
  refine g_lload_n 0 dJ17_bitCount_48 rfl rfl ?_
  refine g_lload_n 0 dJ17_bitCount_49 rfl rfl ?_
  refine g_bipush (v := nI 32) dJ17_bitCount_50 (by decide +kernel) ?_
  refine g_lushr dJ17_bitCount_52 rfl ?_
  refine g_ladd dJ17_bitCount_53 ?_
  refine GG.namel (fun s6 e6 => ?_)
  refine g_lstore_n (L' := [(0, _)]) 0 dJ17_bitCount_54 rfl (by decide) rfl rfl ?_
  refine g_lload_n 0 dJ17_bitCount_55 rfl rfl ?_
  refine g_l2i dJ17_bitCount_56 rfl ?_
  refine g_bipush (v := nI 127) dJ17_bitCount_57 (by decide +kernel) ?_
  refine g_iand dJ17_bitCount_59 ?_
  exact g_iret () dJ17_bitCount_60 (Nat.le_refl _) (Nat.le_refl _) (bc_long e1 e2 e3 e4 e5 e6) (fun _ h => h)
set_option maxHeartbeats 4000000 in
/-- how many bits of a row -/
theorem ctX1_count {HP : Heap → Prop} {a : Nat} {f : Nat → Int64}  (hc : ∀ H, HP H → va_P D clX [(a, rwC Y f)] H) : CT l D clX (tyX Y) yX1_count cX1_count 3 (some .int) ({ frames := 1, cells := 0, slots := 0, locals := 21 } : Room) [.ref a] (HP) (Qi (fun (v : Int32) (u : Unit) => v = nI (cnt (lbt f) 1856)) (fun (u : Unit) => HP) A) A := by
  refine CT.of (L := [(0, .ref a)]) rfl (by decide +kernel) rfl (Nat.le_of_ble_eq_true rfl) ?_
  refine g_iconst (v := nI 0) dX1_count_0 (by decide +kernel) ?_
  refine g_istore_n (L' := [(0, _), (1, _)]) 1 dX1_count_1 rfl (by decide) rfl rfl ?_
  refine g_iconst (v := nI 0) dX1_count_2 (by decide +kernel) ?_
  refine g_istore_n (L' := [(0, _), (1, _), (2, _)]) 2 dX1_count_3 rfl (by decide) rfl rfl ?_
  have loop4 : ∀ (q4 : Nat) (w : Nat), 29 - w < q4 → (w ≤ 29) → GG l D clX (tyX Y) cX1_count 3 (some .int) RX1 ({ frames := 1, cells := 0, slots := 0, locals := 21 } : Room) A MT (QM (Qi (fun (v : Int32) (u : Unit) => v = nI (cnt (lbt f) 1856)) (fun (u : Unit) => HP) A) 0 0 A) (HP) 0 0 4 [(0, .ref a), (1, .int (nI (cnt (lbt f) (64 * w)))), (2, .int (nI w))] [] := by
    intro q4
    induction q4 with
    | zero => intro w hq4; exact absurd hq4 (Nat.not_lt_zero _)
    | succ q4 ih4 =>
      intro w hq4 hw
      refine g_iload_n 2 dX1_count_4 rfl rfl ?_
      refine g_bipush (v := nI 29) dX1_count_5 (by decide +kernel) ?_
      refine g_icmp_ge_n (tgt := 25) dX1_count_7 (by decide) (by omega) (by omega) (fun c7 => ?_) (fun c7 => ?_)
      · skip
        refine g_iload_n 1 dX1_count_25 rfl rfl ?_
        exact g_iret () dX1_count_26 (Nat.le_refl _) (Nat.le_refl _) (by have e9 : w = 29 := (by omega); rw [e9]) (fun _ h => h)
      · skip
        refine g_iload_n 1 dX1_count_10 rfl rfl ?_
        refine g_aload_n 0 dX1_count_11 rfl rfl ?_
        refine g_iload_n 2 dX1_count_12 rfl rfl ?_
        refine g_ldl (cA := Y 1) 1 rfl (by omega) (by decide) dX1_count_13 hc ?_
        refine h_cSi (ctJ17_bitCount _) (lw_S q700 q701 q156 q702) hy_J17_bitCount rfl ⟨Nat.le_of_ble_eq_true rfl, Nat.le_of_ble_eq_true rfl⟩ ⟨Nat.le_of_ble_eq_true rfl, Nat.le_of_ble_eq_true rfl⟩ rfl (Nat.le_of_ble_eq_true rfl) dX1_count_14 (fun r u hp => ?_)
        obtain rfl := hp
        refine g_iadd_n dX1_count_17 ?_
        refine g_istore_n (L' := [(0, _), (1, _), (2, _)]) 1 dX1_count_18 rfl (by decide) rfl rfl ?_
        refine g_iinc_n (b := 1) (L' := [(0, _), (1, _), (2, _)]) dX1_count_19 rfl rfl (by decide) rfl rfl ?_
        refine g_goto (tgt := 4) dX1_count_22 (by decide) ?_
        rw [← lbt_long]
        exact ih4 (w + 1) (by omega) (by omega)
  exact loop4 30 0 (by omega) (by omega)
set_option maxHeartbeats 4000000 in
/-- the k-th bit -/
theorem ctX1_at {HP : Heap → Prop} {a : Nat} {f : Nat → Int64} (k0 : Int32) (P : Nat) (hc : ∀ H, HP H → va_P D clX [(a, rwC Y f)] H) (hP : P ≤ 1830) : CT l D clX (tyX Y) yX1_at cX1_at 5 (some .int) ({ frames := 1, cells := 0, slots := 0, locals := 21 } : Room) [.ref a, .int k0, .int (nI P)] (HP) (Qi (fun (v : Int32) (u : Unit) => isFst (fun w => lbt f w && decide (k0 = nI (cnt (lbt f) w))) P v) (fun (u : Unit) => HP) A) A := by
  refine CT.of (L := [(0, .ref a), (1, .int k0), (2, .int (nI P))]) rfl (by decide +kernel) rfl (Nat.le_of_ble_eq_true rfl) ?_
  refine g_iload_n 1 dX1_at_0 rfl rfl ?_
  refine GG.topi (show k0 = k0 - nI (cnt (lbt f) 0) from by rw [show nI (cnt (lbt f) 0) = 0 from rfl, Int32.sub_zero]) ?_
  refine g_istore_n (L' := [(0, _), (1, _), (2, _), (3, _)]) 3 dX1_at_1 rfl (by decide) rfl rfl ?_
  refine g_iconst (v := nI 0) dX1_at_2 (by decide +kernel) ?_
  refine g_istore (L' := [(0, _), (1, _), (2, _), (3, _), (4, _)]) dX1_at_3 (by decide) rfl rfl ?_
  have loop5 : ∀ (q5 : Nat) (w : Nat), P - w < q5 → (w ≤ P) → (∀ v, v < w → (lbt f v && decide (k0 = nI (cnt (lbt f) v))) = false) → GG l D clX (tyX Y) cX1_at 5 (some .int) RX1 ({ frames := 1, cells := 0, slots := 0, locals := 21 } : Room) A MT (QM (Qi (fun (v : Int32) (u : Unit) => isFst (fun w => lbt f w && decide (k0 = nI (cnt (lbt f) w))) P v) (fun (u : Unit) => HP) A) 0 0 A) (HP) 0 0 5 [(0, .ref a), (1, .int k0), (2, .int (nI P)), (3, .int (k0 - nI (cnt (lbt f) w))), (4, .int (nI w))] [] := by
    intro q5
    induction q5 with
    | zero => intro w hq5; exact absurd hq5 (Nat.not_lt_zero _)
    | succ q5 ih5 =>
      intro w hq5 hw hi
      refine g_iload dX1_at_5 rfl ?_
      refine g_iload_n 2 dX1_at_7 rfl rfl ?_
      refine g_icmp_ge_n (tgt := 43) dX1_at_8 (by decide) (by omega) (by omega) (fun c8 => ?_) (fun c8 => ?_)
      · skip
        refine g_iconst (v := -1) dX1_at_43 (by decide +kernel) ?_
        exact g_iret () dX1_at_44 (Nat.le_refl _) (Nat.le_refl _) (Or.inr ⟨at_none hP hw hi (by first | exact Or.inl (by omega) | exact Or.inr c12), rfl⟩) (fun _ h => h)
      · skip
        refine g_iload_n 3 dX1_at_11 rfl rfl ?_
        refine g_if_lt (tgt := 43) dX1_at_12 (by decide) (fun c12 => ?_) (fun c12 => ?_)
        · skip
          refine g_iconst (v := -1) dX1_at_43 (by decide +kernel) ?_
          exact g_iret () dX1_at_44 (Nat.le_refl _) (Nat.le_refl _) (Or.inr ⟨at_none hP hw hi (by first | exact Or.inl (by omega) | exact Or.inr c12), rfl⟩) (fun _ h => h)
        · skip
          refine g_aload_n 0 dX1_at_15 rfl rfl ?_
          refine g_iload dX1_at_16 rfl ?_
          refine h_cSi (ctX1_has _ hc (by omega)) (lw_S q709 q647 q106 q648) hy_X1_has rfl ⟨Nat.le_of_ble_eq_true rfl, Nat.le_of_ble_eq_true rfl⟩ ⟨Nat.le_of_ble_eq_true rfl, Nat.le_of_ble_eq_true rfl⟩ rfl (Nat.le_of_ble_eq_true rfl) dX1_at_18 (fun r u hp => ?_)
          obtain rfl := hp
          refine g_if_ne_b (tgt := 27) dX1_at_21 (by decide) (fun c21 => ?_) (fun c21 => ?_)
          · skip
            refine g_iload_n 3 dX1_at_27 rfl rfl ?_
            refine g_if_ne (tgt := 34) dX1_at_28 (by decide) (fun c28 => ?_) (fun c28 => ?_)
            · skip
              refine g_iinc (L' := [(0, _), (1, _), (2, _), (3, _), (4, _)]) dX1_at_34 rfl rfl (by decide) rfl rfl ?_
              refine g_iinc_n (b := 1) (L' := [(0, _), (1, _), (2, _), (3, _), (4, _)]) dX1_at_37 rfl rfl (by decide) rfl rfl ?_
              refine g_goto (tgt := 5) dX1_at_40 (by decide) ?_
              rw [at_next c21]
              exact ih5 (w + 1) (by omega) (by omega) (at_step hi hP c8 c28)
            · skip
              refine g_iload dX1_at_31 rfl ?_
              exact g_iret () dX1_at_33 (Nat.le_refl _) (Nat.le_refl _) (Or.inl ⟨w, c8, at_hit c21 c28, hi, rfl⟩) (fun _ h => h)
          · skip
            refine g_goto (tgt := 37) dX1_at_24 (by decide) ?_
            refine g_iinc_n (b := 1) (L' := [(0, _), (1, _), (2, _), (3, _), (4, _)]) dX1_at_37 rfl rfl (by decide) rfl rfl ?_
            refine g_goto (tgt := 5) dX1_at_40 (by decide) ?_
            rw [at_same c21]
            exact ih5 (w + 1) (by omega) (by omega) (at_skip hi c21)
  exact loop5 (P + 1) 0 (by omega) (by omega) (fun v hv => absurd hv (Nat.not_lt_zero _))
set_option maxHeartbeats 4000000 in
/-- all elements -/
theorem ctJ14_fill {ws ws2 : va_W} {q0 a N : Nat} {cA : ClassId} {f : Nat → Int64} (v0 : Int64) (t0 : Nat) (ht : (tyX Y)[t0]? = some (cA, .long)) (hN : N < 2 ^ 31) (he : ws[q0]? = some (a, .inl (cA, N, .inr (.inl f)))) (hw : ws.set q0 (a, .inl (cA, N, .inr (.inl (fun j => if j < N then v0 else f j)))) = ws2) : CT l D clX (tyX Y) yJ14_fill cJ14_fill 5 none ({ frames := 0, cells := 0, slots := 0, locals := 0 } : Room) [.ref a, .long v0] (HW D clX A ws) (Qv (fun (u : Unit) => True) (fun (u : Unit) => HW D clX A ws2) A) A := by
  have hlt : q0 < ws.length := (List.getElem?_eq_some_iff.mp he).1
  have hwe : ∀ u : Nat → Int64, (ws.set q0 (a, .inl (cA, N, .inr (.inl u))))[q0]? = some (a, .inl (cA, N, .inr (.inl u))) := fun u => List.getElem?_set_self hlt
  have hws : ∀ (u : Nat → Int64) (w : Nat), vp_updL (fun j => if j < w then v0 else f j) w v0 = (fun j => if j < (w + 1) then v0 else f j) := fun u w => by
    funext j
    show (if j = w then v0 else (if j < w then v0 else f j)) = (if j < w + 1 then v0 else f j)
    by_cases h1 : j = w
    · rw [if_pos h1, if_pos (by omega)]
    · rw [if_neg h1]
      by_cases h2 : j < w
      · rw [if_pos h2, if_pos (by omega)]
      · rw [if_neg h2, if_neg (by omega)]
  refine CT.of (L := [(0, .ref a), (1, .long v0)]) rfl (by decide +kernel) rfl (Nat.le_of_ble_eq_true rfl) ?_
  refine g_iconst (v := nI 0) dJ14_fill_0 (by decide +kernel) ?_
  refine g_istore_n (L' := [(0, _), (1, _), (3, _)]) 3 dJ14_fill_1 rfl (by decide) rfl rfl ?_
  refine g_aload_n 0 dJ14_fill_2 rfl rfl ?_
  refine g_alen (cA := cA) t0 ht dJ14_fill_3 (hw_ix he) ?_
  refine g_istore (L' := [(0, _), (1, _), (3, _), (4, _)]) dJ14_fill_4 (by decide) rfl rfl ?_
  have loop6 : ∀ (q6 : Nat) (w : Nat), N - w < q6 → (w ≤ N) → GG l D clX (tyX Y) cJ14_fill 5 none RJ14 ({ frames := 0, cells := 0, slots := 0, locals := 0 } : Room) A MT (QM (Qv (fun (u : Unit) => True) (fun (u : Unit) => HW D clX A ws2) A) 0 0 A) (HW D clX A (ws.set q0 (a, .inl (cA, N, .inr (.inl (fun j => if j < w then v0 else f j)))))) 0 0 6 [(0, .ref a), (1, .long v0), (3, .int (nI w)), (4, .int (nI N))] [] := by
    intro q6
    induction q6 with
    | zero => intro w hq6; exact absurd hq6 (Nat.not_lt_zero _)
    | succ q6 ih6 =>
      intro w hq6 hw9
      refine g_iload_n 3 dJ14_fill_6 rfl rfl ?_
      refine g_iload dJ14_fill_7 rfl ?_
      refine g_icmp_ge_n (tgt := 22) dJ14_fill_9 (by decide) (by omega) (by omega) (fun c9 => ?_) (fun c9 => ?_)
      · skip
        exact g_vret () dJ14_fill_22 (Nat.le_refl _) (Nat.le_refl _) trivial (fun H h => by have e9 : w = N := (by omega); rw [← hw]; rw [e9] at h; exact h)
      · skip
        refine g_aload_n 0 dJ14_fill_12 rfl rfl ?_
        refine g_iload_n 3 dJ14_fill_13 rfl rfl ?_
        refine g_lload_n 1 dJ14_fill_14 rfl rfl ?_
        refine w_stl (cA := cA) t0 ht (by omega) hN q0 (hwe _) (by rw [List.set_set, hws f w]) dJ14_fill_15 ?_
        refine g_iinc_n (b := 1) (L' := [(0, _), (1, _), (3, _), (4, _)]) dJ14_fill_16 rfl rfl (by decide) rfl rfl ?_
        refine g_goto (tgt := 6) dJ14_fill_19 (by decide) ?_
        exact ih6 (w + 1) (by omega) (by omega)
  refine GG.mono (HP' := HW D clX A (ws.set q0 (a, .inl (cA, N, .inr (.inl (fun j => if j < 0 then v0 else f j)))))) ?_ (fun H h => (show HW D clX A (ws.set q0 (a, .inl (cA, N, .inr (.inl (fun j => if j < 0 then v0 else f j))))) H from by rw [show (fun j => if j < 0 then v0 else f j) = f from funext (fun j => if_neg (Nat.not_lt_zero _)), List.set_getElem?_self9 he]; exact h))
  exact loop6 (N + 1) 0 (by omega) (by omega)
set_option maxHeartbeats 4000000 in
/-- all elements -/
theorem ctJ14_fill_2 {ws ws2 : va_W} {q0 a N : Nat} {cA : ClassId} {f : Nat → Int32} (v0 : Int32) (t0 : Nat) (ht : (tyX Y)[t0]? = some (cA, .int)) (hN : N < 2 ^ 31) (he : ws[q0]? = some (a, .inl (cA, N, .inl f))) (hw : ws.set q0 (a, .inl (cA, N, .inl (fun j => if j < N then v0 else f j))) = ws2) : CT l D clX (tyX Y) yJ14_fill_2 cJ14_fill_2 4 none ({ frames := 0, cells := 0, slots := 0, locals := 0 } : Room) [.ref a, .int v0] (HW D clX A ws) (Qv (fun (u : Unit) => True) (fun (u : Unit) => HW D clX A ws2) A) A := by
  have hlt : q0 < ws.length := (List.getElem?_eq_some_iff.mp he).1
  have hwe : ∀ u : Nat → Int32, (ws.set q0 (a, .inl (cA, N, .inl u)))[q0]? = some (a, .inl (cA, N, .inl u)) := fun u => List.getElem?_set_self hlt
  have hws : ∀ (u : Nat → Int32) (w : Nat), upd (fun j => if j < w then v0 else f j) w v0 = (fun j => if j < (w + 1) then v0 else f j) := fun u w => by
    funext j
    show (if j = w then v0 else (if j < w then v0 else f j)) = (if j < w + 1 then v0 else f j)
    by_cases h1 : j = w
    · rw [if_pos h1, if_pos (by omega)]
    · rw [if_neg h1]
      by_cases h2 : j < w
      · rw [if_pos h2, if_pos (by omega)]
      · rw [if_neg h2, if_neg (by omega)]
  refine CT.of (L := [(0, .ref a), (1, .int v0)]) rfl (by decide +kernel) rfl (Nat.le_of_ble_eq_true rfl) ?_
  refine g_iconst (v := nI 0) dJ14_fill_2_0 (by decide +kernel) ?_
  refine g_istore_n (L' := [(0, _), (1, _), (2, _)]) 2 dJ14_fill_2_1 rfl (by decide) rfl rfl ?_
  refine g_aload_n 0 dJ14_fill_2_2 rfl rfl ?_
  refine g_alen (cA := cA) t0 ht dJ14_fill_2_3 (hw_ix he) ?_
  refine g_istore_n (L' := [(0, _), (1, _), (2, _), (3, _)]) 3 dJ14_fill_2_4 rfl (by decide) rfl rfl ?_
  have loop5 : ∀ (q5 : Nat) (w : Nat), N - w < q5 → (w ≤ N) → GG l D clX (tyX Y) cJ14_fill_2 4 none RJ14 ({ frames := 0, cells := 0, slots := 0, locals := 0 } : Room) A MT (QM (Qv (fun (u : Unit) => True) (fun (u : Unit) => HW D clX A ws2) A) 0 0 A) (HW D clX A (ws.set q0 (a, .inl (cA, N, .inl (fun j => if j < w then v0 else f j))))) 0 0 5 [(0, .ref a), (1, .int v0), (2, .int (nI w)), (3, .int (nI N))] [] := by
    intro q5
    induction q5 with
    | zero => intro w hq5; exact absurd hq5 (Nat.not_lt_zero _)
    | succ q5 ih5 =>
      intro w hq5 hw9
      refine g_iload_n 2 dJ14_fill_2_5 rfl rfl ?_
      refine g_iload_n 3 dJ14_fill_2_6 rfl rfl ?_
      refine g_icmp_ge_n (tgt := 20) dJ14_fill_2_7 (by decide) (by omega) (by omega) (fun c7 => ?_) (fun c7 => ?_)
      · skip
        exact g_vret () dJ14_fill_2_20 (Nat.le_refl _) (Nat.le_refl _) trivial (fun H h => by have e9 : w = N := (by omega); rw [← hw]; rw [e9] at h; exact h)
      · skip
        refine g_aload_n 0 dJ14_fill_2_10 rfl rfl ?_
        refine g_iload_n 2 dJ14_fill_2_11 rfl rfl ?_
        refine g_iload_n 1 dJ14_fill_2_12 rfl rfl ?_
        refine w_sti (cA := cA) t0 ht (by omega) hN q0 (hwe _) (by rw [List.set_set, hws f w]) dJ14_fill_2_13 ?_
        refine g_iinc_n (b := 1) (L' := [(0, _), (1, _), (2, _), (3, _)]) dJ14_fill_2_14 rfl rfl (by decide) rfl rfl ?_
        refine g_goto (tgt := 5) dJ14_fill_2_17 (by decide) ?_
        exact ih5 (w + 1) (by omega) (by omega)
  refine GG.mono (HP' := HW D clX A (ws.set q0 (a, .inl (cA, N, .inl (fun j => if j < 0 then v0 else f j))))) ?_ (fun H h => (show HW D clX A (ws.set q0 (a, .inl (cA, N, .inl (fun j => if j < 0 then v0 else f j)))) H from by rw [show (fun j => if j < 0 then v0 else f j) = f from funext (fun j => if_neg (Nat.not_lt_zero _)), List.set_getElem?_self9 he]; exact h))
  exact loop5 (N + 1) 0 (by omega) (by omega)
end
