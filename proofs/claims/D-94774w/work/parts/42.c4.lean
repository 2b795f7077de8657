/-! THE COMPONENT, 4: sights; the course's small methods -/
set_option maxRecDepth 100000
theorem up_up {α : Type} (f : Nat → α) (i : Nat) (x y : α) : up (up f i x) i y = up f i y := by
  funext j; unfold up; split <;> rfl
theorem GG.hp {l : Launch} {D : va_G} {cl : List vw_C} {tys : List (ClassId × FieldType)} {cc : ByteArray} {nL : Nat} {rt : Option FieldType} {own : String} {R : Room} {A : Nat → Prop} {MX : Heap → Method → Code → Prop} {QF : List Frame → Array Value → State → State → Prop} {HP HP2 : Heap → Prop} {k n pc : Nat} {L : List (Nat × Value)} {st : List Value} (e : HP = HP2) (K : GG l D cl tys cc nL rt own R A MX QF HP2 k n pc L st) : GG l D cl tys cc nL rt own R A MX QF HP k n pc L st := by rw [e]; exact K
def isRow (f : Nat → Int64) (g : Nat → Bool) : Prop := ∀ w, w < 1856 → lbt f w = g w
/-- row r1 is as g says, all others as before -/
def RT (rows rows2 : Nat → Nat → Int64) (r1 : Nat) (g : Nat → Bool) : Prop := isRow (rows2 r1) g ∧ ∀ r, ¬ r = r1 → rows2 r = rows r
theorem RT_z {rows : Nat → Nat → Int64} {r1 : Nat} {G : Nat → Bool} : RT rows (up rows r1 (fun j => if j < 29 then lN 0 else rows r1 j)) r1 (fun w' => decide (w' < 0) && G w') := by
  refine ⟨fun w hw => ?_, fun r hr => up_n hr⟩
  rw [up_s]
  have e : (fun j => if j < 29 then lN 0 else rows r1 j) (w / 64) = lN 0 := if_pos (by omega)
  unfold lbt
  rw [e]
  show (0#64).getLsbD _ = _
  simp
theorem RT_y {rows rows1 : Nat → Nat → Int64} {r1 w : Nat} {G : Nat → Bool} {u : Nat → Int64} (h : RT rows rows1 r1 (fun w' => decide (w' < w) && G w')) (hp : ∀ w', w' < 1856 → lbt u w' = (lbt (rows1 r1) w' || decide (w' = w))) (hG : G w = true) : RT rows (up rows1 r1 u) r1 (fun w' => decide (w' < w + 1) && G w') := by
  refine ⟨fun w' hw' => ?_, fun r hr => by rw [up_n hr]; exact h.2 r hr⟩
  rw [up_s, hp w' hw', h.1 w' hw']
  by_cases e : w' = w
  · subst e; simp [hG]
  · have : decide (w' < w + 1) = decide (w' < w) := decide_eq_decide.mpr ⟨fun q => by omega, fun q => by omega⟩
    simp [e, this]
theorem RT_n {rows rows1 : Nat → Nat → Int64} {r1 w : Nat} {G : Nat → Bool} (h : RT rows rows1 r1 (fun w' => decide (w' < w) && G w')) (hG : G w = false) : RT rows rows1 r1 (fun w' => decide (w' < w + 1) && G w') := by
  refine ⟨fun w' hw' => ?_, h.2⟩
  rw [h.1 w' hw']
  by_cases e : w' = w
  · subst e; simp [hG]
  · have : decide (w' < w + 1) = decide (w' < w) := decide_eq_decide.mpr ⟨fun q => by omega, fun q => by omega⟩
    simp [this]
/-- the first k longs of row r1 are as G says, all else as before -/
def RK (rows rows1 : Nat → Nat → Int64) (r1 k : Nat) (G : Nat → Bool) : Prop := (∀ w', w' < 1856 → lbt (rows1 r1) w' = if w' < 64 * k then G w' else lbt (rows r1) w') ∧ ∀ r, ¬ r = r1 → rows1 r = rows r
theorem RK_0 {rows : Nat → Nat → Int64} {r1 : Nat} {G : Nat → Bool} : RK rows rows r1 0 G := ⟨fun w' _ => by rw [if_neg (by omega)], fun _ _ => rfl⟩
theorem RK_e {rows rows1 : Nat → Nat → Int64} {r1 : Nat} {G : Nat → Bool} (h : RK rows rows1 r1 29 G) : RT rows rows1 r1 G := ⟨fun w hw => by rw [h.1 w hw, if_pos (by omega)], h.2⟩
theorem lbt_up (f : Nat → Int64) (k : Nat) (x : Int64) (w : Nat) : lbt (up f k x) w = if w / 64 = k then x.toBitVec.getLsbD (w % 64) else lbt f w := by
  unfold lbt up; split <;> rfl
theorem RK_s {rows rows1 : Nat → Nat → Int64} {r1 k : Nat} {G : Nat → Bool} {x : Int64} (h : RK rows rows1 r1 k G) (hx : ∀ i, i < 64 → x.toBitVec.getLsbD i = G (64 * k + i)) : RK rows (up rows1 r1 (up (rows1 r1) k x)) r1 (k + 1) G := by
  refine ⟨fun w' hw' => ?_, fun r hr => by rw [up_n hr]; exact h.2 r hr⟩
  rw [up_s, lbt_up]
  by_cases e : w' / 64 = k
  · rw [if_pos e, if_pos (by omega), hx _ (Nat.mod_lt _ (by decide))]
    congr 1; omega
  · rw [if_neg e, h.1 w' hw']
    by_cases e2 : w' < 64 * k
    · rw [if_pos e2, if_pos (by omega)]
    · rw [if_neg e2, if_neg (by omega)]
theorem RK_l {rows rows1 : Nat → Nat → Int64} {r1 k i : Nat} {G : Nat → Bool} (h : RK rows rows1 r1 k G) (hk : k < 29) (hi : i < 64) : (rows1 r1 k).toBitVec.getLsbD i = lbt (rows r1) (64 * k + i) := by
  have e := h.1 (64 * k + i) (by omega)
  rw [if_neg (by omega)] at e
  rw [← e]
  unfold lbt
  rw [show (64 * k + i) / 64 = k by omega, show (64 * k + i) % 64 = i by omega]
theorem lb_l (f : Nat → Int64) {k i : Nat} (hi : i < 64) : (f k).toBitVec.getLsbD i = lbt f (64 * k + i) := by
  unfold lbt
  rw [show (64 * k + i) / 64 = k by omega, show (64 * k + i) % 64 = i by omega]
theorem bx_and (a b : Int64) (i : Nat) : (a &&& b).toBitVec.getLsbD i = (a.toBitVec.getLsbD i && b.toBitVec.getLsbD i) := BitVec.getLsbD_and
theorem bx_or (a b : Int64) (i : Nat) : (a ||| b).toBitVec.getLsbD i = (a.toBitVec.getLsbD i || b.toBitVec.getLsbD i) := BitVec.getLsbD_or
theorem bx_not (a : Int64) {i : Nat} (hi : i < 64) : (a ^^^ (-1)).toBitVec.getLsbD i = !a.toBitVec.getLsbD i := by
  show (a.toBitVec ^^^ (-1 : Int64).toBitVec).getLsbD i = _
  rw [BitVec.getLsbD_xor, show (-1 : Int64).toBitVec = BitVec.allOnes 64 from by decide +kernel, BitVec.getLsbD_allOnes]
  simp [hi]
/-- the slips of the worlds are small -/
def slOK (nS many : Nat) (slips : Nat → Nat → Nat) : Prop := many ≤ 1830 ∧ ∀ s w, s < nS → w < many → slips s w < 7300
theorem likeN_out {P w : Nat} {sl : Nat → Nat} {f : Nat → Bool} (hw : w < P) : likeN P sl f w = cnt (fun v => decide (¬ v = w) && (decide (sl v = sl w) && f v)) P + (if f w = true then 1 else 0) := by
  unfold likeN
  have key : ∀ n, cnt (fun v => decide (sl v = sl w) && f v) n = cnt (fun v => decide (¬ v = w) && (decide (sl v = sl w) && f v)) n + (if w < n ∧ f w = true then 1 else 0) := by
    intro n
    induction n with
    | zero => simp [cnt]
    | succ n ih =>
      show cnt _ n + _ = cnt _ n + _ + _
      rw [ih]
      by_cases e : n = w
      · subst e
        have h1 : ¬ (n < n ∧ f n = true) := fun q => Nat.lt_irrefl _ q.1
        rw [if_neg h1]
        cases hf : f n <;> simp [hf]
      · by_cases h1 : w < n
        · have h2 : w < n + 1 := by omega
          simp only [h1, h2, true_and]
          cases hf : f w <;> simp [e] <;> omega
        · have h2 : ¬ w < n + 1 := by omega
          simp only [h1, h2, false_and, if_false]
          simp [e]
  rw [key P]
  simp [hw]
theorem knowF_out {P w : Nat} {sl : Nat → Nat} {f : Nat → Bool} (hw : w < P) : knowF P sl f w = decide (cnt (fun v => decide (¬ v = w) && (decide (sl v = sl w) && f v)) P = 0) := by
  unfold knowF
  rw [likeN_out hw]
  exact decide_eq_decide.mpr ⟨fun q => by omega, fun q => by omega⟩

theorem fill0 (f : Nat → Nat) (N : Nat) : (fun j => if j < N then nI 0 else nI (f j)) = fun j => nI (if j < N then 0 else f j) := by
  funext j; split <;> rfl
theorem hys_X17_slip : yX17_slip.name ≠ "<init>" ∧ (parseMethodDescriptor yX17_slip.desc).map (fun d => d.parameters.length) = some 2 := by decide +kernel
theorem hys_X18_slip : yX18_slip.name ≠ "<init>" ∧ (parseMethodDescriptor yX18_slip.desc).map (fun d => d.parameters.length) = some 2 := by decide +kernel
theorem hys_X15_slip : yX15_slip.name ≠ "<init>" ∧ (parseMethodDescriptor yX15_slip.desc).map (fun d => d.parameters.length) = some 2 := by decide +kernel
theorem hy_X2_speaker : yX2_speaker.cls ≠ "java/lang/invoke/MethodHandle" ∧ yX2_speaker.cls ≠ "java/lang/invoke/VarHandle" ∧ (parseMethodDescriptor yX2_speaker.desc).map (fun d => d.parameters.length) = some 1 := by decide +kernel
theorem hy_J14_fill_2 : yJ14_fill_2.cls ≠ "java/lang/invoke/MethodHandle" ∧ yJ14_fill_2.cls ≠ "java/lang/invoke/VarHandle" ∧ (parseMethodDescriptor yJ14_fill_2.desc).map (fun d => d.parameters.length) = some 2 := by decide +kernel
theorem hy_X3_heaps : yX3_heaps.cls ≠ "java/lang/invoke/MethodHandle" ∧ yX3_heaps.cls ≠ "java/lang/invoke/VarHandle" ∧ (parseMethodDescriptor yX3_heaps.desc).map (fun d => d.parameters.length) = some 2 := by decide +kernel
theorem hy_J14_fill : yJ14_fill.cls ≠ "java/lang/invoke/MethodHandle" ∧ yJ14_fill.cls ≠ "java/lang/invoke/VarHandle" ∧ (parseMethodDescriptor yJ14_fill.desc).map (fun d => d.parameters.length) = some 2 := by decide +kernel
theorem hy_X1_puts : yX1_puts.cls ≠ "java/lang/invoke/MethodHandle" ∧ yX1_puts.cls ≠ "java/lang/invoke/VarHandle" ∧ (parseMethodDescriptor yX1_puts.desc).map (fun d => d.parameters.length) = some 2 := by decide +kernel
theorem hy_X3_alone : yX3_alone.cls ≠ "java/lang/invoke/MethodHandle" ∧ yX3_alone.cls ≠ "java/lang/invoke/VarHandle" ∧ (parseMethodDescriptor yX3_alone.desc).map (fun d => d.parameters.length) = some 3 := by decide +kernel
section
variable {l : Launch} {D : va_G} {Y : Nat → ClassId} {A : Nat → Prop}
set_option maxHeartbeats 4000000 in
theorem ctX15_slip {HP : Heap → Prop} {a : Nat} (x y : Nat)  : CT l D clX (tyX Y) yX15_slip cX15_slip 3 (some .int) ({ frames := 0, cells := 0, slots := 0, locals := 0 } : Room) [.ref a, .int (nI x), .int (nI y)] (HP) (Qi (fun (v : Int32) (u : Unit) => v = nI (x + y)) (fun (u : Unit) => HP) A) A := by
  refine CT.of (L := [(0, .ref a), (1, .int (nI x)), (2, .int (nI y))]) rfl (by decide +kernel) rfl (Nat.le_of_ble_eq_true rfl) ?_
  refine g_iload_n 1 dX15_slip_0 rfl rfl ?_
  refine g_iload_n 2 dX15_slip_1 rfl rfl ?_
  refine g_iadd_n dX15_slip_2 ?_
  exact g_iret () dX15_slip_3 (Nat.le_refl _) (Nat.le_refl _) (rfl) (fun _ h => h)
set_option maxHeartbeats 4000000 in
theorem ctX16_slip {HP : Heap → Prop} {a : Nat} (x y : Nat)  : CT l D clX (tyX Y) yX16_slip cX16_slip 3 (some .int) ({ frames := 0, cells := 0, slots := 0, locals := 0 } : Room) [.ref a, .int (nI x), .int (nI y)] (HP) (Qi (fun (v : Int32) (u : Unit) => v = nI (x * y)) (fun (u : Unit) => HP) A) A := by
  refine CT.of (L := [(0, .ref a), (1, .int (nI x)), (2, .int (nI y))]) rfl (by decide +kernel) rfl (Nat.le_of_ble_eq_true rfl) ?_
  refine g_iload_n 1 dX16_slip_0 rfl rfl ?_
  refine g_iload_n 2 dX16_slip_1 rfl rfl ?_
  refine g_imul_n dX16_slip_2 ?_
  exact g_iret () dX16_slip_3 (Nat.le_refl _) (Nat.le_refl _) (rfl) (fun _ h => h)
set_option maxHeartbeats 4000000 in
theorem ctX17_slip {HP : Heap → Prop} {a : Nat} (x y : Nat)  : CT l D clX (tyX Y) yX17_slip cX17_slip 3 (some .int) ({ frames := 0, cells := 0, slots := 0, locals := 0 } : Room) [.ref a, .int (nI x), .int (nI y)] (HP) (Qi (fun (v : Int32) (u : Unit) => v = nI x) (fun (u : Unit) => HP) A) A := by
  refine CT.of (L := [(0, .ref a), (1, .int (nI x)), (2, .int (nI y))]) rfl (by decide +kernel) rfl (Nat.le_of_ble_eq_true rfl) ?_
  refine g_iload_n 1 dX17_slip_0 rfl rfl ?_
  exact g_iret () dX17_slip_1 (Nat.le_refl _) (Nat.le_refl _) (rfl) (fun _ h => h)
set_option maxHeartbeats 4000000 in
theorem ctX18_slip {HP : Heap → Prop} {a : Nat} {C9 : String} {T9 : u_T} {N9 ci9 : Nat} (x y : Nat) (hcl : clX[ci9]? = some (C9, T9, N9)) (hrec : ∀ (s : State) (H : Heap), va_K D clX (tyX Y) s → HP H → ∃ cell : Cell, H[a]? = some cell ∧ cell.vm.isStatics = false ∧ s.vm.findClass C9 = some cell.cls) : CT l D clX (tyX Y) yX18_slip cX18_slip 3 (some .int) ({ frames := 1, cells := 0, slots := 0, locals := 22 } : Room) [.ref a, .int (nI x), .int (nI y)] (HP) (Qi (fun (v : Int32) (u : Unit) => v = nI y) (fun (u : Unit) => HP) A) A := by
  refine CT.of (L := [(0, .ref a), (1, .int (nI x)), (2, .int (nI y))]) rfl (by decide +kernel) rfl (Nat.le_of_ble_eq_true rfl) ?_
  refine g_aload_n 0 dX18_slip_0 rfl rfl ?_
  refine g_iload_n 2 dX18_slip_1 rfl rfl ?_
  refine g_iload_n 1 dX18_slip_2 rfl rfl ?_
  refine h_cPi (ctX17_slip _ _) (lw_P q554 q2419 q555 q556 q135 q557) hcl hys_X17_slip rfl ⟨Nat.le_of_ble_eq_true rfl, Nat.le_of_ble_eq_true rfl⟩ ⟨Nat.le_of_ble_eq_true rfl, Nat.le_of_ble_eq_true rfl⟩ rfl (Nat.le_of_ble_eq_true rfl) dX18_slip_3 hrec (fun r u hp => ?_)
  obtain rfl := hp
  exact g_iret () dX18_slip_6 (Nat.le_refl _) (Nat.le_refl _) (rfl) (fun _ h => h)
set_option maxHeartbeats 4000000 in
theorem ctX19_slip {HP : Heap → Prop} {a : Nat} {C9 : String} {T9 : u_T} {N9 ci9 : Nat} (x y : Nat) (hcl : clX[ci9]? = some (C9, T9, N9)) (hrec : ∀ (s : State) (H : Heap), va_K D clX (tyX Y) s → HP H → ∃ cell : Cell, H[a]? = some cell ∧ cell.vm.isStatics = false ∧ s.vm.findClass C9 = some cell.cls) (hxy : x ≤ y) : CT l D clX (tyX Y) yX19_slip cX19_slip 3 (some .int) ({ frames := 2, cells := 0, slots := 0, locals := 44 } : Room) [.ref a, .int (nI x), .int (nI y)] (HP) (Qi (fun (v : Int32) (u : Unit) => v = nI (y - x)) (fun (u : Unit) => HP) A) A := by
  refine CT.of (L := [(0, .ref a), (1, .int (nI x)), (2, .int (nI y))]) rfl (by decide +kernel) rfl (Nat.le_of_ble_eq_true rfl) ?_
  refine g_aload_n 0 dX19_slip_0 rfl rfl ?_
  refine g_iload_n 1 dX19_slip_1 rfl rfl ?_
  refine g_iload_n 2 dX19_slip_2 rfl rfl ?_
  refine h_cPi (ctX18_slip _ _ hcl hrec) (lw_P q550 q2418 q551 q552 q136 q553) hcl hys_X18_slip rfl ⟨Nat.le_of_ble_eq_true rfl, Nat.le_of_ble_eq_true rfl⟩ ⟨Nat.le_of_ble_eq_true rfl, Nat.le_of_ble_eq_true rfl⟩ rfl (Nat.le_of_ble_eq_true rfl) dX19_slip_3 hrec (fun r u hp => ?_)
  obtain rfl := hp
  refine g_iload_n 1 dX19_slip_6 rfl rfl ?_
  refine g_isub_n dX19_slip_7 hxy ?_
  exact g_iret () dX19_slip_8 (Nat.le_refl _) (Nat.le_refl _) (rfl) (fun _ h => h)
set_option maxHeartbeats 4000000 in
theorem ctX20_slip {HP : Heap → Prop} {a : Nat} (x y : Nat)  : CT l D clX (tyX Y) yX20_slip cX20_slip 3 (some .int) ({ frames := 0, cells := 0, slots := 0, locals := 0 } : Room) [.ref a, .int (nI x), .int (nI y)] (HP) (Qi (fun (v : Int32) (u : Unit) => v = nI (x * x + y * y)) (fun (u : Unit) => HP) A) A := by
  refine CT.of (L := [(0, .ref a), (1, .int (nI x)), (2, .int (nI y))]) rfl (by decide +kernel) rfl (Nat.le_of_ble_eq_true rfl) ?_
  refine g_iload_n 1 dX20_slip_0 rfl rfl ?_
  refine g_iload_n 1 dX20_slip_1 rfl rfl ?_
  refine g_imul_n dX20_slip_2 ?_
  refine g_iload_n 2 dX20_slip_3 rfl rfl ?_
  refine g_iload_n 2 dX20_slip_4 rfl rfl ?_
  refine g_imul_n dX20_slip_5 ?_
  refine g_iadd_n dX20_slip_6 ?_
  exact g_iret () dX20_slip_7 (Nat.le_refl _) (Nat.le_refl _) (rfl) (fun _ h => h)
set_option maxHeartbeats 4000000 in
theorem ctX21_slip {HP : Heap → Prop} {a : Nat} {C9 : String} {T9 : u_T} {N9 ci9 : Nat} (x y m : Nat) (hcl : clX[ci9]? = some (C9, T9, N9)) (hrec : ∀ (s : State) (H : Heap), va_K D clX (tyX Y) s → HP H → ∃ cell : Cell, H[a]? = some cell ∧ cell.vm.isStatics = false ∧ s.vm.findClass C9 = some cell.cls) (hc : ∀ H, HP H → va_P D clX [(a, .inr (21, [.int (nI m)]))] H) (hm : 0 < m) (hm2 : m < 2 ^ 31) (hxy : x + y < 2 ^ 31) : CT l D clX (tyX Y) yX21_slip cX21_slip 3 (some .int) ({ frames := 1, cells := 0, slots := 0, locals := 22 } : Room) [.ref a, .int (nI x), .int (nI y)] (HP) (Qi (fun (v : Int32) (u : Unit) => v = nI ((x + y) % m)) (fun (u : Unit) => HP) A) A := by
  refine CT.of (L := [(0, .ref a), (1, .int (nI x)), (2, .int (nI y))]) rfl (by decide +kernel) rfl (Nat.le_of_ble_eq_true rfl) ?_
  refine g_aload_n 0 dX21_slip_0 rfl rfl ?_
  refine g_iload_n 1 dX21_slip_1 rfl rfl ?_
  refine g_iload_n 2 dX21_slip_2 rfl rfl ?_
  refine h_cPi (ctX15_slip _ _) (lw_P q566 q2420 q567 q568 q133 q569) hcl hys_X15_slip rfl ⟨Nat.le_of_ble_eq_true rfl, Nat.le_of_ble_eq_true rfl⟩ ⟨Nat.le_of_ble_eq_true rfl, Nat.le_of_ble_eq_true rfl⟩ rfl (Nat.le_of_ble_eq_true rfl) dX21_slip_3 hrec (fun r u hp => ?_)
  obtain rfl := hp
  refine g_aload_n 0 dX21_slip_6 rfl rfl ?_
  refine g_getf (C := RX21) (T := TX21) (N := 1) 0 in_X21 rfl (by decide) q1102 rfl dX21_slip_7 (hc) rfl ?_
  refine g_irem_n dX21_slip_10 (by omega) (by omega) (by omega) ?_
  exact g_iret () dX21_slip_11 (Nat.le_refl _) (Nat.le_refl _) (rfl) (fun _ h => h)
set_option maxHeartbeats 4000000 in
/-- a row to work in -/
theorem ctX3_taken {ca ra : Nat → Nat} {b : Nat} {tk : Option Nat} {many used : Nat} {liar : Int32} {xs ys heaps : Nat → Nat} {slips : Nat → Nat → Nat} {rows : Nat → Nat → Int64} {W : va_W}  (hu : used < 48) : CT l D clX (tyX Y) yX3_taken cX3_taken 1 (Option.some (Jvm.ClassFile.FieldType.array Jvm.ClassFile.FieldType.long)) ({ frames := 0, cells := 0, slots := 0, locals := 0 } : Room) [.ref (ca 0)] (HW D clX A (CoL Y ca ra b tk many used liar xs ys heaps slips rows W)) (Qo (fun (u : Unit) => True) (fun (u : Unit) => HW D clX A (CoL Y ca ra b tk many (used + 1) liar xs ys heaps slips rows W)) (fun (u : Unit) => ra (b + 21 + used)) A) A := by
  refine CT.of (L := [(0, .ref (ca 0))]) rfl (by decide +kernel) rfl (Nat.le_of_ble_eq_true rfl) ?_
  refine g_aload_n 0 dX3_taken_0 rfl rfl ?_
  refine g_dup dX3_taken_1 rfl ?_
  refine co_get_used q277 dX3_taken_2 ?_
  refine g_iconst (v := nI 1) dX3_taken_5 (by decide +kernel) ?_
  refine g_iadd_n dX3_taken_6 ?_
  refine co_put_used q277 dX3_taken_7 ?_
  refine g_aload_n 0 dX3_taken_10 rfl rfl ?_
  refine co_get_pool q271 dX3_taken_11 ?_
  refine g_aload_n 0 dX3_taken_14 rfl rfl ?_
  refine co_get_used q277 dX3_taken_15 ?_
  refine g_iconst (v := nI 1) dX3_taken_18 (by decide +kernel) ?_
  refine g_isub_n dX3_taken_19 (by omega) ?_
  refine co_ld_pool (by omega) dX3_taken_20 ?_
  exact g_areto () dX3_taken_21 (Or.inr ⟨_, rfl⟩) (Nat.le_refl _) (Nat.le_refl _) (trivial) (by rw [Nat.add_sub_cancel]) (fun _ h => h)
set_option maxHeartbeats 4000000 in
/-- given back -/
theorem ctX3_given {ca ra : Nat → Nat} {b : Nat} {tk : Option Nat} {many used : Nat} {liar : Int32} {xs ys heaps : Nat → Nat} {slips : Nat → Nat → Nat} {rows : Nat → Nat → Int64} {W : va_W}  (hu : 0 < used) : CT l D clX (tyX Y) yX3_given cX3_given 1 none ({ frames := 0, cells := 0, slots := 0, locals := 0 } : Room) [.ref (ca 0)] (HW D clX A (CoL Y ca ra b tk many used liar xs ys heaps slips rows W)) (Qv (fun (u : Unit) => True) (fun (u : Unit) => HW D clX A (CoL Y ca ra b tk many (used - 1) liar xs ys heaps slips rows W)) A) A := by
  refine CT.of (L := [(0, .ref (ca 0))]) rfl (by decide +kernel) rfl (Nat.le_of_ble_eq_true rfl) ?_
  refine g_aload_n 0 dX3_given_0 rfl rfl ?_
  refine g_dup dX3_given_1 rfl ?_
  refine co_get_used q277 dX3_given_2 ?_
  refine g_iconst (v := nI 1) dX3_given_5 (by decide +kernel) ?_
  refine g_isub_n dX3_given_6 (by omega) ?_
  refine co_put_used q277 dX3_given_7 ?_
  exact g_vret () dX3_given_10 (Nat.le_refl _) (Nat.le_refl _) (trivial) (fun _ h => h)
set_option maxHeartbeats 4000000 in
/-- behind how many turns one hears -/
theorem ctX3_heard {ca ra : Nat → Nat} {b : Nat} {many used : Nat} {liar : Int32} {xs ys heaps : Nat → Nat} {slips : Nat → Nat → Nat} {rows : Nat → Nat → Int64} {W : va_W} {T : Talk} {ta : Nat → Nat} (s0 t0 : Nat) (hT : TalkL Y T ta W) (hs : s0 < tNS T) : CT l D clX (tyX Y) yX3_heard cX3_heard 3 (some .int) ({ frames := 4, cells := 0, slots := 0, locals := 85 } : Room) [.ref (ca 0), .int (nI s0), .int (nI t0)] (HW D clX A (CoL Y ca ra b (some (ta 0)) many used liar xs ys heaps slips rows W)) (Qi (fun (v : Int32) (u : Unit) => v = nI (tHear T s0 t0)) (fun (u : Unit) => HW D clX A (CoL Y ca ra b (some (ta 0)) many used liar xs ys heaps slips rows W)) A) A := by
  refine CT.of (L := [(0, .ref (ca 0)), (1, .int (nI s0)), (2, .int (nI t0))]) rfl (by decide +kernel) rfl (Nat.le_of_ble_eq_true rfl) ?_
  refine g_aload_n 0 dX3_heard_0 rfl rfl ?_
  refine co_get_talk q272 dX3_heard_1 ?_
  refine g_iload_n 1 dX3_heard_4 rfl rfl ?_
  refine h_cVo (ctX2_speaker s0 hT co_has hs) (lw_V q525 q526 q527 q107 q528) ⟨rfl, hy_X2_speaker⟩ rfl ⟨Nat.le_of_ble_eq_true rfl, Nat.le_of_ble_eq_true rfl⟩ ⟨Nat.le_of_ble_eq_true rfl, Nat.le_of_ble_eq_true rfl⟩ rfl (Nat.le_of_ble_eq_true rfl) dX3_heard_5 (fun s H hK hP => va_recv hK (co_has _ hT.1 H hP) (ci := 2) rfl (q0 := 0) rfl) (fun u hp => ?_)
  refine g_getfN (C := RX13) (T := TX13) (N := 4) 3 in_X13 rfl (by decide) q1112 rfl dX3_heard_8 (co_has _ (hT.2.2.2.1 s0 hs).1) rfl ?_
  refine g_if_eq_b (tgt := 18) dX3_heard_11 (by decide) (fun c11 => ?_) (fun c11 => ?_)
  · skip
    refine g_iload_n 2 dX3_heard_18 rfl rfl ?_
    exact g_iret () dX3_heard_19 (Nat.le_refl _) (Nat.le_refl _) (by unfold tHear; rw [c11]; rfl) (fun _ h => h)
  · skip
    refine g_iconst (v := nI 0) dX3_heard_14 (by decide +kernel) ?_
    refine g_goto (tgt := 19) dX3_heard_15 (by decide) ?_
    exact g_iret () dX3_heard_19 (Nat.le_refl _) (Nat.le_refl _) (by unfold tHear; rw [c11]; rfl) (fun _ h => h)
set_option maxHeartbeats 4000000 in
/-- who lies -/
theorem ctX3_isLiar {ca ra : Nat → Nat} {b : Nat} {many used : Nat} {liar : Int32} {xs ys heaps : Nat → Nat} {slips : Nat → Nat → Nat} {rows : Nat → Nat → Int64} {W : va_W} {T : Talk} {ta : Nat → Nat} (s0 : Nat) (hT : TalkL Y T ta W) (hs : s0 < tNS T) (hs6 : tNS T ≤ 6) (hl9 : liar = -1 ∨ ∃ i, i < 6 ∧ liar = nI i) : CT l D clX (tyX Y) yX3_isLiar cX3_isLiar 2 (some .boolean) ({ frames := 4, cells := 0, slots := 0, locals := 85 } : Room) [.ref (ca 0), .int (nI s0)] (HW D clX A (CoL Y ca ra b (some (ta 0)) many used liar xs ys heaps slips rows W)) (Qi (fun (v : Int32) (u : Unit) => v = bI (if liar = -1 then tLiar T s0 else decide (liar = nI s0))) (fun (u : Unit) => HW D clX A (CoL Y ca ra b (some (ta 0)) many used liar xs ys heaps slips rows W)) A) A := by
  refine CT.of (L := [(0, .ref (ca 0)), (1, .int (nI s0))]) rfl (by decide +kernel) rfl (Nat.le_of_ble_eq_true rfl) ?_
  refine g_aload_n 0 dX3_isLiar_0 rfl rfl ?_
  refine co_get_liar q278 dX3_isLiar_1 ?_
  refine g_iconst (v := -1) dX3_isLiar_4 (by decide +kernel) ?_
  refine g_icmp_ne (tgt := 22) dX3_isLiar_5 (by decide) (fun c5 => ?_) (fun c5 => ?_)
  · skip
    refine g_aload_n 0 dX3_isLiar_22 rfl rfl ?_
    refine co_get_liar q278 dX3_isLiar_23 ?_
    refine g_iload_n 1 dX3_isLiar_26 rfl rfl ?_
    refine g_icmp_ne (tgt := 34) dX3_isLiar_27 (by decide) (fun c27 => ?_) (fun c27 => ?_)
    · skip
      refine g_iconst (v := nI 0) dX3_isLiar_34 (by decide +kernel) ?_
      exact g_zret (b := false) () dX3_isLiar_35 (Nat.le_refl _) (Nat.le_refl _) (by rw [if_neg c5, decide_eq_false c27]) (fun _ h => h)
    · skip
      refine g_iconst (v := nI 1) dX3_isLiar_30 (by decide +kernel) ?_
      refine g_goto (tgt := 35) dX3_isLiar_31 (by decide) ?_
      exact g_zret (b := true) () dX3_isLiar_35 (Nat.le_refl _) (Nat.le_refl _) (by rw [if_neg c5, decide_eq_true c27]) (fun _ h => h)
  · skip
    refine g_aload_n 0 dX3_isLiar_8 rfl rfl ?_
    refine co_get_talk q272 dX3_isLiar_9 ?_
    refine g_iload_n 1 dX3_isLiar_12 rfl rfl ?_
    refine h_cVo (ctX2_speaker s0 hT co_has hs) (lw_V q525 q526 q527 q107 q528) ⟨rfl, hy_X2_speaker⟩ rfl ⟨Nat.le_of_ble_eq_true rfl, Nat.le_of_ble_eq_true rfl⟩ ⟨Nat.le_of_ble_eq_true rfl, Nat.le_of_ble_eq_true rfl⟩ rfl (Nat.le_of_ble_eq_true rfl) dX3_isLiar_13 (fun s H hK hP => va_recv hK (co_has _ hT.1 H hP) (ci := 2) rfl (q0 := 0) rfl) (fun u hp => ?_)
    refine g_getfN (C := RX13) (T := TX13) (N := 4) 2 in_X13 rfl (by decide) q1109 rfl dX3_isLiar_16 (co_has _ (hT.2.2.2.1 s0 hs).1) rfl ?_
    refine g_goto (tgt := 35) dX3_isLiar_19 (by decide) ?_
    exact g_zret (b := (tLiar T s0)) () dX3_isLiar_35 (Nat.le_refl _) (Nat.le_refl _) (by rw [if_pos c5]) (fun _ h => h)
set_option maxHeartbeats 4000000 in
/-- heaps of worlds that are alike -/
theorem ctX3_heaps {ca ra : Nat → Nat} {b : Nat} {tk : Option Nat} {many used : Nat} {liar : Int32} {xs ys heaps : Nat → Nat} {slips : Nat → Nat → Nat} {rows : Nat → Nat → Int64} {W : va_W} (s0 r0 nS : Nat) (hO : slOK nS many slips) (hs : s0 < nS) (hn : nS ≤ 6) (hr : r0 < 156) : CT l D clX (tyX Y) yX3_heaps cX3_heaps 4 none ({ frames := 1, cells := 0, slots := 0, locals := 23 } : Room) [.ref (ca 0), .int (nI s0), .ref (ra r0)] (HW D clX A (CoL Y ca ra b tk many used liar xs ys heaps slips rows W)) (Qv (fun (u : Nat → Nat) => heapsAt u many many (slips s0) (lbt (rows r0))) (fun (u : Nat → Nat) => HW D clX A (CoL Y ca ra b tk many used liar xs ys u slips rows W)) A) A := by
  have hP : many ≤ 1830 := hO.1
  refine CT.of (L := [(0, .ref (ca 0)), (1, .int (nI s0)), (2, .ref (ra r0))]) rfl (by decide +kernel) rfl (Nat.le_of_ble_eq_true rfl) ?_
  refine g_aload_n 0 dX3_heaps_0 rfl rfl ?_
  refine co_get_heaps q259 dX3_heaps_1 ?_
  refine g_iconst (v := nI 0) dX3_heaps_4 (by decide +kernel) ?_
  refine h_cSv (ctJ14_fill_2 (N := 7300) (f := fun j => nI (heaps j)) (nI 0) 0 rfl (by decide) (q0 := 3) (a := ca 3) rfl (ws2 := CoL Y ca ra b tk many used liar xs ys (fun j => if j < 7300 then 0 else heaps j) slips rows W) (by rw [fill0]; rfl)) (lw_S q643 q644 q141 q645) hy_J14_fill_2 rfl ⟨Nat.le_of_ble_eq_true rfl, Nat.le_of_ble_eq_true rfl⟩ ⟨Nat.le_of_ble_eq_true rfl, Nat.le_of_ble_eq_true rfl⟩ rfl (Nat.le_of_ble_eq_true rfl) dX3_heaps_5 (fun uF hF => ?_)
  refine g_iconst (v := nI 0) dX3_heaps_8 (by decide +kernel) ?_
  refine g_istore_n (L' := [(0, _), (1, _), (2, _), (3, _)]) 3 dX3_heaps_9 rfl (by decide) rfl rfl ?_
  have loop10 : ∀ (q10 : Nat) (w : Nat) (heaps1 : Nat → Nat), many - w < q10 → (w ≤ many) → (heapsAt heaps1 many w (slips s0) (lbt (rows r0))) → GG l D clX (tyX Y) cX3_heaps 4 none RX3 ({ frames := 1, cells := 0, slots := 0, locals := 23 } : Room) A MT (QM (Qv (fun (u : Nat → Nat) => heapsAt u many many (slips s0) (lbt (rows r0))) (fun (u : Nat → Nat) => HW D clX A (CoL Y ca ra b tk many used liar xs ys u slips rows W)) A) 0 0 A) (HW D clX A (CoL Y ca ra b tk many used liar xs ys heaps1 slips rows W)) 0 0 10 [(0, .ref (ca 0)), (1, .int (nI s0)), (2, .ref (ra r0)), (3, .int (nI w))] [] := by
    intro q10
    induction q10 with
    | zero => intro w heaps1 hq10; exact absurd hq10 (Nat.not_lt_zero _)
    | succ q10 ih10 =>
      intro w heaps1 hq10 hw hi
      refine g_iload_n 3 dX3_heaps_10 rfl rfl ?_
      refine g_aload_n 0 dX3_heaps_11 rfl rfl ?_
      refine co_get_many q275 dX3_heaps_12 ?_
      refine g_icmp_ge_n (tgt := 49) dX3_heaps_15 (by decide) (by omega) (by omega) (fun c15 => ?_) (fun c15 => ?_)
      · skip
        exact g_vret heaps1 dX3_heaps_49 (Nat.le_refl _) (Nat.le_refl _) (by have e9 : w = many := (by omega); rw [e9] at hi; exact hi) (fun _ h => h)
      · skip
        refine g_aload_n 2 dX3_heaps_18 rfl rfl ?_
        refine g_iload_n 3 dX3_heaps_19 rfl rfl ?_
        refine h_cMi (ctX1_has w (f := rows (r0)) (hw_ix (CoL_row (r := r0) (by omega))) (by omega)) q648 q646 q106 q647 hy_X1_has rfl ⟨Nat.le_of_ble_eq_true rfl, Nat.le_of_ble_eq_true rfl⟩ ⟨Nat.le_of_ble_eq_true rfl, Nat.le_of_ble_eq_true rfl⟩ rfl (Nat.le_of_ble_eq_true rfl) dX3_heaps_20 (fun r u hp => ?_)
        obtain rfl := hp
        refine g_if_eq_b (tgt := 43) dX3_heaps_23 (by decide) (fun c23 => ?_) (fun c23 => ?_)
        · skip
          refine g_iinc_n (b := 1) (L' := [(0, _), (1, _), (2, _), (3, _)]) dX3_heaps_43 rfl rfl (by decide) rfl rfl ?_
          refine g_goto (tgt := 10) dX3_heaps_46 (by decide) ?_
          first
            | exact ih10 (w + 1) _ (by omega) (by omega) (heapsAt_up hi c15 c23)
            | exact ih10 (w + 1) _ (by omega) (by omega) (heapsAt_skip hi c23)
        · skip
          refine g_aload_n 0 dX3_heaps_26 rfl rfl ?_
          refine co_get_heaps q259 dX3_heaps_27 ?_
          refine g_aload_n 0 dX3_heaps_30 rfl rfl ?_
          refine co_get_slips q261 dX3_heaps_31 ?_
          refine g_iload_n 1 dX3_heaps_34 rfl rfl ?_
          refine co_ld_slips (by omega) dX3_heaps_35 ?_
          refine g_iload_n 3 dX3_heaps_36 rfl rfl ?_
          refine co_ld_slip (by omega) (by omega) dX3_heaps_37 ?_
          refine g_dup2_11 dX3_heaps_38 rfl rfl ?_
          refine co_ld_heaps (hO.2 _ _ hs c15) dX3_heaps_39 ?_
          refine g_iconst (v := nI 1) dX3_heaps_40 (by decide +kernel) ?_
          refine g_iadd_n dX3_heaps_41 ?_
          refine co_st_heaps (hO.2 _ _ hs c15) dX3_heaps_42 ?_
          refine g_iinc_n (b := 1) (L' := [(0, _), (1, _), (2, _), (3, _)]) dX3_heaps_43 rfl rfl (by decide) rfl rfl ?_
          refine g_goto (tgt := 10) dX3_heaps_46 (by decide) ?_
          first
            | exact ih10 (w + 1) _ (by omega) (by omega) (heapsAt_up hi c15 c23)
            | exact ih10 (w + 1) _ (by omega) (by omega) (heapsAt_skip hi c23)
  exact loop10 (many + 1) 0 _ (by omega) (by omega) (fun v hv => by rw [likeN_0]; exact if_pos (hO.2 _ _ hs hv))
set_option maxHeartbeats 4000000 in
/-- where one is alone -/
theorem ctX3_alone {ca ra : Nat → Nat} {b : Nat} {tk : Option Nat} {many used : Nat} {liar : Int32} {xs ys heaps : Nat → Nat} {slips : Nat → Nat → Nat} {rows : Nat → Nat → Int64} {W : va_W} (s0 r0 r1 nS : Nat) (hO : slOK nS many slips) (hs : s0 < nS) (hn : nS ≤ 6) (hr : r0 < 156) (hr1 : r1 < 156) (hne : ¬ r0 = r1) : CT l D clX (tyX Y) yX3_alone cX3_alone 5 none ({ frames := 2, cells := 0, slots := 0, locals := 46 } : Room) [.ref (ca 0), .int (nI s0), .ref (ra r0), .ref (ra r1)] (HW D clX A (CoL Y ca ra b tk many used liar xs ys heaps slips rows W)) (Qv (fun (u : (Nat → Nat) × (Nat → Nat → Int64)) => RT rows u.2 r1 (fun w => decide (w < many) && (knowF many (slips s0) (lbt (rows r0))) w)) (fun (u : (Nat → Nat) × (Nat → Nat → Int64)) => HW D clX A (CoL Y ca ra b tk many used liar xs ys u.1 slips u.2 W)) A) A := by
  have hP : many ≤ 1830 := hO.1
  refine CT.of (L := [(0, .ref (ca 0)), (1, .int (nI s0)), (2, .ref (ra r0)), (3, .ref (ra r1))]) rfl (by decide +kernel) rfl (Nat.le_of_ble_eq_true rfl) ?_
  refine g_aload_n 0 dX3_alone_0 rfl rfl ?_
  refine g_iload_n 1 dX3_alone_1 rfl rfl ?_
  refine g_aload_n 2 dX3_alone_2 rfl rfl ?_
  refine h_cVv (ctX3_heaps s0 r0 nS hO hs hn (by omega)) (lw_V q639 q641 qs3 q111 q642) ⟨rfl, hy_X3_heaps⟩ rfl ⟨Nat.le_of_ble_eq_true rfl, Nat.le_of_ble_eq_true rfl⟩ ⟨Nat.le_of_ble_eq_true rfl, Nat.le_of_ble_eq_true rfl⟩ rfl (Nat.le_of_ble_eq_true rfl) dX3_alone_3 co_rec (fun heaps1 hh => ?_)
  refine g_aload_n 3 dX3_alone_6 rfl rfl ?_
  refine g_lconst (v := lN 0) dX3_alone_7 (by decide +kernel) ?_
  refine h_cSv (ctJ14_fill (lN 0) 1 rfl (by decide) (CoL_row (r := r1) (by omega)) (CoL_setrow (r := r1) (by omega) _)) (lw_S q518 q519 q141 q520) hy_J14_fill rfl ⟨Nat.le_of_ble_eq_true rfl, Nat.le_of_ble_eq_true rfl⟩ ⟨Nat.le_of_ble_eq_true rfl, Nat.le_of_ble_eq_true rfl⟩ rfl (Nat.le_of_ble_eq_true rfl) dX3_alone_8 (fun uF hF => ?_)
  refine g_iconst (v := nI 0) dX3_alone_11 (by decide +kernel) ?_
  refine g_istore (L' := [(0, _), (1, _), (2, _), (3, _), (4, _)]) dX3_alone_12 (by decide) rfl rfl ?_
  have loop14 : ∀ (q14 : Nat) (w : Nat) (rows1 : Nat → Nat → Int64), many - w < q14 → (w ≤ many) → (RT rows rows1 r1 (fun w' => decide (w' < w) && (knowF many (slips s0) (lbt (rows r0))) w')) → GG l D clX (tyX Y) cX3_alone 5 none RX3 ({ frames := 2, cells := 0, slots := 0, locals := 46 } : Room) A MT (QM (Qv (fun (u : (Nat → Nat) × (Nat → Nat → Int64)) => RT rows u.2 r1 (fun w => decide (w < many) && (knowF many (slips s0) (lbt (rows r0))) w)) (fun (u : (Nat → Nat) × (Nat → Nat → Int64)) => HW D clX A (CoL Y ca ra b tk many used liar xs ys u.1 slips u.2 W)) A) 0 0 A) (HW D clX A (CoL Y ca ra b tk many used liar xs ys heaps1 slips rows1 W)) 0 0 14 [(0, .ref (ca 0)), (1, .int (nI s0)), (2, .ref (ra r0)), (3, .ref (ra r1)), (4, .int (nI w))] [] := by
    intro q14
    induction q14 with
    | zero => intro w rows1 hq14; exact absurd hq14 (Nat.not_lt_zero _)
    | succ q14 ih14 =>
      intro w rows1 hq14 hw hi
      refine g_iload dX3_alone_14 rfl ?_
      refine g_aload_n 0 dX3_alone_16 rfl rfl ?_
      refine co_get_many q275 dX3_alone_17 ?_
      refine g_icmp_ge_n (tgt := 66) dX3_alone_20 (by decide) (by omega) (by omega) (fun c20 => ?_) (fun c20 => ?_)
      · skip
        exact g_vret (heaps1, rows1) dX3_alone_66 (Nat.le_refl _) (Nat.le_refl _) (by have e9 : w = many := (by omega); rw [e9] at hi; exact hi) (fun _ h => h)
      · skip
        refine g_aload_n 0 dX3_alone_23 rfl rfl ?_
        refine co_get_heaps q259 dX3_alone_24 ?_
        refine g_aload_n 0 dX3_alone_27 rfl rfl ?_
        refine co_get_slips q261 dX3_alone_28 ?_
        refine g_iload_n 1 dX3_alone_31 rfl rfl ?_
        refine co_ld_slips (by omega) dX3_alone_32 ?_
        refine g_iload dX3_alone_33 rfl ?_
        refine co_ld_slip (by omega) (by omega) dX3_alone_35 ?_
        refine co_ld_heaps (hO.2 _ _ hs c20) dX3_alone_36 ?_
        refine g_aload_n 2 dX3_alone_37 rfl rfl ?_
        refine g_iload dX3_alone_38 rfl ?_
        refine h_cMi (ctX1_has w (f := rows1 r0) (hw_ix (CoL_row (r := r0) (by omega))) (by omega)) q648 q646 q106 q647 hy_X1_has rfl ⟨Nat.le_of_ble_eq_true rfl, Nat.le_of_ble_eq_true rfl⟩ ⟨Nat.le_of_ble_eq_true rfl, Nat.le_of_ble_eq_true rfl⟩ rfl (Nat.le_of_ble_eq_true rfl) dX3_alone_40 (fun r u hp => ?_)
        obtain rfl := hp
        rw [hi.2 r0 hne]
        refine g_if_eq_b (tgt := 50) dX3_alone_43 (by decide) (fun c43 => ?_) (fun c43 => ?_)
        · skip
          refine g_iconst (v := nI 0) dX3_alone_50 (by decide +kernel) ?_
          refine g_icmp_ne_n (tgt := 60) dX3_alone_51 (by decide) (by rw [hh w c20]; have := likeN_le many (slips s0) (lbt (rows r0)) w; omega) (by decide) (fun c51 => ?_) (fun c51 => ?_)
          · skip
            refine g_iinc_n (b := 1) (L' := [(0, _), (1, _), (2, _), (3, _), (4, _)]) dX3_alone_60 rfl rfl (by decide) rfl rfl ?_
            refine g_goto (tgt := 14) dX3_alone_63 (by decide) ?_
            first
              | exact ih14 (w + 1) _ (by omega) (by omega) (RT_y hi hp (by unfold knowF; rw [c43, ← hh w c20]; exact decide_eq_true c51))
              | exact ih14 (w + 1) _ (by omega) (by omega) (RT_n hi (by unfold knowF; rw [c43, ← hh w c20]; exact decide_eq_false c51))
          · skip
            refine g_aload_n 3 dX3_alone_54 rfl rfl ?_
            refine g_iload dX3_alone_55 rfl ?_
            refine h_cMv (ctX1_puts w (CoL_row (r := r1) (by omega)) (CoL_setrow (r := r1) (by omega)) (by omega)) q576 q574 q106 q575 hy_X1_puts rfl ⟨Nat.le_of_ble_eq_true rfl, Nat.le_of_ble_eq_true rfl⟩ ⟨Nat.le_of_ble_eq_true rfl, Nat.le_of_ble_eq_true rfl⟩ rfl (Nat.le_of_ble_eq_true rfl) dX3_alone_57 (fun uP hp => ?_)
            refine g_iinc_n (b := 1) (L' := [(0, _), (1, _), (2, _), (3, _), (4, _)]) dX3_alone_60 rfl rfl (by decide) rfl rfl ?_
            refine g_goto (tgt := 14) dX3_alone_63 (by decide) ?_
            first
              | exact ih14 (w + 1) _ (by omega) (by omega) (RT_y hi hp (by unfold knowF; rw [c43, ← hh w c20]; exact decide_eq_true c51))
              | exact ih14 (w + 1) _ (by omega) (by omega) (RT_n hi (by unfold knowF; rw [c43, ← hh w c20]; exact decide_eq_false c51))
        · skip
          refine g_iconst (v := nI 1) dX3_alone_46 (by decide +kernel) ?_
          refine g_goto (tgt := 51) dX3_alone_47 (by decide) ?_
          refine g_icmp_ne_n (tgt := 60) dX3_alone_51 (by decide) (by rw [hh w c20]; have := likeN_le many (slips s0) (lbt (rows r0)) w; omega) (by decide) (fun c51 => ?_) (fun c51 => ?_)
          · skip
            refine g_iinc_n (b := 1) (L' := [(0, _), (1, _), (2, _), (3, _), (4, _)]) dX3_alone_60 rfl rfl (by decide) rfl rfl ?_
            refine g_goto (tgt := 14) dX3_alone_63 (by decide) ?_
            first
              | exact ih14 (w + 1) _ (by omega) (by omega) (RT_y hi hp (by unfold knowF; rw [c43, ← hh w c20]; exact decide_eq_true c51))
              | exact ih14 (w + 1) _ (by omega) (by omega) (RT_n hi (by unfold knowF; rw [c43, ← hh w c20]; exact decide_eq_false c51))
          · skip
            refine g_aload_n 3 dX3_alone_54 rfl rfl ?_
            refine g_iload dX3_alone_55 rfl ?_
            refine h_cMv (ctX1_puts w (CoL_row (r := r1) (by omega)) (CoL_setrow (r := r1) (by omega)) (by omega)) q576 q574 q106 q575 hy_X1_puts rfl ⟨Nat.le_of_ble_eq_true rfl, Nat.le_of_ble_eq_true rfl⟩ ⟨Nat.le_of_ble_eq_true rfl, Nat.le_of_ble_eq_true rfl⟩ rfl (Nat.le_of_ble_eq_true rfl) dX3_alone_57 (fun uP hp => ?_)
            refine g_iinc_n (b := 1) (L' := [(0, _), (1, _), (2, _), (3, _), (4, _)]) dX3_alone_60 rfl rfl (by decide) rfl rfl ?_
            refine g_goto (tgt := 14) dX3_alone_63 (by decide) ?_
            first
              | exact ih14 (w + 1) _ (by omega) (by omega) (RT_y hi hp (by unfold knowF; rw [c43, ← hh w c20]; exact decide_eq_true c51))
              | exact ih14 (w + 1) _ (by omega) (by omega) (RT_n hi (by unfold knowF; rw [c43, ← hh w c20]; exact decide_eq_false c51))
  exact loop14 (many + 1) 0 _ (by omega) (by omega) RT_z
set_option maxHeartbeats 4000000 in
/-- where one knows -/
theorem ctX3_knows {ca ra : Nat → Nat} {b : Nat} {tk : Option Nat} {many used : Nat} {liar : Int32} {xs ys heaps : Nat → Nat} {slips : Nat → Nat → Nat} {rows : Nat → Nat → Int64} {W : va_W} (s0 t0 r1 nS : Nat) (hO : slOK nS many slips) (hs : s0 < nS) (hn : nS ≤ 6) (hb : b + 70 ≤ 156) (ht : t0 ≤ 20) (hr1 : r1 < 156) (hne : ¬ b + t0 = r1) : CT l D clX (tyX Y) yX3_knows cX3_knows 4 none ({ frames := 3, cells := 0, slots := 0, locals := 70 } : Room) [.ref (ca 0), .int (nI s0), .int (nI t0), .ref (ra r1)] (HW D clX A (CoL Y ca ra b tk many used liar xs ys heaps slips rows W)) (Qv (fun (u : (Nat → Nat) × (Nat → Nat → Int64)) => RT rows u.2 r1 (fun w => decide (w < many) && knowF many (slips s0) (lbt (rows (b + t0))) w)) (fun (u : (Nat → Nat) × (Nat → Nat → Int64)) => HW D clX A (CoL Y ca ra b tk many used liar xs ys u.1 slips u.2 W)) A) A := by
  refine CT.of (L := [(0, .ref (ca 0)), (1, .int (nI s0)), (2, .int (nI t0)), (3, .ref (ra r1))]) rfl (by decide +kernel) rfl (Nat.le_of_ble_eq_true rfl) ?_
  refine g_aload_n 0 dX3_knows_0 rfl rfl ?_
  refine g_iload_n 1 dX3_knows_1 rfl rfl ?_
  refine g_aload_n 0 dX3_knows_2 rfl rfl ?_
  refine co_get_left q268 dX3_knows_3 ?_
  refine g_iload_n 2 dX3_knows_6 rfl rfl ?_
  refine co_ld_left (by omega) dX3_knows_7 ?_
  refine g_aload_n 3 dX3_knows_8 rfl rfl ?_
  refine h_cVv (ctX3_alone s0 (b + t0) r1 nS hO hs hn (by omega) hr1 hne) (lw_V q635 q637 qs2 q111 q638) ⟨rfl, hy_X3_alone⟩ rfl ⟨Nat.le_of_ble_eq_true rfl, Nat.le_of_ble_eq_true rfl⟩ ⟨Nat.le_of_ble_eq_true rfl, Nat.le_of_ble_eq_true rfl⟩ rfl (Nat.le_of_ble_eq_true rfl) dX3_knows_9 co_rec (fun u3 hu3 => ?_)
  exact g_vret u3 dX3_knows_12 (Nat.le_refl _) (Nat.le_refl _) (hu3) (fun _ h => h)
end
