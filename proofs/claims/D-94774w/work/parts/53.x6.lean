/-! TWOSLIPS, 6: I don't know -/
set_option maxRecDepth 100000
/-- the object of Mute and its array -/
def MuL (Y : Nat → ClassId) (xa ra : Nat → Nat) (mn mt : Nat) (wn : Nat → Int32) (W : va_W) : va_W :=
  (xa 3, .inr (4, [.ref (xa 4), .ref (ra mn), .ref (ra mt), .ref (xa 0)])) :: (xa 4, .inl (Y 0, 1830, .inl wn)) :: W
theorem mu_tl {Y : Nat → ClassId} {xa ra : Nat → Nat} {mn mt : Nat} {wn : Nat → Int32} {W : va_W} {q : Nat × va_E} (h : q ∈ W) : q ∈ MuL Y xa ra mn mt wn W := List.mem_cons_of_mem _ (List.mem_cons_of_mem _ h)
theorem mu_up {Y : Nat → ClassId} {T : Talk} {ta xa ra : Nat → Nat} {mn mt : Nat} {wn : Nat → Int32} {W : va_W} (h : TalkL Y T ta W) : TalkL Y T ta (MuL Y xa ra mn mt wn W) := h.up (fun _ => mu_tl)
def muP (mn mt : Nat) : Prop := (mn = 140 ∧ mt = 141) ∨ (mn = 141 ∧ mt = 140)
theorem ans_row {T : Talk} {s many : Nat} {kb : Bool} {F : Nat → Bool} {f g : Nat → Int64} {slips : Nat → Nat → Nat} (hm : many = tP T) (hsl : ∀ v, v < many → slips s v = tSl T s v) (hP : tP T ≤ 1830) (hf : isRow f (fun w => decide (w < many) && F w)) (h : isRow g (fun w => lbt f w && decide ((decide (w < many) && knowF many (slips s) (lbt f) w) = kb))) : isRow g (fun w => decide (w < many) && ansW (tP T) (tSl T s) F kb w) := by
  intro w hw
  rw [h w hw]
  show (lbt f w && _) = (decide (w < many) && (F w && decide (knowF (tP T) (tSl T s) F w = kb)))
  rw [show lbt f w = (decide (w < many) && F w) from hf w hw]
  by_cases q : w < many
  · rw [decide_eq_true q, Bool.true_and, Bool.true_and, Bool.true_and, knowF_congr (f2 := F) (sl2 := tSl T s) q hsl (fun v hv => by rw [show lbt f v = (decide (v < many) && F v) from hf v (by omega), decide_eq_true hv, Bool.true_and]), hm]
  · rw [decide_eq_false q]; rfl
theorem LdC.row {T : Talk} {many : Nat} {xs ys : Nat → Nat} {slips : Nat → Nat → Nat} {rows rows2 : Nat → Nat → Int64} {r : Nat} {G : Nat → Bool} (h : LdC T many xs ys slips rows) (hok : TOK T) (hr : 70 ≤ r) (hR : RT rows rows2 r G) : LdC T many xs ys slips rows2 := h.keep hok (fun r9 h9 => hR.2 r9 (by omega))
theorem LdC.all {T : Talk} {many : Nat} {xs ys : Nat → Nat} {slips : Nat → Nat → Nat} {rows : Nat → Nat → Int64} (h : LdC T many xs ys slips rows) {F : Nat → Bool} (hF : ∀ w, F w = true) {r : Nat} : isRow (up rows r (va_cpy (rows (0 + 69)) (rows r) 0 0 29) r) (fun w => decide (w < many) && F w) := by
  intro w hw
  rw [up_s, lbt_cpy hw, show lbt (rows (0 + 69)) w = decide (w < many) from h.1.2.2.2.1 w hw]
  show _ = (decide (w < many) && F w)
  rw [hF, Bool.and_true]
theorem LdC.up {T : Talk} {many : Nat} {xs ys : Nat → Nat} {slips : Nat → Nat → Nat} {rows : Nat → Nat → Int64} {r : Nat} {u : Nat → Int64} (h : LdC T many xs ys slips rows) (hok : TOK T) (hr : 70 ≤ r) : LdC T many xs ys slips (up rows r u) := h.keep hok (fun r9 h9 => up_n (by omega))
theorem muW_ge {T : Talk} {a b K : Nat} (hK : K ≤ 5492) (w : Nat) : muWhen T a b K w = -1 ∨ ∃ j, j < 2 ^ 31 ∧ muWhen T a b K w = nI j := (muWhen_ge T a b K w).imp id (fun h => h.imp fun _ q => ⟨by omega, q.2⟩)
theorem m1_lt {x : Int32} (h : x = -1 ∨ ∃ j, j < 2 ^ 31 ∧ x = nI j) : ¬ x < -1 := by
  rcases h with h | ⟨j, h1, h⟩ <;> rw [h, Int32.lt_iff_toInt_lt]
  · exact Int.lt_irrefl _
  · rw [nI_toInt h1]; show ¬ (j : Int) < -1; omega
theorem m1_lt2 {x : Int32} (h : x = -1 ∨ ∃ j, j < 2 ^ 31 ∧ x = nI j) (h2 : ¬ x = -1) : -1 < x := by
  rcases h with h | ⟨j, h1, h⟩
  · exact absurd h h2
  · rw [h, Int32.lt_iff_toInt_lt, nI_toInt h1]; show (-1 : Int) < j; omega
theorem BE_up {e : Nat → Int32} {n : Nat} (hg : ∀ w, e w = -1 ∨ ∃ j, j < 2 ^ 31 ∧ e w = nI j) (hc : bestV e (bestE e n) < e n) : bestE e (n + 1) = some n := by
  cases hq : bestE e n with
  | none =>
    rw [hq] at hc
    exact bestE_new (fun q => by rw [q] at hc; exact absurd (show (-1 : Int32) < -1 from hc) (by decide)) hq
  | some b =>
    rw [hq] at hc
    exact bestE_up (fun q => by rw [q] at hc; exact m1_lt (hg b) hc) hq hc
theorem BE_keep {e : Nat → Int32} {n : Nat} (hg : ∀ w, e w = -1 ∨ ∃ j, j < 2 ^ 31 ∧ e w = nI j) (hc : ¬ bestV e (bestE e n) < e n) : bestE e (n + 1) = bestE e n := by
  by_cases q : e n = -1
  · exact bestE_skip q
  · cases hq : bestE e n with
    | none => rw [hq] at hc; exact absurd (m1_lt2 (hg n) q) hc
    | some b => rw [hq] at hc; rw [← hq]; exact bestE_keep q hq hc
theorem aTwo_1 {T : Talk} {a b : Int32} (h : iR a (tNS T) = none ∨ iR b (tNS T) = none) : aTwo T a b = 1 := by
  unfold aTwo
  rcases h with h | h
  · simp only [h]
  · cases h2 : iR a (tNS T) <;> simp only [h]
theorem aTwo_s {T : Talk} {i j : Nat} (hi : iR (nI i) (tNS T) = some i) (hj : iR (nI j) (tNS T) = some j) : aTwo T (nI i) (nI j) = if i = j then 2 else 0 := by
  unfold aTwo; simp only [hi, hj]
section MuRows
variable {l : Launch} {D : va_G} {Y : Nat → ClassId} {A : Nat → Prop} {cf xa ca cb ra : Nat → Nat} {b tx : Nat} {bL : Bool} {tk : Option Nat} {many used : Nat} {liar : Int32} {xs ys heaps : Nat → Nat} {slips : Nat → Nat → Nat} {rows : Nat → Nat → Int64} {taped fk : Nat} {fa : Int32} {an nx : Nat} {images : Nat → Option Nat} {tape : Nat → Int32} {W : va_W} {mn mt : Nat} {wn : Nat → Int32}
variable {cc : ByteArray} {nL : Nat} {rt : Option FieldType} {own : String} {R : Room} {MX : Heap → Method → Code → Prop} {QF : List Frame → Array Value → State → State → Prop} {k n pc mc ms : Nat} {L L' : List (Nat × Value)} {st : List Value}
theorem mu_get_when {idx : Nat} (hq : Cond.fieldLink own idx RX4 "when" "[I" ∈ lw_all) (hd : decode cc pc = .ok (.getfield idx, 3)) (K : GG l D clX (tyX Y) cc nL rt own R A MX QF (HW D clX A (CoL Y cf ra b tk many used liar xs ys heaps slips rows (XoL Y xa ca cb ra tx bL taped fk fa an nx images tape (MuL Y xa ra mn mt wn W)))) k n (pc + 3) L (.ref (xa 4) :: st)) : GG l D clX (tyX Y) cc nL rt own R A MX QF (HW D clX A (CoL Y cf ra b tk many used liar xs ys heaps slips rows (XoL Y xa ca cb ra tx bL taped fk fa an nx images tape (MuL Y xa ra mn mt wn W)))) k n pc L (.ref (xa 3) :: st) :=
  g_getf (C := RX4) (T := TX4) (N := 4) 0 in_X4 rfl (by decide) hq rfl hd (hw_mem (co_tl (xo_tl List.mem_cons_self))) rfl K
theorem mu_get_whenN {idx : Nat} {host : String} (hq : Cond.fieldLinkNest own idx RX4 "when" "[I" host ∈ lw_tbl) (hd : decode cc pc = .ok (.getfield idx, 3)) (K : GG l D clX (tyX Y) cc nL rt own R A MX QF (HW D clX A (CoL Y cf ra b tk many used liar xs ys heaps slips rows (XoL Y xa ca cb ra tx bL taped fk fa an nx images tape (MuL Y xa ra mn mt wn W)))) k n (pc + 3) L (.ref (xa 4) :: st)) : GG l D clX (tyX Y) cc nL rt own R A MX QF (HW D clX A (CoL Y cf ra b tk many used liar xs ys heaps slips rows (XoL Y xa ca cb ra tx bL taped fk fa an nx images tape (MuL Y xa ra mn mt wn W)))) k n pc L (.ref (xa 3) :: st) :=
  g_getfN (C := RX4) (T := TX4) (N := 4) 0 in_X4 rfl (by decide) hq rfl hd (hw_mem (co_tl (xo_tl List.mem_cons_self))) rfl K
theorem mu_get_now {idx : Nat} (hq : Cond.fieldLink own idx RX4 "now" "[J" ∈ lw_all) (hd : decode cc pc = .ok (.getfield idx, 3)) (K : GG l D clX (tyX Y) cc nL rt own R A MX QF (HW D clX A (CoL Y cf ra b tk many used liar xs ys heaps slips rows (XoL Y xa ca cb ra tx bL taped fk fa an nx images tape (MuL Y xa ra mn mt wn W)))) k n (pc + 3) L (.ref (ra mn) :: st)) : GG l D clX (tyX Y) cc nL rt own R A MX QF (HW D clX A (CoL Y cf ra b tk many used liar xs ys heaps slips rows (XoL Y xa ca cb ra tx bL taped fk fa an nx images tape (MuL Y xa ra mn mt wn W)))) k n pc L (.ref (xa 3) :: st) :=
  g_getf (C := RX4) (T := TX4) (N := 4) 1 in_X4 rfl (by decide) hq rfl hd (hw_mem (co_tl (xo_tl List.mem_cons_self))) rfl K
theorem mu_get_nowN {idx : Nat} {host : String} (hq : Cond.fieldLinkNest own idx RX4 "now" "[J" host ∈ lw_tbl) (hd : decode cc pc = .ok (.getfield idx, 3)) (K : GG l D clX (tyX Y) cc nL rt own R A MX QF (HW D clX A (CoL Y cf ra b tk many used liar xs ys heaps slips rows (XoL Y xa ca cb ra tx bL taped fk fa an nx images tape (MuL Y xa ra mn mt wn W)))) k n (pc + 3) L (.ref (ra mn) :: st)) : GG l D clX (tyX Y) cc nL rt own R A MX QF (HW D clX A (CoL Y cf ra b tk many used liar xs ys heaps slips rows (XoL Y xa ca cb ra tx bL taped fk fa an nx images tape (MuL Y xa ra mn mt wn W)))) k n pc L (.ref (xa 3) :: st) :=
  g_getfN (C := RX4) (T := TX4) (N := 4) 1 in_X4 rfl (by decide) hq rfl hd (hw_mem (co_tl (xo_tl List.mem_cons_self))) rfl K
theorem mu_get_then {idx : Nat} (hq : Cond.fieldLink own idx RX4 "then" "[J" ∈ lw_all) (hd : decode cc pc = .ok (.getfield idx, 3)) (K : GG l D clX (tyX Y) cc nL rt own R A MX QF (HW D clX A (CoL Y cf ra b tk many used liar xs ys heaps slips rows (XoL Y xa ca cb ra tx bL taped fk fa an nx images tape (MuL Y xa ra mn mt wn W)))) k n (pc + 3) L (.ref (ra mt) :: st)) : GG l D clX (tyX Y) cc nL rt own R A MX QF (HW D clX A (CoL Y cf ra b tk many used liar xs ys heaps slips rows (XoL Y xa ca cb ra tx bL taped fk fa an nx images tape (MuL Y xa ra mn mt wn W)))) k n pc L (.ref (xa 3) :: st) :=
  g_getf (C := RX4) (T := TX4) (N := 4) 2 in_X4 rfl (by decide) hq rfl hd (hw_mem (co_tl (xo_tl List.mem_cons_self))) rfl K
theorem mu_get_thenN {idx : Nat} {host : String} (hq : Cond.fieldLinkNest own idx RX4 "then" "[J" host ∈ lw_tbl) (hd : decode cc pc = .ok (.getfield idx, 3)) (K : GG l D clX (tyX Y) cc nL rt own R A MX QF (HW D clX A (CoL Y cf ra b tk many used liar xs ys heaps slips rows (XoL Y xa ca cb ra tx bL taped fk fa an nx images tape (MuL Y xa ra mn mt wn W)))) k n (pc + 3) L (.ref (ra mt) :: st)) : GG l D clX (tyX Y) cc nL rt own R A MX QF (HW D clX A (CoL Y cf ra b tk many used liar xs ys heaps slips rows (XoL Y xa ca cb ra tx bL taped fk fa an nx images tape (MuL Y xa ra mn mt wn W)))) k n pc L (.ref (xa 3) :: st) :=
  g_getfN (C := RX4) (T := TX4) (N := 4) 2 in_X4 rfl (by decide) hq rfl hd (hw_mem (co_tl (xo_tl List.mem_cons_self))) rfl K
theorem mu_get_this_0 {idx : Nat} (hq : Cond.fieldLink own idx RX4 "this$0" "LTwoSlips;" ∈ lw_all) (hd : decode cc pc = .ok (.getfield idx, 3)) (K : GG l D clX (tyX Y) cc nL rt own R A MX QF (HW D clX A (CoL Y cf ra b tk many used liar xs ys heaps slips rows (XoL Y xa ca cb ra tx bL taped fk fa an nx images tape (MuL Y xa ra mn mt wn W)))) k n (pc + 3) L (.ref (xa 0) :: st)) : GG l D clX (tyX Y) cc nL rt own R A MX QF (HW D clX A (CoL Y cf ra b tk many used liar xs ys heaps slips rows (XoL Y xa ca cb ra tx bL taped fk fa an nx images tape (MuL Y xa ra mn mt wn W)))) k n pc L (.ref (xa 3) :: st) :=
  g_getf (C := RX4) (T := TX4) (N := 4) 3 in_X4 rfl (by decide) hq rfl hd (hw_mem (co_tl (xo_tl List.mem_cons_self))) rfl K
theorem mu_get_this_0N {idx : Nat} {host : String} (hq : Cond.fieldLinkNest own idx RX4 "this$0" "LTwoSlips;" host ∈ lw_tbl) (hd : decode cc pc = .ok (.getfield idx, 3)) (K : GG l D clX (tyX Y) cc nL rt own R A MX QF (HW D clX A (CoL Y cf ra b tk many used liar xs ys heaps slips rows (XoL Y xa ca cb ra tx bL taped fk fa an nx images tape (MuL Y xa ra mn mt wn W)))) k n (pc + 3) L (.ref (xa 0) :: st)) : GG l D clX (tyX Y) cc nL rt own R A MX QF (HW D clX A (CoL Y cf ra b tk many used liar xs ys heaps slips rows (XoL Y xa ca cb ra tx bL taped fk fa an nx images tape (MuL Y xa ra mn mt wn W)))) k n pc L (.ref (xa 3) :: st) :=
  g_getfN (C := RX4) (T := TX4) (N := 4) 3 in_X4 rfl (by decide) hq rfl hd (hw_mem (co_tl (xo_tl List.mem_cons_self))) rfl K
theorem mu_put_now {z : Nat} {idx : Nat} (hq : Cond.fieldLink own idx RX4 "now" "[J" ∈ lw_all) (hd : decode cc pc = .ok (.putfield idx, 3)) (K : GG l D clX (tyX Y) cc nL rt own R A MX QF (HW D clX A (CoL Y cf ra b tk many used liar xs ys heaps slips rows (XoL Y xa ca cb ra tx bL taped fk fa an nx images tape (MuL Y xa ra z mt wn W)))) k n (pc + 3) L st) : GG l D clX (tyX Y) cc nL rt own R A MX QF (HW D clX A (CoL Y cf ra b tk many used liar xs ys heaps slips rows (XoL Y xa ca cb ra tx bL taped fk fa an nx images tape (MuL Y xa ra mn mt wn W)))) k n pc L (.ref (ra z) :: .ref (xa 3) :: st) :=
  w_putf (C := RX4) (T := TX4) (N := 4) (ty := .array .long) 1 in_X4 rfl (by decide) hq rfl rfl tyX4 tyX4_ok nmX4 (by decide +kernel) rfl rfl 172 (CoL_at (i := 3)) (CoL_setW (i := 3)) (Nat.le_of_ble_eq_true rfl) hd K
theorem mu_put_then {z : Nat} {idx : Nat} (hq : Cond.fieldLink own idx RX4 "then" "[J" ∈ lw_all) (hd : decode cc pc = .ok (.putfield idx, 3)) (K : GG l D clX (tyX Y) cc nL rt own R A MX QF (HW D clX A (CoL Y cf ra b tk many used liar xs ys heaps slips rows (XoL Y xa ca cb ra tx bL taped fk fa an nx images tape (MuL Y xa ra mn z wn W)))) k n (pc + 3) L st) : GG l D clX (tyX Y) cc nL rt own R A MX QF (HW D clX A (CoL Y cf ra b tk many used liar xs ys heaps slips rows (XoL Y xa ca cb ra tx bL taped fk fa an nx images tape (MuL Y xa ra mn mt wn W)))) k n pc L (.ref (ra z) :: .ref (xa 3) :: st) :=
  w_putf (C := RX4) (T := TX4) (N := 4) (ty := .array .long) 2 in_X4 rfl (by decide) hq rfl rfl tyX4 tyX4_ok nmX4 (by decide +kernel) rfl rfl 172 (CoL_at (i := 3)) (CoL_setW (i := 3)) (Nat.le_of_ble_eq_true rfl) hd K
theorem mu_ld_when {i : Nat} (hi : i < 1830) (hd : decode cc pc = .ok (.iaload, 1)) (K : GG l D clX (tyX Y) cc nL rt own R A MX QF (HW D clX A (CoL Y cf ra b tk many used liar xs ys heaps slips rows (XoL Y xa ca cb ra tx bL taped fk fa an nx images tape (MuL Y xa ra mn mt wn W)))) k n (pc + 1) L (.int (wn i) :: st)) : GG l D clX (tyX Y) cc nL rt own R A MX QF (HW D clX A (CoL Y cf ra b tk many used liar xs ys heaps slips rows (XoL Y xa ca cb ra tx bL taped fk fa an nx images tape (MuL Y xa ra mn mt wn W)))) k n pc L (.int (nI i) :: .ref (xa 4) :: st) := g_ldi (cA := Y 0) 0 rfl hi (by decide) hd (hw_mem (co_tl (xo_tl (List.mem_cons_of_mem _ List.mem_cons_self)))) K
theorem mu_st_when {i : Nat} {z : Int32} (hi : i < 1830) (hd : decode cc pc = .ok (.iastore, 1)) (K : GG l D clX (tyX Y) cc nL rt own R A MX QF (HW D clX A (CoL Y cf ra b tk many used liar xs ys heaps slips rows (XoL Y xa ca cb ra tx bL taped fk fa an nx images tape (MuL Y xa ra mn mt (up wn i z) W)))) k n (pc + 1) L st) : GG l D clX (tyX Y) cc nL rt own R A MX QF (HW D clX A (CoL Y cf ra b tk many used liar xs ys heaps slips rows (XoL Y xa ca cb ra tx bL taped fk fa an nx images tape (MuL Y xa ra mn mt wn W)))) k n pc L (.int z :: .int (nI i) :: .ref (xa 4) :: st) := w_sti (cA := Y 0) 0 rfl hi (by decide) 173 (CoL_at (i := 4)) (CoL_setW (i := 4)) hd K
theorem mu_rec : ∀ (s : State) (H : Heap), va_K D clX (tyX Y) s → HW D clX A (CoL Y cf ra b tk many used liar xs ys heaps slips rows (XoL Y xa ca cb ra tx bL taped fk fa an nx images tape (MuL Y xa ra mn mt wn W))) H → ∃ cell : Cell, H[xa 3]? = some cell ∧ cell.vm.isStatics = false ∧ s.vm.findClass RX4 = some cell.cls := fun s H hK hP => va_recv hK ((hw_mem (co_tl (xo_tl List.mem_cons_self))) H hP) (ci := 4) rfl (q0 := 0) rfl
end MuRows
theorem hy_X3_answers : yX3_answers.cls ≠ "java/lang/invoke/MethodHandle" ∧ yX3_answers.cls ≠ "java/lang/invoke/VarHandle" ∧ (parseMethodDescriptor yX3_answers.desc).map (fun d => d.parameters.length) = some 4 := by decide +kernel
theorem hy_X1_mustTwo : yX1_mustTwo.cls ≠ "java/lang/invoke/MethodHandle" ∧ yX1_mustTwo.cls ≠ "java/lang/invoke/VarHandle" ∧ (parseMethodDescriptor yX1_mustTwo.desc).map (fun d => d.parameters.length) = some 2 := by decide +kernel
theorem hy_X4_of : yX4_of.cls ≠ "java/lang/invoke/MethodHandle" ∧ yX4_of.cls ≠ "java/lang/invoke/VarHandle" ∧ (parseMethodDescriptor yX4_of.desc).map (fun d => d.parameters.length) = some 2 := by decide +kernel
section
variable {l : Launch} {D : va_G} {Y : Nat → ClassId} {A : Nat → Prop}
set_option maxHeartbeats 4000000 in
/-- goes on without knowing -/
theorem ctX4_of {xa ca cb ra ta : Nat → Nat} {T : Talk} {bL : Bool} {tk : Option Nat} {many : Nat} {xs ys heaps : Nat → Nat} {slips : Nat → Nat → Nat} {rows : Nat → Nat → Int64} {taped fk : Nat} {fa : Int32} {an nx : Nat} {images : Nat → Option Nat} {tape : Nat → Int32} {W : va_W} {mn mt : Nat} {wn : Nat → Int32} (a0 b0 : Nat) (hT : TalkL Y T ta W) (hok : TOK T) (hL : bL = true → tk = some (ta 0) ∧ LdC T many xs ys slips rows) (hmu : muP mn mt) (ha0 : a0 < tNS T) (hb0 : b0 < tNS T) : CT l D clX (tyX Y) yX4_of cX4_of 8 (Option.some (Jvm.ClassFile.FieldType.object "TwoSlips$Mute")) ({ frames := 1816, cells := 0, slots := 0, locals := 54543 } : Room) [.ref (xa 3), .int (nI a0), .int (nI b0)] (HW D clX A (CoL Y ca ra 0 tk many 0 (-1) xs ys heaps slips rows (XoL Y xa ca cb ra (ta 0) bL taped fk fa an nx images tape (MuL Y xa ra mn mt wn W)))) (Qo (fun (u : (Nat × (Nat → Nat) × (Nat → Nat) × (Nat → Nat) × (Nat → Nat → Nat) × (Nat → Nat → Int64)) × Nat × Nat × (Nat → Int32)) => LdC T u.1.1 u.1.2.1 u.1.2.2.1 u.1.2.2.2.2.1 u.1.2.2.2.2.2 ∧ muP u.2.1 u.2.2.1 ∧ ∃ K, K ≤ 5492 ∧ muEnd T a0 b0 K ∧ isRow (u.1.2.2.2.2.2 u.2.1) (fun w => decide (w < u.1.1) && muS T a0 b0 K w) ∧ ∀ w, w < u.1.1 → u.2.2.2 w = muWhen T a0 b0 K w) (fun (u : (Nat × (Nat → Nat) × (Nat → Nat) × (Nat → Nat) × (Nat → Nat → Nat) × (Nat → Nat → Int64)) × Nat × Nat × (Nat → Int32)) => HW D clX A (CoL Y ca ra 0 (some (ta 0)) u.1.1 0 (-1) u.1.2.1 u.1.2.2.1 u.1.2.2.2.1 u.1.2.2.2.2.1 u.1.2.2.2.2.2 (XoL Y xa ca cb ra (ta 0) true taped fk fa an nx images tape (MuL Y xa ra u.2.1 u.2.2.1 u.2.2.2 W)))) (fun (u : (Nat × (Nat → Nat) × (Nat → Nat) × (Nat → Nat) × (Nat → Nat → Nat) × (Nat → Nat → Int64)) × Nat × Nat × (Nat → Int32)) => xa 3) A) A := by
  refine CT.of (L := [(0, .ref (xa 3)), (1, .int (nI a0)), (2, .int (nI b0))]) rfl (by decide +kernel) rfl (Nat.le_of_ble_eq_true rfl) ?_
  refine g_aload_n 0 dX4_of_0 rfl rfl ?_
  refine mu_get_this_0 q317 dX4_of_1 ?_
  refine h_cNo (ctX1_laid (mu_up hT) hok hL) q513 q1548 q106 q512 qs1 hy_X1_laid rfl ⟨Nat.le_of_ble_eq_true rfl, Nat.le_of_ble_eq_true rfl⟩ ⟨Nat.le_of_ble_eq_true rfl, Nat.le_of_ble_eq_true rfl⟩ rfl (Nat.le_of_ble_eq_true rfl) dX4_of_4 x_rec (fun u9 hC1 => ?_)
  obtain ⟨many1, xs1, ys1, heaps1, slips1, rows1⟩ := u9
  have hC1 : LdC T many1 xs1 ys1 slips1 rows1 := hC1
  have hP1 := hC1.mny
  have hP2 := tP_le hok
  refine g_astore_n (L' := [(0, _), (1, _), (2, _), (3, _)]) 3 dX4_of_7 rfl (by decide) rfl rfl ?_
  refine g_aload_n 0 dX4_of_8 rfl rfl ?_
  refine mu_get_when q312 dX4_of_9 ?_
  refine g_iconst (v := -1) dX4_of_12 (by decide +kernel) ?_
  refine h_cSv (ctJ14_fill_2 (-1) 0 rfl (by decide) (CoL_at (i := 4)) (CoL_setW (i := 4))) (lw_S q1549 q644 q141 q645) hy_J14_fill_2 rfl ⟨Nat.le_of_ble_eq_true rfl, Nat.le_of_ble_eq_true rfl⟩ ⟨Nat.le_of_ble_eq_true rfl, Nat.le_of_ble_eq_true rfl⟩ rfl (Nat.le_of_ble_eq_true rfl) dX4_of_13 (fun u9 hp9 => ?_)
  unfold muP at hmu
  refine g_aload_n 3 dX4_of_16 rfl rfl ?_
  refine co_get_allN q264 dX4_of_17 ?_
  refine g_iconst (v := nI 0) dX4_of_20 (by decide +kernel) ?_
  refine g_aload_n 0 dX4_of_21 rfl rfl ?_
  refine mu_get_now q314 dX4_of_22 ?_
  refine g_iconst (v := nI 0) dX4_of_25 (by decide +kernel) ?_
  refine g_bipush (v := nI 29) dX4_of_26 (by decide +kernel) ?_
  refine g_copyl (m := 29) (sp := 0) (dp := 0) (a0 := ra (0 + 69)) (a := ra (mn)) q1550 q579 q578 q142 (0 + 69 + 13) (mn + 13) 1 rfl (CoL_row (r := 0 + 69) (by omega)) (CoL_row (r := mn) (by omega)) (by decide) (by decide) (by decide) (by decide) (CoL_setrow (r := mn) (by omega) _) (Nat.le_of_ble_eq_true rfl) (Nat.le_of_ble_eq_true rfl) dX4_of_28 ?_
  refine g_iconst (v := nI 0) dX4_of_31 (by decide +kernel) ?_
  refine g_istore (L' := [(0, _), (1, _), (2, _), (3, _), (4, _)]) dX4_of_32 (by decide) rfl rfl ?_
  refine g_iconst (v := nI 0) dX4_of_34 (by decide +kernel) ?_
  refine g_istore (L' := [(0, _), (1, _), (2, _), (3, _), (4, _), (5, _)]) dX4_of_35 (by decide) rfl rfl ?_
  have loop37 : ∀ (q37 : Nat) (k n0 n1 : Nat) (heapsL : Nat → Nat) (rowsL : Nat → Nat → Int64) (wnL : Nat → Int32), 3 * cnt (muS T a0 b0 k) (tP T) + 2 - muIdle T a0 b0 k < q37 → ((n0 = 140 ∧ n1 = 141) ∨ (n0 = 141 ∧ n1 = 140)) → (muIdle T a0 b0 k ≤ 2) → (∀ j, j < k → muIdle T a0 b0 j < 2) → (k + (3 * cnt (muS T a0 b0 k) (tP T) + 2 - muIdle T a0 b0 k) ≤ 5492) → (LdC T many1 xs1 ys1 slips1 rowsL) → (isRow (rowsL n0) (fun w => decide (w < many1) && muS T a0 b0 k w)) → (∀ w, w < many1 → wnL w = muWhen T a0 b0 k w) → GG l D clX (tyX Y) cX4_of 8 (Option.some (Jvm.ClassFile.FieldType.object "TwoSlips$Mute")) RX4 ({ frames := 1816, cells := 0, slots := 0, locals := 54543 } : Room) A MT (QM (Qo (fun (u : (Nat × (Nat → Nat) × (Nat → Nat) × (Nat → Nat) × (Nat → Nat → Nat) × (Nat → Nat → Int64)) × Nat × Nat × (Nat → Int32)) => LdC T u.1.1 u.1.2.1 u.1.2.2.1 u.1.2.2.2.2.1 u.1.2.2.2.2.2 ∧ muP u.2.1 u.2.2.1 ∧ ∃ K, K ≤ 5492 ∧ muEnd T a0 b0 K ∧ isRow (u.1.2.2.2.2.2 u.2.1) (fun w => decide (w < u.1.1) && muS T a0 b0 K w) ∧ ∀ w, w < u.1.1 → u.2.2.2 w = muWhen T a0 b0 K w) (fun (u : (Nat × (Nat → Nat) × (Nat → Nat) × (Nat → Nat) × (Nat → Nat → Nat) × (Nat → Nat → Int64)) × Nat × Nat × (Nat → Int32)) => HW D clX A (CoL Y ca ra 0 (some (ta 0)) u.1.1 0 (-1) u.1.2.1 u.1.2.2.1 u.1.2.2.2.1 u.1.2.2.2.2.1 u.1.2.2.2.2.2 (XoL Y xa ca cb ra (ta 0) true taped fk fa an nx images tape (MuL Y xa ra u.2.1 u.2.2.1 u.2.2.2 W)))) (fun (u : (Nat × (Nat → Nat) × (Nat → Nat) × (Nat → Nat) × (Nat → Nat → Nat) × (Nat → Nat → Int64)) × Nat × Nat × (Nat → Int32)) => xa 3) A) 0 0 A) (HW D clX A (CoL Y ca ra 0 (some (ta 0)) many1 0 (-1) xs1 ys1 heapsL slips1 rowsL (XoL Y xa ca cb ra (ta 0) true taped fk fa an nx images tape (MuL Y xa ra n0 n1 wnL W)))) 0 0 37 [(0, .ref (xa 3)), (1, .int (nI a0)), (2, .int (nI b0)), (3, .ref (ca 0)), (4, .int (nI (muIdle T a0 b0 k))), (5, .int (nI k))] [] := by
    intro q37
    induction q37 with
    | zero => intro k n0 n1 heapsL rowsL wnL hq37; exact absurd hq37 (Nat.not_lt_zero _)
    | succ q37 ih37 =>
      intro k n0 n1 heapsL rowsL wnL hq37 hn hid hmin hkk hCL hS he
      refine g_iload dX4_of_37 rfl ?_
      refine g_iconst (v := nI 2) dX4_of_39 (by decide +kernel) ?_
      refine g_icmp_ge_n (tgt := 166) dX4_of_40 (by decide) (by omega) (by omega) (fun c40 => ?_) (fun c40 => ?_)
      · skip
        refine g_aload_n 0 dX4_of_166 rfl rfl ?_
        exact g_areto ((many1, xs1, ys1, heapsL, slips1, rowsL), n0, n1, wnL) dX4_of_167 (Or.inl ⟨_, rfl⟩) (Nat.le_refl _) (Nat.le_refl _) (⟨hCL, hn, k, by omega, ⟨by omega, hmin⟩, hS, he⟩) rfl (fun _ h => h)
      · skip
        have join56 : ∀ (s9 : Nat), (s9 = (if k % 2 = 0 then a0 else b0)) → GG l D clX (tyX Y) cX4_of 8 (Option.some (Jvm.ClassFile.FieldType.object "TwoSlips$Mute")) RX4 ({ frames := 1816, cells := 0, slots := 0, locals := 54543 } : Room) A MT (QM (Qo (fun (u : (Nat × (Nat → Nat) × (Nat → Nat) × (Nat → Nat) × (Nat → Nat → Nat) × (Nat → Nat → Int64)) × Nat × Nat × (Nat → Int32)) => LdC T u.1.1 u.1.2.1 u.1.2.2.1 u.1.2.2.2.2.1 u.1.2.2.2.2.2 ∧ muP u.2.1 u.2.2.1 ∧ ∃ K, K ≤ 5492 ∧ muEnd T a0 b0 K ∧ isRow (u.1.2.2.2.2.2 u.2.1) (fun w => decide (w < u.1.1) && muS T a0 b0 K w) ∧ ∀ w, w < u.1.1 → u.2.2.2 w = muWhen T a0 b0 K w) (fun (u : (Nat × (Nat → Nat) × (Nat → Nat) × (Nat → Nat) × (Nat → Nat → Nat) × (Nat → Nat → Int64)) × Nat × Nat × (Nat → Int32)) => HW D clX A (CoL Y ca ra 0 (some (ta 0)) u.1.1 0 (-1) u.1.2.1 u.1.2.2.1 u.1.2.2.2.1 u.1.2.2.2.2.1 u.1.2.2.2.2.2 (XoL Y xa ca cb ra (ta 0) true taped fk fa an nx images tape (MuL Y xa ra u.2.1 u.2.2.1 u.2.2.2 W)))) (fun (u : (Nat × (Nat → Nat) × (Nat → Nat) × (Nat → Nat) × (Nat → Nat → Nat) × (Nat → Nat → Int64)) × Nat × Nat × (Nat → Int32)) => xa 3) A) 0 0 A) (HW D clX A (CoL Y ca ra 0 (some (ta 0)) many1 0 (-1) xs1 ys1 heapsL slips1 rowsL (XoL Y xa ca cb ra (ta 0) true taped fk fa an nx images tape (MuL Y xa ra n0 n1 wnL W)))) 0 0 56 [(0, .ref (xa 3)), (1, .int (nI a0)), (2, .int (nI b0)), (3, .ref (ca 0)), (4, .int (nI (muIdle T a0 b0 k))), (5, .int (nI k))] [.int (nI s9), .ref (ca 0)] := by
          intro s9 hs9
          subst hs9
          have hss : (if k % 2 = 0 then a0 else b0) < tNS T := by split <;> assumption
          refine g_iconst (v := bI false) dX4_of_56 (by decide +kernel) ?_
          refine g_aload_n 0 dX4_of_57 rfl rfl ?_
          refine mu_get_now q314 dX4_of_58 ?_
          refine g_aload_n 0 dX4_of_61 rfl rfl ?_
          refine mu_get_then q316 dX4_of_62 ?_
          refine h_cVv (ctX3_answers (if k % 2 = 0 then a0 else b0) n0 n1 (tNS T) false (hCL.ok hok) hss hok.2.2.2.2.2.1 (by omega) (by omega) (by omega)) (lw_V q1551 q1552 q1553 q111 q1554) ⟨rfl, hy_X3_answers⟩ rfl ⟨Nat.le_of_ble_eq_true rfl, Nat.le_of_ble_eq_true rfl⟩ ⟨Nat.le_of_ble_eq_true rfl, Nat.le_of_ble_eq_true rfl⟩ rfl (Nat.le_of_ble_eq_true rfl) dX4_of_65 co_rec (fun u9 hR4 => ?_)
          obtain ⟨heaps4, rows4⟩ := u9
          have hR4 : RT rowsL rows4 n1 _ := hR4
          have hC4 : LdC T many1 xs1 ys1 slips1 rows4 := hCL.row hok (by omega) hR4
          have hS4 : isRow (rows4 n1) (fun w => decide (w < many1) && muS T a0 b0 (k + 1) w) := ans_row (s := (if k % 2 = 0 then a0 else b0)) hP1 (fun v hv => hC4.sl hss hv) hP2 hS hR4.1
          have hS0 : isRow (rows4 n0) (fun w => decide (w < many1) && muS T a0 b0 k w) := by rw [hR4.2 n0 (by omega)]; exact hS
          refine g_iconst (v := nI 1) dX4_of_68 (by decide +kernel) ?_
          refine g_istore (L' := [(0, _), (1, _), (2, _), (3, _), (4, _), (5, _), (6, _)]) dX4_of_69 (by decide) rfl rfl ?_
          refine g_iconst (v := nI 0) dX4_of_71 (by decide +kernel) ?_
          refine g_istore (L' := [(0, _), (1, _), (2, _), (3, _), (4, _), (5, _), (6, _), (7, _)]) dX4_of_72 (by decide) rfl rfl ?_
          have loop74 : ∀ (q74 : Nat) (w sm : Nat) (wn2 : Nat → Int32), many1 - w < q74 → (w ≤ many1) → ((sm = 1 ∧ cnt (muD T a0 b0 k) w = 0) ∨ (sm = 0 ∧ 0 < cnt (muD T a0 b0 k) w)) → (∀ v, v < many1 → wn2 v = if v < w then muWhen T a0 b0 (k + 1) v else muWhen T a0 b0 k v) → GG l D clX (tyX Y) cX4_of 8 (Option.some (Jvm.ClassFile.FieldType.object "TwoSlips$Mute")) RX4 ({ frames := 1816, cells := 0, slots := 0, locals := 54543 } : Room) A MT (QM (Qo (fun (u : (Nat × (Nat → Nat) × (Nat → Nat) × (Nat → Nat) × (Nat → Nat → Nat) × (Nat → Nat → Int64)) × Nat × Nat × (Nat → Int32)) => LdC T u.1.1 u.1.2.1 u.1.2.2.1 u.1.2.2.2.2.1 u.1.2.2.2.2.2 ∧ muP u.2.1 u.2.2.1 ∧ ∃ K, K ≤ 5492 ∧ muEnd T a0 b0 K ∧ isRow (u.1.2.2.2.2.2 u.2.1) (fun w => decide (w < u.1.1) && muS T a0 b0 K w) ∧ ∀ w, w < u.1.1 → u.2.2.2 w = muWhen T a0 b0 K w) (fun (u : (Nat × (Nat → Nat) × (Nat → Nat) × (Nat → Nat) × (Nat → Nat → Nat) × (Nat → Nat → Int64)) × Nat × Nat × (Nat → Int32)) => HW D clX A (CoL Y ca ra 0 (some (ta 0)) u.1.1 0 (-1) u.1.2.1 u.1.2.2.1 u.1.2.2.2.1 u.1.2.2.2.2.1 u.1.2.2.2.2.2 (XoL Y xa ca cb ra (ta 0) true taped fk fa an nx images tape (MuL Y xa ra u.2.1 u.2.2.1 u.2.2.2 W)))) (fun (u : (Nat × (Nat → Nat) × (Nat → Nat) × (Nat → Nat) × (Nat → Nat → Nat) × (Nat → Nat → Int64)) × Nat × Nat × (Nat → Int32)) => xa 3) A) 0 0 A) (HW D clX A (CoL Y ca ra 0 (some (ta 0)) many1 0 (-1) xs1 ys1 heaps4 slips1 rows4 (XoL Y xa ca cb ra (ta 0) true taped fk fa an nx images tape (MuL Y xa ra n0 n1 wn2 W)))) 0 0 74 [(0, .ref (xa 3)), (1, .int (nI a0)), (2, .int (nI b0)), (3, .ref (ca 0)), (4, .int (nI (muIdle T a0 b0 k))), (5, .int (nI k)), (6, .int (nI sm)), (7, .int (nI w))] [] := by
            intro q74
            induction q74 with
            | zero => intro w sm wn2 hq74; exact absurd hq74 (Nat.not_lt_zero _)
            | succ q74 ih74 =>
              intro w sm wn2 hq74 hw hsm he2
              refine g_iload dX4_of_74 rfl ?_
              refine g_aload_n 3 dX4_of_76 rfl rfl ?_
              refine co_get_manyN q273 dX4_of_77 ?_
              refine g_icmp_ge_n (tgt := 125) dX4_of_80 (by decide) (by omega) (by omega) (fun c80 => ?_) (fun c80 => ?_)
              · skip
                refine g_iload dX4_of_125 rfl ?_
                refine g_if_eq_n (tgt := 137) dX4_of_127 (by decide) (by omega) (fun c127 => ?_) (fun c127 => ?_)
                · skip
                  refine g_iconst (v := nI 0) dX4_of_137 (by decide +kernel) ?_
                  refine g_istore (L' := [(0, _), (1, _), (2, _), (3, _), (4, _), (5, _), (6, _), (7, _)]) dX4_of_138 (by decide) rfl rfl ?_
                  refine g_aload_n 0 dX4_of_140 rfl rfl ?_
                  refine mu_get_now q314 dX4_of_141 ?_
                  refine g_astore (L' := [(0, _), (1, _), (2, _), (3, _), (4, _), (5, _), (6, _), (7, _)]) dX4_of_144 (by decide) rfl rfl ?_
                  refine g_aload_n 0 dX4_of_146 rfl rfl ?_
                  refine g_aload_n 0 dX4_of_147 rfl rfl ?_
                  refine mu_get_then q316 dX4_of_148 ?_
                  refine mu_put_now q314 dX4_of_151 ?_
                  refine g_aload_n 0 dX4_of_154 rfl rfl ?_
                  refine g_aload dX4_of_155 rfl ?_
                  refine mu_put_then q316 dX4_of_157 ?_
                  refine g_iinc_n (b := 1) (L' := [(0, _), (1, _), (2, _), (3, _), (4, _), (5, _), (6, _), (7, _)]) dX4_of_160 rfl rfl (by decide) rfl rfl ?_
                  refine g_goto (tgt := 37) dX4_of_163 (by decide) ?_
                  refine GG.locals [0, 1, 2, 3, 4, 5] rfl ?_
                  have e7 : w = many1 := by omega
                  rw [e7, hP1] at hsm
                  have hmc := mu_cnt T a0 b0 k
                  have hI : muIdle T a0 b0 (k + 1) = if 0 < cnt (muD T a0 b0 k) (tP T) then 0 else muIdle T a0 b0 k + 1 := rfl
                  rw [if_pos (by omega)] at hI
                  rw [show nI 0 = nI (muIdle T a0 b0 (k + 1)) by rw [hI]]
                  exact ih37 (k + 1) n1 n0 heaps4 rows4 wn2 (by omega) (by omega) (by omega) (fun j hj => (Nat.lt_succ_iff_lt_or_eq.mp hj).elim (fun q => hmin j q) (fun q => by rw [q]; exact c40)) (by omega) hC4 hS4 (fun v hv => (he2 v hv).trans (if_pos (by omega)))
                · skip
                  refine g_iload dX4_of_130 rfl ?_
                  refine g_iconst (v := nI 1) dX4_of_132 (by decide +kernel) ?_
                  refine g_iadd_n dX4_of_133 ?_
                  refine g_goto (tgt := 138) dX4_of_134 (by decide) ?_
                  refine g_istore (L' := [(0, _), (1, _), (2, _), (3, _), (4, _), (5, _), (6, _), (7, _)]) dX4_of_138 (by decide) rfl rfl ?_
                  refine g_aload_n 0 dX4_of_140 rfl rfl ?_
                  refine mu_get_now q314 dX4_of_141 ?_
                  refine g_astore (L' := [(0, _), (1, _), (2, _), (3, _), (4, _), (5, _), (6, _), (7, _)]) dX4_of_144 (by decide) rfl rfl ?_
                  refine g_aload_n 0 dX4_of_146 rfl rfl ?_
                  refine g_aload_n 0 dX4_of_147 rfl rfl ?_
                  refine mu_get_then q316 dX4_of_148 ?_
                  refine mu_put_now q314 dX4_of_151 ?_
                  refine g_aload_n 0 dX4_of_154 rfl rfl ?_
                  refine g_aload dX4_of_155 rfl ?_
                  refine mu_put_then q316 dX4_of_157 ?_
                  refine g_iinc_n (b := 1) (L' := [(0, _), (1, _), (2, _), (3, _), (4, _), (5, _), (6, _), (7, _)]) dX4_of_160 rfl rfl (by decide) rfl rfl ?_
                  refine g_goto (tgt := 37) dX4_of_163 (by decide) ?_
                  refine GG.locals [0, 1, 2, 3, 4, 5] rfl ?_
                  have e7 : w = many1 := by omega
                  rw [e7, hP1] at hsm
                  have hmc := mu_cnt T a0 b0 k
                  have hI : muIdle T a0 b0 (k + 1) = if 0 < cnt (muD T a0 b0 k) (tP T) then 0 else muIdle T a0 b0 k + 1 := rfl
                  rw [if_neg (by omega)] at hI
                  rw [← hI]
                  exact ih37 (k + 1) n1 n0 heaps4 rows4 wn2 (by omega) (by omega) (by omega) (fun j hj => (Nat.lt_succ_iff_lt_or_eq.mp hj).elim (fun q => hmin j q) (fun q => by rw [q]; exact c40)) (by omega) hC4 hS4 (fun v hv => (he2 v hv).trans (if_pos (by omega)))
              · skip
                refine g_aload_n 0 dX4_of_83 rfl rfl ?_
                refine mu_get_now q314 dX4_of_84 ?_
                refine g_iload dX4_of_87 rfl ?_
                refine h_cMi (ctX1_has w (f := rows4 n0) (hw_ix (CoL_row (r := n0) (by omega))) (by omega)) q648 q1555 q106 q647 hy_X1_has rfl ⟨Nat.le_of_ble_eq_true rfl, Nat.le_of_ble_eq_true rfl⟩ ⟨Nat.le_of_ble_eq_true rfl, Nat.le_of_ble_eq_true rfl⟩ rfl (Nat.le_of_ble_eq_true rfl) dX4_of_89 (fun r u hp => ?_)
                obtain rfl := hp
                rw [show lbt (rows4 n0) w = muS T a0 b0 k w from by rw [hS0 w (by omega)]; show (decide (w < many1) && _) = _; rw [decide_eq_true (show w < many1 by omega), Bool.true_and]]
                refine g_aload_n 0 dX4_of_92 rfl rfl ?_
                refine mu_get_then q316 dX4_of_93 ?_
                refine g_iload dX4_of_96 rfl ?_
                refine h_cMi (ctX1_has w (f := rows4 n1) (hw_ix (CoL_row (r := n1) (by omega))) (by omega)) q648 q1555 q106 q647 hy_X1_has rfl ⟨Nat.le_of_ble_eq_true rfl, Nat.le_of_ble_eq_true rfl⟩ ⟨Nat.le_of_ble_eq_true rfl, Nat.le_of_ble_eq_true rfl⟩ rfl (Nat.le_of_ble_eq_true rfl) dX4_of_98 (fun r u hp => ?_)
                obtain rfl := hp
                rw [show lbt (rows4 n1) w = muS T a0 b0 (k + 1) w from by rw [hS4 w (by omega)]; show (decide (w < many1) && _) = _; rw [decide_eq_true (show w < many1 by omega), Bool.true_and]]
                refine g_icmp_ne_b (tgt := 107) dX4_of_101 (by decide) (fun c101 => ?_) (fun c101 => ?_)
                · skip
                  refine g_aload_n 0 dX4_of_107 rfl rfl ?_
                  refine mu_get_when q312 dX4_of_108 ?_
                  refine g_iload dX4_of_111 rfl ?_
                  refine g_iload dX4_of_113 rfl ?_
                  refine mu_st_when (by omega) dX4_of_115 ?_
                  refine g_iconst (v := nI 0) dX4_of_116 (by decide +kernel) ?_
                  refine g_istore (L' := [(0, _), (1, _), (2, _), (3, _), (4, _), (5, _), (6, _), (7, _)]) dX4_of_117 (by decide) rfl rfl ?_
                  refine g_iinc_n (b := 1) (L' := [(0, _), (1, _), (2, _), (3, _), (4, _), (5, _), (6, _), (7, _)]) dX4_of_119 rfl rfl (by decide) rfl rfl ?_
                  refine g_goto (tgt := 74) dX4_of_122 (by decide) ?_
                  have hdd : muD T a0 b0 k w = true := by
                    show (muS T a0 b0 k w && !muS T a0 b0 (k + 1) w) = true
                    have h9 := @muS_sub T a0 b0 k w
                    cases h1 : muS T a0 b0 k w <;> cases h2 : muS T a0 b0 (k + 1) w <;> simp_all
                  refine ih74 (w + 1) 0 _ (by omega) (by omega) (Or.inr ⟨rfl, by rw [cnt_y hdd]; omega⟩) (fun v hv => ?_)
                  by_cases q : v = w
                  · rw [q, up_s, if_pos (Nat.lt_succ_self _)]; show nI k = if muD T a0 b0 k w = true then nI k else _; rw [if_pos hdd]
                  · rw [up_n q, he2 v hv]; by_cases q2 : v < w
                    · rw [if_pos q2, if_pos (by omega)]
                    · rw [if_neg q2, if_neg (by omega)]
                · skip
                  refine g_goto (tgt := 119) dX4_of_104 (by decide) ?_
                  refine g_iinc_n (b := 1) (L' := [(0, _), (1, _), (2, _), (3, _), (4, _), (5, _), (6, _), (7, _)]) dX4_of_119 rfl rfl (by decide) rfl rfl ?_
                  refine g_goto (tgt := 74) dX4_of_122 (by decide) ?_
                  have hdd : muD T a0 b0 k w = false := by
                    show (muS T a0 b0 k w && !muS T a0 b0 (k + 1) w) = false
                    rw [c101]; cases muS T a0 b0 (k + 1) w <;> rfl
                  refine ih74 (w + 1) sm wn2 (by omega) (by omega) (by have hz : cnt (muD T a0 b0 k) (w + 1) = cnt (muD T a0 b0 k) w := (by show cnt _ w + _ = _; rw [if_neg (by rw [hdd]; decide)]; rfl); rw [hz]; exact hsm) (fun v hv => ?_)
                  rw [he2 v hv]
                  by_cases q2 : v < w
                  · rw [if_pos q2, if_pos (by omega)]
                  · by_cases q : v = w
                    · rw [q, if_neg (Nat.lt_irrefl _), if_pos (Nat.lt_succ_self _)]; show _ = if muD T a0 b0 k w = true then nI k else _; rw [if_neg (by rw [hdd]; decide)]
                    · rw [if_neg q2, if_neg (by omega)]
          exact loop74 (many1 + 1) 0 1 wnL (by omega) (by omega) (Or.inl ⟨rfl, rfl⟩) (fun v hv => by rw [if_neg (Nat.not_lt_zero _)]; exact he v hv)
        refine g_aload_n 3 dX4_of_43 rfl rfl ?_
        refine g_iload dX4_of_44 rfl ?_
        refine g_iconst (v := nI 2) dX4_of_46 (by decide +kernel) ?_
        refine g_irem_n dX4_of_47 (by omega) (by decide) (by decide) ?_
        refine g_if_ne_n (tgt := 55) dX4_of_48 (by decide) (by omega) (fun c48 => ?_) (fun c48 => ?_)
        · skip
          refine g_iload_n 2 dX4_of_55 rfl rfl ?_
          exact join56 _ (by rw [if_neg c48])
        · skip
          refine g_iload_n 1 dX4_of_51 rfl rfl ?_
          refine g_goto (tgt := 56) dX4_of_52 (by decide) ?_
          exact join56 _ (by rw [if_pos c48])
  have hc9 : cnt (muS T a0 b0 0) (tP T) ≤ tP T := cnt_le _ _
  exact loop37 (3 * tP T + 3) 0 mn mt heaps1 _ _ (by show 3 * cnt (muS T a0 b0 0) (tP T) + 2 - 0 < _; omega) hmu (Nat.zero_le _) (fun j hj => absurd hj (Nat.not_lt_zero _)) (by show 0 + (3 * cnt (muS T a0 b0 0) (tP T) + 2 - 0) ≤ 5492; omega) (hC1.up hok (by omega)) (hC1.all (fun _ => rfl)) (fun w hw => if_pos (by omega))
set_option maxHeartbeats 4000000 in
/-- two speakers, or it throws -/
theorem ctX1_mustTwo {xa ca cb ra ta : Nat → Nat} {T : Talk} {bL : Bool} {tk : Option Nat} {many : Nat} {xs ys heaps : Nat → Nat} {slips : Nat → Nat → Nat} {rows : Nat → Nat → Int64} {taped fk : Nat} {fa : Int32} {an nx : Nat} {images : Nat → Option Nat} {tape : Nat → Int32} {W : va_W} (a0 b0 : Int32) (hl9 : l.stackTraces = false) (hT : TalkL Y T ta W) (hok : TOK T) : CTB l D clX (tyX Y) yX1_mustTwo cX1_mustTwo 3 none ({ frames := 8, cells := 2, slots := 12, locals := 131 } : Room) [.ref (xa 0), .int a0, .int b0] (HW D clX A (CoL Y ca ra 0 tk many 0 (-1) xs ys heaps slips rows (XoL Y xa ca cb ra (ta 0) bL taped fk fa an nx images tape W))) (Qv (fun (u : Unit) => ∃ i j, iR a0 (tNS T) = some i ∧ iR b0 (tNS T) = some j) (fun (u : Unit) => HW D clX A (CoL Y ca ra 0 tk many 0 (-1) xs ys heaps slips rows (XoL Y xa ca cb ra (ta 0) bL taped fk fa an nx images tape W))) A) (fun (u : Unit) => iR a0 (tNS T) = none ∨ iR b0 (tNS T) = none) (fun _ => "java/util/NoSuchElementException") (fun (u : Unit) (_ : Nat) => HW D clX A (CoL Y ca ra 0 tk many 0 (-1) xs ys heaps slips rows (XoL Y xa ca cb ra (ta 0) bL taped fk fa an nx images tape W))) A := by
  refine CTB.of (L := [(0, .ref (xa 0)), (1, .int a0), (2, .int b0)]) rfl (by decide +kernel) rfl (Nat.le_of_ble_eq_true rfl) ?_
  refine g_aload_n 0 dX1_mustTwo_0 rfl rfl ?_
  refine g_iload_n 1 dX1_mustTwo_1 rfl rfl ?_
  refine x_cVv (ctX1_mustSpeaker _ hl9 hT hok) (lw_V q1399 q1401 qs34 q106 q1402) ⟨rfl, hy_X1_mustSpeaker⟩ rfl ⟨Nat.le_of_ble_eq_true rfl, Nat.le_of_ble_eq_true rfl⟩ ⟨Nat.le_of_ble_eq_true rfl, Nat.le_of_ble_eq_true rfl⟩ rfl (Nat.le_of_ble_eq_true rfl) dX1_mustTwo_2 (fun _ _ _ h => h.1) x_rec (fun u9 q9 hx9 => xg_out () (Nat.le_of_ble_eq_true rfl) (Nat.le_of_ble_eq_true rfl) (Or.inl hx9) rfl (fun _ h => h)) (fun u9 hy9 => ?_)
  obtain ⟨i, hi⟩ := Option.isSome_iff_exists.mp hy9
  obtain ⟨hiL, rfl⟩ := iR_some hi
  refine g_aload_n 0 dX1_mustTwo_5 rfl rfl ?_
  refine g_iload_n 2 dX1_mustTwo_6 rfl rfl ?_
  refine x_cVv (ctX1_mustSpeaker _ hl9 hT hok) (lw_V q1399 q1401 qs34 q106 q1402) ⟨rfl, hy_X1_mustSpeaker⟩ rfl ⟨Nat.le_of_ble_eq_true rfl, Nat.le_of_ble_eq_true rfl⟩ ⟨Nat.le_of_ble_eq_true rfl, Nat.le_of_ble_eq_true rfl⟩ rfl (Nat.le_of_ble_eq_true rfl) dX1_mustTwo_7 (fun _ _ _ h => h.1) x_rec (fun u9 q9 hx9 => xg_out () (Nat.le_of_ble_eq_true rfl) (Nat.le_of_ble_eq_true rfl) (Or.inr hx9) rfl (fun _ h => h)) (fun u9 hy9 => ?_)
  obtain ⟨j, hj⟩ := Option.isSome_iff_exists.mp hy9
  obtain ⟨hjL, rfl⟩ := iR_some hj
  exact GG.ret (g_vret () dX1_mustTwo_10 (Nat.le_of_ble_eq_true rfl) (Nat.le_of_ble_eq_true rfl) (⟨i, j, hi, hj⟩) (fun _ h => h))
set_option maxHeartbeats 4000000 in
theorem ctX1_rest {xa ca cb ra ta : Nat → Nat} {T : Talk} {bL : Bool} {tk : Option Nat} {many : Nat} {xs ys heaps : Nat → Nat} {slips : Nat → Nat → Nat} {rows : Nat → Nat → Int64} {taped fk : Nat} {fa : Int32} {an nx : Nat} {images : Nat → Option Nat} {tape : Nat → Int32} {W : va_W} {mn mt : Nat} {wn : Nat → Int32} (a0 b0 : Int32) (hl9 : l.stackTraces = false) (hT : TalkL Y T ta W) (hok : TOK T) (hL : bL = true → tk = some (ta 0) ∧ LdC T many xs ys slips rows) (hmu : muP mn mt) : CTB l D clX (tyX Y) yX1_rest cX1_rest 3 (some .int) ({ frames := 1817, cells := 3, slots := 18, locals := 54570 } : Room) [.ref (xa 0), .int a0, .int b0] (HW D clX A (CoL Y ca ra 0 tk many 0 (-1) xs ys heaps slips rows (XoL Y xa ca cb ra (ta 0) bL taped fk fa an nx images tape (MuL Y xa ra mn mt wn W)))) (Qi (fun (v : Int32) (u : XS × Nat × Nat × (Nat → Int32)) => isRest T a0 b0 0 v ∧ LdX T (ta 0) u.1 ∧ muP u.2.1 u.2.2.1) (fun (u : XS × Nat × Nat × (Nat → Int32)) => HW D clX A (CoL Y ca ra 0 u.1.2.1 u.1.2.2.1 0 (-1) u.1.2.2.2.1 u.1.2.2.2.2.1 u.1.2.2.2.2.2.1 u.1.2.2.2.2.2.2.1 u.1.2.2.2.2.2.2.2 (XoL Y xa ca cb ra (ta 0) u.1.1 taped fk fa an nx images tape (MuL Y xa ra u.2.1 u.2.2.1 u.2.2.2 W)))) A) (fun (u : Nat × XS) => (∃ v9, isRest T a0 b0 u.1 v9) ∧ (u.1 = 1 ∨ u.1 = 2) ∧ LdX T (ta 0) u.2) (fun u => exL ["java/util/NoSuchElementException", "java/lang/IllegalArgumentException"] u.1) (fun (u : Nat × XS) (_ : Nat) => HW D clX A (CoL Y ca ra 0 u.2.2.1 u.2.2.2.1 0 (-1) u.2.2.2.2.1 u.2.2.2.2.2.1 u.2.2.2.2.2.2.1 u.2.2.2.2.2.2.2.1 u.2.2.2.2.2.2.2.2 (XoL Y xa ca cb ra (ta 0) u.2.1 taped fk fa an nx images tape (MuL Y xa ra mn mt wn W)))) A := by
  refine CTB.of (L := [(0, .ref (xa 0)), (1, .int a0), (2, .int b0)]) rfl (by decide +kernel) rfl (Nat.le_of_ble_eq_true rfl) ?_
  refine g_aload_n 0 dX1_rest_0 rfl rfl ?_
  refine g_iload_n 1 dX1_rest_1 rfl rfl ?_
  refine g_iload_n 2 dX1_rest_2 rfl rfl ?_
  refine x_cVv (ctX1_mustTwo _ _ hl9 (mu_up hT) hok) (lw_V q1540 q1542 qs39 q106 q1543) ⟨rfl, hy_X1_mustTwo⟩ rfl ⟨Nat.le_of_ble_eq_true rfl, Nat.le_of_ble_eq_true rfl⟩ ⟨Nat.le_of_ble_eq_true rfl, Nat.le_of_ble_eq_true rfl⟩ rfl (Nat.le_of_ble_eq_true rfl) dX1_rest_3 (fun _ _ _ h => h.1) x_rec (fun u9 q9 hx9 => xg_out (1, (bL, tk, many, xs, ys, heaps, slips, rows)) (Nat.le_of_ble_eq_true rfl) (Nat.le_of_ble_eq_true rfl) (⟨⟨0, (aTwo_1 hx9).symm, fun e => absurd ((aTwo_1 hx9).symm.trans e) (by decide)⟩, Or.inl rfl, hL⟩) rfl (fun _ h => h)) (fun u9 hy9 => ?_)
  obtain ⟨i, j, hi, hj⟩ := hy9
  obtain ⟨hiL, rfl⟩ := iR_some hi
  obtain ⟨hjL, rfl⟩ := iR_some hj
  have h2 := aTwo_s hi hj
  have hn6 := hok.2.2.2.2.2.1
  refine g_iload_n 1 dX1_rest_6 rfl rfl ?_
  refine g_iload_n 2 dX1_rest_7 rfl rfl ?_
  refine g_icmp_eq_n (tgt := 15) dX1_rest_8 (by decide) (by omega) (by omega) (fun c8 => ?_) (fun c8 => ?_)
  · skip
    refine g_iconst (v := nI 0) dX1_rest_15 (by decide +kernel) ?_
    refine x_cSv (ctX1_right false hl9 (fun H H1 h _ hk => HW.keep h hk)) (lw_S q740 q741 q106 q742) hy_X1_right rfl ⟨Nat.le_of_ble_eq_true rfl, Nat.le_of_ble_eq_true rfl⟩ ⟨Nat.le_of_ble_eq_true rfl, Nat.le_of_ble_eq_true rfl⟩ rfl (Nat.le_of_ble_eq_true rfl) dX1_rest_16 (fun _ _ _ h => h.1) (fun u9 q9 hx9 => xg_out (2, (bL, tk, many, xs, ys, heaps, slips, rows)) (Nat.le_of_ble_eq_true rfl) (Nat.le_of_ble_eq_true rfl) (⟨⟨0, by rw [if_pos c8] at h2; exact ⟨h2.symm, fun e => absurd (h2.symm.trans e) (by decide)⟩⟩, Or.inr rfl, hL⟩) rfl (fun _ h => h)) (fun u9 hy => ?_)
    exact absurd hy (by decide)
  · skip
    refine g_iconst (v := nI 1) dX1_rest_11 (by decide +kernel) ?_
    refine g_goto (tgt := 16) dX1_rest_12 (by decide) ?_
    refine x_cSv (ctX1_right true hl9 (fun H H1 h _ hk => HW.keep h hk)) (lw_S q740 q741 q106 q742) hy_X1_right rfl ⟨Nat.le_of_ble_eq_true rfl, Nat.le_of_ble_eq_true rfl⟩ ⟨Nat.le_of_ble_eq_true rfl, Nat.le_of_ble_eq_true rfl⟩ rfl (Nat.le_of_ble_eq_true rfl) dX1_rest_16 (fun _ _ _ h => h.1) (fun u9 q9 hx9 => absurd hx9 (by decide)) (fun u9 hy => ?_)
    rw [if_neg c8] at h2
    refine g_aload_n 0 dX1_rest_19 rfl rfl ?_
    refine x_get_mute q454 dX1_rest_20 ?_
    refine g_iload_n 1 dX1_rest_23 rfl rfl ?_
    refine g_iload_n 2 dX1_rest_24 rfl rfl ?_
    refine h_cVo (ctX4_of i j hT hok hL hmu hiL hjL) (lw_V q1544 q1545 q1546 q112 q1547) ⟨rfl, hy_X4_of⟩ rfl ⟨Nat.le_of_ble_eq_true rfl, Nat.le_of_ble_eq_true rfl⟩ ⟨Nat.le_of_ble_eq_true rfl, Nat.le_of_ble_eq_true rfl⟩ rfl (Nat.le_of_ble_eq_true rfl) dX1_rest_25 mu_rec (fun u9 hp9 => ?_)
    obtain ⟨⟨many2, xs2, ys2, heaps2, slips2, rows2⟩, mn2, mt2, wn2⟩ := u9
    obtain ⟨hC2, hmu2, K, hK0, hK, hKS, hKW⟩ := hp9
    have hC2 : LdC T many2 xs2 ys2 slips2 rows2 := hC2
    have hmu2 : muP mn2 mt2 := hmu2
    have hKS : isRow (rows2 mn2) (fun w => decide (w < many2) && muS T i j K w) := hKS
    have hKW : ∀ w, w < many2 → wn2 w = muWhen T i j K w := hKW
    have hm2 := hC2.mny
    have hP2 := tP_le hok
    have hmr : mn2 < 156 := by unfold muP at hmu2; omega
    refine mu_get_nowN q315 dX1_rest_28 ?_
    refine h_cSi (ctX1_count (f := rows2 mn2) (hw_ix (CoL_row (r := mn2) hmr))) (lw_S q1439 q698 q106 q699) hy_X1_count rfl ⟨Nat.le_of_ble_eq_true rfl, Nat.le_of_ble_eq_true rfl⟩ ⟨Nat.le_of_ble_eq_true rfl, Nat.le_of_ble_eq_true rfl⟩ rfl (Nat.le_of_ble_eq_true rfl) dX1_rest_31 (fun r u9 hp9 => ?_)
    obtain rfl := hp9
    exact GG.ret (g_iret ((true, some (ta 0), many2, xs2, ys2, heaps2, slips2, rows2), mn2, mt2, wn2) dX1_rest_34 (Nat.le_of_ble_eq_true rfl) (Nat.le_of_ble_eq_true rfl) (⟨⟨h2.symm, fun _ => ⟨K, by rw [nI_clamp (by omega), nI_clamp (by omega)]; exact hK, by rw [nI_clamp (by omega), nI_clamp (by omega), row_cnt hKS (by omega), hm2]⟩⟩, fun _ => ⟨rfl, hC2⟩, hmu2⟩) (fun _ h => h))
set_option maxHeartbeats 4000000 in
theorem ctX1_when {xa ca cb ra ta : Nat → Nat} {T : Talk} {bL : Bool} {tk : Option Nat} {many : Nat} {xs ys heaps : Nat → Nat} {slips : Nat → Nat → Nat} {rows : Nat → Nat → Int64} {taped fk : Nat} {fa : Int32} {an nx : Nat} {images : Nat → Option Nat} {tape : Nat → Int32} {W : va_W} {mn mt : Nat} {wn : Nat → Int32} (a0 b0 w0 : Int32) (hl9 : l.stackTraces = false) (hT : TalkL Y T ta W) (hok : TOK T) (hL : bL = true → tk = some (ta 0) ∧ LdC T many xs ys slips rows) (hmu : muP mn mt) : CTB l D clX (tyX Y) yX1_when cX1_when 4 (some .int) ({ frames := 1817, cells := 4, slots := 24, locals := 54570 } : Room) [.ref (xa 0), .int a0, .int b0, .int w0] (HW D clX A (CoL Y ca ra 0 tk many 0 (-1) xs ys heaps slips rows (XoL Y xa ca cb ra (ta 0) bL taped fk fa an nx images tape (MuL Y xa ra mn mt wn W)))) (Qi (fun (v : Int32) (u : XS × Nat × Nat × (Nat → Int32)) => isWhen T a0 b0 w0 0 v ∧ LdX T (ta 0) u.1 ∧ muP u.2.1 u.2.2.1) (fun (u : XS × Nat × Nat × (Nat → Int32)) => HW D clX A (CoL Y ca ra 0 u.1.2.1 u.1.2.2.1 0 (-1) u.1.2.2.2.1 u.1.2.2.2.2.1 u.1.2.2.2.2.2.1 u.1.2.2.2.2.2.2.1 u.1.2.2.2.2.2.2.2 (XoL Y xa ca cb ra (ta 0) u.1.1 taped fk fa an nx images tape (MuL Y xa ra u.2.1 u.2.2.1 u.2.2.2 W)))) A) (fun (u : Nat × XS) => (∃ v9, isWhen T a0 b0 w0 u.1 v9) ∧ (u.1 = 1 ∨ u.1 = 2) ∧ LdX T (ta 0) u.2) (fun u => exL ["java/util/NoSuchElementException", "java/lang/IllegalArgumentException"] u.1) (fun (u : Nat × XS) (_ : Nat) => HW D clX A (CoL Y ca ra 0 u.2.2.1 u.2.2.2.1 0 (-1) u.2.2.2.2.1 u.2.2.2.2.2.1 u.2.2.2.2.2.2.1 u.2.2.2.2.2.2.2.1 u.2.2.2.2.2.2.2.2 (XoL Y xa ca cb ra (ta 0) u.2.1 taped fk fa an nx images tape (MuL Y xa ra mn mt wn W)))) A := by
  refine CTB.of (L := [(0, .ref (xa 0)), (1, .int a0), (2, .int b0), (3, .int w0)]) rfl (by decide +kernel) rfl (Nat.le_of_ble_eq_true rfl) ?_
  refine g_aload_n 0 dX1_when_0 rfl rfl ?_
  refine g_iload_n 1 dX1_when_1 rfl rfl ?_
  refine g_iload_n 2 dX1_when_2 rfl rfl ?_
  refine x_cVv (ctX1_mustTwo _ _ hl9 (mu_up hT) hok) (lw_V q1540 q1542 qs39 q106 q1543) ⟨rfl, hy_X1_mustTwo⟩ rfl ⟨Nat.le_of_ble_eq_true rfl, Nat.le_of_ble_eq_true rfl⟩ ⟨Nat.le_of_ble_eq_true rfl, Nat.le_of_ble_eq_true rfl⟩ rfl (Nat.le_of_ble_eq_true rfl) dX1_when_3 (fun _ _ _ h => h.1) x_rec (fun u9 q9 hx9 => xg_out (1, (bL, tk, many, xs, ys, heaps, slips, rows)) (Nat.le_of_ble_eq_true rfl) (Nat.le_of_ble_eq_true rfl) (⟨⟨0, by unfold isWhen; cases iR w0 (tP T) with | none => rfl | some j => exact ⟨(aTwo_1 hx9).symm, fun e => absurd ((aTwo_1 hx9).symm.trans e) (by decide)⟩⟩, Or.inl rfl, hL⟩) rfl (fun _ h => h)) (fun u9 hy9 => ?_)
  obtain ⟨i, j, hi, hj⟩ := hy9
  obtain ⟨hiL, rfl⟩ := iR_some hi
  obtain ⟨hjL, rfl⟩ := iR_some hj
  have h2 := aTwo_s hi hj
  have hn6 := hok.2.2.2.2.2.1
  refine g_aload_n 0 dX1_when_6 rfl rfl ?_
  refine g_iload_n 3 dX1_when_7 rfl rfl ?_
  refine x_cVv (ctX1_mustWorld _ hl9 (mu_up hT) hok hL) (lw_V q1370 q1372 qs33 q106 q1373) ⟨rfl, hy_X1_mustWorld⟩ rfl ⟨Nat.le_of_ble_eq_true rfl, Nat.le_of_ble_eq_true rfl⟩ ⟨Nat.le_of_ble_eq_true rfl, Nat.le_of_ble_eq_true rfl⟩ rfl (Nat.le_of_ble_eq_true rfl) dX1_when_8 (fun _ _ _ h => h.1) x_rec (fun u9 q9 hx9 => xg_out (1, (true, some (ta 0), u9.1, u9.2.1, u9.2.2.1, u9.2.2.2.1, u9.2.2.2.2.1, u9.2.2.2.2.2)) (Nat.le_of_ble_eq_true rfl) (Nat.le_of_ble_eq_true rfl) (⟨⟨0, by unfold isWhen; simp only [hx9.1]⟩, Or.inl rfl, fun _ => ⟨rfl, hx9.2⟩⟩) rfl (fun _ h => h)) (fun u9 hy9 => ?_)
  obtain ⟨many1, xs1, ys1, heaps1, slips1, rows1⟩ := u9
  obtain ⟨hs9, hC1⟩ := hy9
  have hC1 : LdC T many1 xs1 ys1 slips1 rows1 := hC1
  have hP1 := hC1.mny
  have hP2 := tP_le hok
  obtain ⟨w, hw⟩ := Option.isSome_iff_exists.mp hs9
  obtain ⟨hwL, rfl⟩ := iR_some hw
  refine g_iload_n 1 dX1_when_11 rfl rfl ?_
  refine g_iload_n 2 dX1_when_12 rfl rfl ?_
  refine g_icmp_eq_n (tgt := 20) dX1_when_13 (by decide) (by omega) (by omega) (fun c13 => ?_) (fun c13 => ?_)
  · skip
    refine g_iconst (v := nI 0) dX1_when_20 (by decide +kernel) ?_
    refine x_cSv (ctX1_right false hl9 (fun H H1 h _ hk => HW.keep h hk)) (lw_S q740 q741 q106 q742) hy_X1_right rfl ⟨Nat.le_of_ble_eq_true rfl, Nat.le_of_ble_eq_true rfl⟩ ⟨Nat.le_of_ble_eq_true rfl, Nat.le_of_ble_eq_true rfl⟩ rfl (Nat.le_of_ble_eq_true rfl) dX1_when_21 (fun _ _ _ h => h.1) (fun u9 q9 hx9 => xg_out (2, (true, some (ta 0), many1, xs1, ys1, heaps1, slips1, rows1)) (Nat.le_of_ble_eq_true rfl) (Nat.le_of_ble_eq_true rfl) (⟨⟨0, by rw [if_pos c13] at h2; unfold isWhen; simp only [hw]; exact ⟨h2.symm, fun e => absurd (h2.symm.trans e) (by decide)⟩⟩, Or.inr rfl, fun _ => ⟨rfl, hC1⟩⟩) rfl (fun _ h => h)) (fun u9 hy => ?_)
    exact absurd hy (by decide)
  · skip
    refine g_iconst (v := nI 1) dX1_when_16 (by decide +kernel) ?_
    refine g_goto (tgt := 21) dX1_when_17 (by decide) ?_
    refine x_cSv (ctX1_right true hl9 (fun H H1 h _ hk => HW.keep h hk)) (lw_S q740 q741 q106 q742) hy_X1_right rfl ⟨Nat.le_of_ble_eq_true rfl, Nat.le_of_ble_eq_true rfl⟩ ⟨Nat.le_of_ble_eq_true rfl, Nat.le_of_ble_eq_true rfl⟩ rfl (Nat.le_of_ble_eq_true rfl) dX1_when_21 (fun _ _ _ h => h.1) (fun u9 q9 hx9 => absurd hx9 (by decide)) (fun u9 hy => ?_)
    rw [if_neg c13] at h2
    refine g_aload_n 0 dX1_when_24 rfl rfl ?_
    refine x_get_mute q454 dX1_when_25 ?_
    refine g_iload_n 1 dX1_when_28 rfl rfl ?_
    refine g_iload_n 2 dX1_when_29 rfl rfl ?_
    refine h_cVo (ctX4_of i j hT hok (fun _ => ⟨rfl, hC1⟩) hmu hiL hjL) (lw_V q1544 q1545 q1546 q112 q1547) ⟨rfl, hy_X4_of⟩ rfl ⟨Nat.le_of_ble_eq_true rfl, Nat.le_of_ble_eq_true rfl⟩ ⟨Nat.le_of_ble_eq_true rfl, Nat.le_of_ble_eq_true rfl⟩ rfl (Nat.le_of_ble_eq_true rfl) dX1_when_30 mu_rec (fun u9 hp9 => ?_)
    obtain ⟨⟨many2, xs2, ys2, heaps2, slips2, rows2⟩, mn2, mt2, wn2⟩ := u9
    obtain ⟨hC2, hmu2, K, hK0, hK, hKS, hKW⟩ := hp9
    have hC2 : LdC T many2 xs2 ys2 slips2 rows2 := hC2
    have hmu2 : muP mn2 mt2 := hmu2
    have hKS : isRow (rows2 mn2) (fun w => decide (w < many2) && muS T i j K w) := hKS
    have hKW : ∀ w, w < many2 → wn2 w = muWhen T i j K w := hKW
    have hm2 := hC2.mny
    have hP2 := tP_le hok
    have hmr : mn2 < 156 := by unfold muP at hmu2; omega
    refine mu_get_whenN q313 dX1_when_33 ?_
    refine g_iload_n 3 dX1_when_36 rfl rfl ?_
    refine mu_ld_when (by omega) dX1_when_37 ?_
    exact GG.ret (g_iret ((true, some (ta 0), many2, xs2, ys2, heaps2, slips2, rows2), mn2, mt2, wn2) dX1_when_38 (Nat.le_of_ble_eq_true rfl) (Nat.le_of_ble_eq_true rfl) (⟨by unfold isWhen; simp only [hw]; exact ⟨h2.symm, fun _ => ⟨K, by rw [nI_clamp (by omega), nI_clamp (by omega)]; exact hK, by rw [nI_clamp (by omega), nI_clamp (by omega)]; exact hKW w (by omega)⟩⟩, fun _ => ⟨rfl, hC2⟩, hmu2⟩) (fun _ h => h))
set_option maxHeartbeats 4000000 in
theorem ctX1_longest {xa ca cb ra ta : Nat → Nat} {T : Talk} {bL : Bool} {tk : Option Nat} {many : Nat} {xs ys heaps : Nat → Nat} {slips : Nat → Nat → Nat} {rows : Nat → Nat → Int64} {taped fk : Nat} {fa : Int32} {an nx : Nat} {images : Nat → Option Nat} {tape : Nat → Int32} {W : va_W} {mn mt : Nat} {wn : Nat → Int32} (a0 b0 wh : Int32) (hl9 : l.stackTraces = false) (hT : TalkL Y T ta W) (hok : TOK T) (hL : bL = true → tk = some (ta 0) ∧ LdC T many xs ys slips rows) (hmu : muP mn mt) : CTB l D clX (tyX Y) yX1_longest cX1_longest 7 (some .int) ({ frames := 1817, cells := 3, slots := 18, locals := 54570 } : Room) [.ref (xa 0), .int a0, .int b0, .int wh] (HW D clX A (CoL Y ca ra 0 tk many 0 (-1) xs ys heaps slips rows (XoL Y xa ca cb ra (ta 0) bL taped fk fa an nx images tape (MuL Y xa ra mn mt wn W)))) (Qi (fun (v : Int32) (u : XS × Nat × Nat × (Nat → Int32)) => isLongest T a0 b0 wh 0 v ∧ LdX T (ta 0) u.1 ∧ muP u.2.1 u.2.2.1) (fun (u : XS × Nat × Nat × (Nat → Int32)) => HW D clX A (CoL Y ca ra 0 u.1.2.1 u.1.2.2.1 0 (-1) u.1.2.2.2.1 u.1.2.2.2.2.1 u.1.2.2.2.2.2.1 u.1.2.2.2.2.2.2.1 u.1.2.2.2.2.2.2.2 (XoL Y xa ca cb ra (ta 0) u.1.1 taped fk fa an nx images tape (MuL Y xa ra u.2.1 u.2.2.1 u.2.2.2 W)))) A) (fun (u : Nat × XS) => (∃ v9, isLongest T a0 b0 wh u.1 v9) ∧ (u.1 = 1 ∨ u.1 = 2) ∧ LdX T (ta 0) u.2) (fun u => exL ["java/util/NoSuchElementException", "java/lang/IllegalArgumentException"] u.1) (fun (u : Nat × XS) (_ : Nat) => HW D clX A (CoL Y ca ra 0 u.2.2.1 u.2.2.2.1 0 (-1) u.2.2.2.2.1 u.2.2.2.2.2.1 u.2.2.2.2.2.2.1 u.2.2.2.2.2.2.2.1 u.2.2.2.2.2.2.2.2 (XoL Y xa ca cb ra (ta 0) u.2.1 taped fk fa an nx images tape (MuL Y xa ra mn mt wn W)))) A := by
  refine CTB.of (L := [(0, .ref (xa 0)), (1, .int a0), (2, .int b0), (3, .int wh)]) rfl (by decide +kernel) rfl (Nat.le_of_ble_eq_true rfl) ?_
  refine g_aload_n 0 dX1_longest_0 rfl rfl ?_
  refine g_iload_n 1 dX1_longest_1 rfl rfl ?_
  refine g_iload_n 2 dX1_longest_2 rfl rfl ?_
  refine x_cVv (ctX1_mustTwo _ _ hl9 (mu_up hT) hok) (lw_V q1540 q1542 qs39 q106 q1543) ⟨rfl, hy_X1_mustTwo⟩ rfl ⟨Nat.le_of_ble_eq_true rfl, Nat.le_of_ble_eq_true rfl⟩ ⟨Nat.le_of_ble_eq_true rfl, Nat.le_of_ble_eq_true rfl⟩ rfl (Nat.le_of_ble_eq_true rfl) dX1_longest_3 (fun _ _ _ h => h.1) x_rec (fun u9 q9 hx9 => xg_out (1, (bL, tk, many, xs, ys, heaps, slips, rows)) (Nat.le_of_ble_eq_true rfl) (Nat.le_of_ble_eq_true rfl) (⟨⟨0, by unfold isLongest; rw [aTwo_1 hx9, if_neg (by decide)]⟩, Or.inl rfl, hL⟩) rfl (fun _ h => h)) (fun u9 hy9 => ?_)
  obtain ⟨i, j, hi, hj⟩ := hy9
  obtain ⟨hiL, rfl⟩ := iR_some hi
  obtain ⟨hjL, rfl⟩ := iR_some hj
  have h2 := aTwo_s hi hj
  have hn6 := hok.2.2.2.2.2.1
  refine g_iload_n 1 dX1_longest_6 rfl rfl ?_
  refine g_iload_n 2 dX1_longest_7 rfl rfl ?_
  refine g_icmp_eq_n (tgt := 24) dX1_longest_8 (by decide) (by omega) (by omega) (fun c8 => ?_) (fun c8 => ?_)
  · skip
    refine g_iconst (v := nI 0) dX1_longest_24 (by decide +kernel) ?_
    refine x_cSv (ctX1_right false hl9 (fun H H1 h _ hk => HW.keep h hk)) (lw_S q740 q741 q106 q742) hy_X1_right rfl ⟨Nat.le_of_ble_eq_true rfl, Nat.le_of_ble_eq_true rfl⟩ ⟨Nat.le_of_ble_eq_true rfl, Nat.le_of_ble_eq_true rfl⟩ rfl (Nat.le_of_ble_eq_true rfl) dX1_longest_25 (fun _ _ _ h => h.1) (fun u9 q9 hx9 => xg_out (2, (bL, tk, many, xs, ys, heaps, slips, rows)) (Nat.le_of_ble_eq_true rfl) (Nat.le_of_ble_eq_true rfl) (⟨⟨0, by rw [if_pos c8] at h2; unfold isLongest; rw [h2, if_neg (by decide)]⟩, Or.inr rfl, hL⟩) rfl (fun _ h => h)) (fun u9 hy => ?_)
    exact absurd hy (by decide)
  · skip
    refine g_iload_n 3 dX1_longest_11 rfl rfl ?_
    refine g_if_eq (tgt := 20) dX1_longest_12 (by decide) (fun c12 => ?_) (fun c12 => ?_)
    · skip
      refine g_iconst (v := nI 1) dX1_longest_20 (by decide +kernel) ?_
      refine g_goto (tgt := 25) dX1_longest_21 (by decide) ?_
      refine x_cSv (ctX1_right true hl9 (fun H H1 h _ hk => HW.keep h hk)) (lw_S q740 q741 q106 q742) hy_X1_right rfl ⟨Nat.le_of_ble_eq_true rfl, Nat.le_of_ble_eq_true rfl⟩ ⟨Nat.le_of_ble_eq_true rfl, Nat.le_of_ble_eq_true rfl⟩ rfl (Nat.le_of_ble_eq_true rfl) dX1_longest_25 (fun _ _ _ h => h.1) (fun u9 q9 hx9 => absurd hx9 (by decide)) (fun u9 hy => ?_)
      rw [if_neg c8] at h2
      have hwh : wh = 0 ∨ wh = 1 := Or.inl c12
      refine g_aload_n 0 dX1_longest_28 rfl rfl ?_
      refine x_get_mute q454 dX1_longest_29 ?_
      refine g_iload_n 1 dX1_longest_32 rfl rfl ?_
      refine g_iload_n 2 dX1_longest_33 rfl rfl ?_
      refine h_cVo (ctX4_of i j hT hok hL hmu hiL hjL) (lw_V q1544 q1545 q1546 q112 q1547) ⟨rfl, hy_X4_of⟩ rfl ⟨Nat.le_of_ble_eq_true rfl, Nat.le_of_ble_eq_true rfl⟩ ⟨Nat.le_of_ble_eq_true rfl, Nat.le_of_ble_eq_true rfl⟩ rfl (Nat.le_of_ble_eq_true rfl) dX1_longest_34 mu_rec (fun u9 hp9 => ?_)
      obtain ⟨⟨many2, xs2, ys2, heaps2, slips2, rows2⟩, mn2, mt2, wn2⟩ := u9
      obtain ⟨hC2, hmu2, K, hK0, hK, hKS, hKW⟩ := hp9
      have hC2 : LdC T many2 xs2 ys2 slips2 rows2 := hC2
      have hmu2 : muP mn2 mt2 := hmu2
      have hKS : isRow (rows2 mn2) (fun w => decide (w < many2) && muS T i j K w) := hKS
      have hKW : ∀ w, w < many2 → wn2 w = muWhen T i j K w := hKW
      have hm2 := hC2.mny
      have hP2 := tP_le hok
      have hmr : mn2 < 156 := by unfold muP at hmu2; omega
      refine g_pop dX1_longest_37 rfl ?_
      refine g_iconst (v := -1) dX1_longest_38 (by decide +kernel) ?_
      refine g_istore (L' := [(0, _), (1, _), (2, _), (3, _), (4, _)]) dX1_longest_39 (by decide) rfl rfl ?_
      refine g_iconst (v := -1) dX1_longest_41 (by decide +kernel) ?_
      refine g_istore (L' := [(0, _), (1, _), (2, _), (3, _), (4, _), (5, _)]) dX1_longest_42 (by decide) rfl rfl ?_
      refine g_iconst (v := nI 0) dX1_longest_44 (by decide +kernel) ?_
      refine g_istore (L' := [(0, _), (1, _), (2, _), (3, _), (4, _), (5, _), (6, _)]) dX1_longest_45 (by decide) rfl rfl ?_
      have loop47 : ∀ (q47 : Nat) (w : Nat), many2 - w < q47 → (w ≤ many2) → GG l D clX (tyX Y) cX1_longest 7 (some .int) RX1 ({ frames := 1817, cells := 3, slots := 18, locals := 54570 } : Room) A (MXN A) (QB (Qi (fun (v : Int32) (u : XS × Nat × Nat × (Nat → Int32)) => isLongest T (nI i) (nI j) wh 0 v ∧ LdX T (ta 0) u.1 ∧ muP u.2.1 u.2.2.1) (fun (u : XS × Nat × Nat × (Nat → Int32)) => HW D clX A (CoL Y ca ra 0 u.1.2.1 u.1.2.2.1 0 (-1) u.1.2.2.2.1 u.1.2.2.2.2.1 u.1.2.2.2.2.2.1 u.1.2.2.2.2.2.2.1 u.1.2.2.2.2.2.2.2 (XoL Y xa ca cb ra (ta 0) u.1.1 taped fk fa an nx images tape (MuL Y xa ra u.2.1 u.2.2.1 u.2.2.2 W)))) A) (fun (u : Nat × XS) => (∃ v9, isLongest T (nI i) (nI j) wh u.1 v9) ∧ (u.1 = 1 ∨ u.1 = 2) ∧ LdX T (ta 0) u.2) (fun u => exL ["java/util/NoSuchElementException", "java/lang/IllegalArgumentException"] u.1) (fun (u : Nat × XS) (_ : Nat) => HW D clX A (CoL Y ca ra 0 u.2.2.1 u.2.2.2.1 0 (-1) u.2.2.2.2.1 u.2.2.2.2.2.1 u.2.2.2.2.2.2.1 u.2.2.2.2.2.2.2.1 u.2.2.2.2.2.2.2.2 (XoL Y xa ca cb ra (ta 0) u.2.1 taped fk fa an nx images tape (MuL Y xa ra mn mt wn W)))) 3 18 A) (HW D clX A (CoL Y ca ra 0 (some (ta 0)) many2 0 (-1) xs2 ys2 heaps2 slips2 rows2 (XoL Y xa ca cb ra (ta 0) true taped fk fa an nx images tape (MuL Y xa ra mn2 mt2 wn2 W)))) (0 + 2 + 1) (0 + 12 + 6) 47 [(0, .ref (xa 0)), (1, .int (nI i)), (2, .int (nI j)), (3, .int wh), (4, .int (bestV (muWhen T i j K) (bestE (muWhen T i j K) w))), (5, .int (bestB (bestE (muWhen T i j K) w))), (6, .int (nI w))] [] := by
        intro q47
        induction q47 with
        | zero => intro w hq47; exact absurd hq47 (Nat.not_lt_zero _)
        | succ q47 ih47 =>
          intro w hq47 hw
          refine g_iload dX1_longest_47 rfl ?_
          refine g_aload_n 0 dX1_longest_49 rfl rfl ?_
          refine x_get_course q445 dX1_longest_50 ?_
          refine co_get_manyN q276 dX1_longest_53 ?_
          refine g_icmp_ge_n (tgt := 99) dX1_longest_56 (by decide) (by omega) (by omega) (fun c56 => ?_) (fun c56 => ?_)
          · skip
            refine g_iload_n 3 dX1_longest_99 rfl rfl ?_
            refine g_if_ne (tgt := 108) dX1_longest_100 (by decide) (fun c100 => ?_) (fun c100 => ?_)
            · skip
              refine g_iload dX1_longest_108 rfl ?_
              exact GG.ret (g_iret ((true, some (ta 0), many2, xs2, ys2, heaps2, slips2, rows2), mn2, mt2, wn2) dX1_longest_110 (Nat.le_of_ble_eq_true rfl) (Nat.le_of_ble_eq_true rfl) (⟨by have hw1 : wh = 1 := hwh.resolve_left c100; unfold isLongest; rw [if_pos h2, nI_clamp (by omega), nI_clamp (by omega), if_neg c100, if_pos hw1]; exact ⟨rfl, K, hK, by rw [show w = tP T by omega]⟩, fun _ => ⟨rfl, hC2⟩, hmu2⟩) (fun _ h => h))
            · skip
              refine g_iload dX1_longest_103 rfl ?_
              refine g_goto (tgt := 110) dX1_longest_105 (by decide) ?_
              exact GG.ret (g_iret ((true, some (ta 0), many2, xs2, ys2, heaps2, slips2, rows2), mn2, mt2, wn2) dX1_longest_110 (Nat.le_of_ble_eq_true rfl) (Nat.le_of_ble_eq_true rfl) (⟨by unfold isLongest; rw [if_pos h2, nI_clamp (by omega), nI_clamp (by omega), if_pos c100]; exact ⟨rfl, K, hK, by rw [show w = tP T by omega]⟩, fun _ => ⟨rfl, hC2⟩, hmu2⟩) (fun _ h => h))
          · skip
            refine g_aload_n 0 dX1_longest_59 rfl rfl ?_
            refine x_get_mute q454 dX1_longest_60 ?_
            refine mu_get_whenN q313 dX1_longest_63 ?_
            refine g_iload dX1_longest_66 rfl ?_
            refine mu_ld_when (by omega) dX1_longest_68 ?_
            refine g_iload dX1_longest_69 rfl ?_
            refine g_icmp_gt (tgt := 77) dX1_longest_71 (by decide) (fun c71 => ?_) (fun c71 => ?_)
            · skip
              refine g_aload_n 0 dX1_longest_77 rfl rfl ?_
              refine x_get_mute q454 dX1_longest_78 ?_
              refine mu_get_whenN q313 dX1_longest_81 ?_
              refine g_iload dX1_longest_84 rfl ?_
              refine mu_ld_when (by omega) dX1_longest_86 ?_
              refine g_istore (L' := [(0, _), (1, _), (2, _), (3, _), (4, _), (5, _), (6, _)]) dX1_longest_87 (by decide) rfl rfl ?_
              refine g_iload dX1_longest_89 rfl ?_
              refine g_istore (L' := [(0, _), (1, _), (2, _), (3, _), (4, _), (5, _), (6, _)]) dX1_longest_91 (by decide) rfl rfl ?_
              refine g_iinc_n (b := 1) (L' := [(0, _), (1, _), (2, _), (3, _), (4, _), (5, _), (6, _)]) dX1_longest_93 rfl rfl (by decide) rfl rfl ?_
              refine g_goto (tgt := 47) dX1_longest_96 (by decide) ?_
              have hs := BE_up (e := (muWhen T i j K)) (n := w) (muW_ge hK0) (by rw [← hKW w (by omega)]; exact c71)
              rw [hKW w (by omega), show muWhen T i j K w = bestV (muWhen T i j K) (bestE (muWhen T i j K) (w + 1)) by rw [hs]; rfl, show nI w = bestB (bestE (muWhen T i j K) (w + 1)) by rw [hs]; rfl]
              exact ih47 (w + 1) (by omega) (by omega)
            · skip
              refine g_goto (tgt := 93) dX1_longest_74 (by decide) ?_
              refine g_iinc_n (b := 1) (L' := [(0, _), (1, _), (2, _), (3, _), (4, _), (5, _), (6, _)]) dX1_longest_93 rfl rfl (by decide) rfl rfl ?_
              refine g_goto (tgt := 47) dX1_longest_96 (by decide) ?_
              have hs := BE_keep (e := (muWhen T i j K)) (n := w) (muW_ge hK0) (by rw [← hKW w (by omega)]; exact c71)
              rw [← hs]
              exact ih47 (w + 1) (by omega) (by omega)
      exact loop47 (many2 + 1) 0 (by omega) (by omega)
    · skip
      refine g_iload_n 3 dX1_longest_15 rfl rfl ?_
      refine g_iconst (v := nI 1) dX1_longest_16 (by decide +kernel) ?_
      refine g_icmp_ne (tgt := 24) dX1_longest_17 (by decide) (fun c17 => ?_) (fun c17 => ?_)
      · skip
        refine g_iconst (v := nI 0) dX1_longest_24 (by decide +kernel) ?_
        refine x_cSv (ctX1_right false hl9 (fun H H1 h _ hk => HW.keep h hk)) (lw_S q740 q741 q106 q742) hy_X1_right rfl ⟨Nat.le_of_ble_eq_true rfl, Nat.le_of_ble_eq_true rfl⟩ ⟨Nat.le_of_ble_eq_true rfl, Nat.le_of_ble_eq_true rfl⟩ rfl (Nat.le_of_ble_eq_true rfl) dX1_longest_25 (fun _ _ _ h => h.1) (fun u9 q9 hx9 => xg_out (2, (bL, tk, many, xs, ys, heaps, slips, rows)) (Nat.le_of_ble_eq_true rfl) (Nat.le_of_ble_eq_true rfl) (⟨⟨0, by rw [if_neg c8] at h2; unfold isLongest; rw [if_pos h2, if_neg c12, if_neg (show ¬ wh = 1 from c17)]⟩, Or.inr rfl, hL⟩) rfl (fun _ h => h)) (fun u9 hy => ?_)
        exact absurd hy (by decide)
      · skip
        refine g_iconst (v := nI 1) dX1_longest_20 (by decide +kernel) ?_
        refine g_goto (tgt := 25) dX1_longest_21 (by decide) ?_
        refine x_cSv (ctX1_right true hl9 (fun H H1 h _ hk => HW.keep h hk)) (lw_S q740 q741 q106 q742) hy_X1_right rfl ⟨Nat.le_of_ble_eq_true rfl, Nat.le_of_ble_eq_true rfl⟩ ⟨Nat.le_of_ble_eq_true rfl, Nat.le_of_ble_eq_true rfl⟩ rfl (Nat.le_of_ble_eq_true rfl) dX1_longest_25 (fun _ _ _ h => h.1) (fun u9 q9 hx9 => absurd hx9 (by decide)) (fun u9 hy => ?_)
        rw [if_neg c8] at h2
        have hwh : wh = 0 ∨ wh = 1 := Or.inr c17
        refine g_aload_n 0 dX1_longest_28 rfl rfl ?_
        refine x_get_mute q454 dX1_longest_29 ?_
        refine g_iload_n 1 dX1_longest_32 rfl rfl ?_
        refine g_iload_n 2 dX1_longest_33 rfl rfl ?_
        refine h_cVo (ctX4_of i j hT hok hL hmu hiL hjL) (lw_V q1544 q1545 q1546 q112 q1547) ⟨rfl, hy_X4_of⟩ rfl ⟨Nat.le_of_ble_eq_true rfl, Nat.le_of_ble_eq_true rfl⟩ ⟨Nat.le_of_ble_eq_true rfl, Nat.le_of_ble_eq_true rfl⟩ rfl (Nat.le_of_ble_eq_true rfl) dX1_longest_34 mu_rec (fun u9 hp9 => ?_)
        obtain ⟨⟨many2, xs2, ys2, heaps2, slips2, rows2⟩, mn2, mt2, wn2⟩ := u9
        obtain ⟨hC2, hmu2, K, hK0, hK, hKS, hKW⟩ := hp9
        have hC2 : LdC T many2 xs2 ys2 slips2 rows2 := hC2
        have hmu2 : muP mn2 mt2 := hmu2
        have hKS : isRow (rows2 mn2) (fun w => decide (w < many2) && muS T i j K w) := hKS
        have hKW : ∀ w, w < many2 → wn2 w = muWhen T i j K w := hKW
        have hm2 := hC2.mny
        have hP2 := tP_le hok
        have hmr : mn2 < 156 := by unfold muP at hmu2; omega
        refine g_pop dX1_longest_37 rfl ?_
        refine g_iconst (v := -1) dX1_longest_38 (by decide +kernel) ?_
        refine g_istore (L' := [(0, _), (1, _), (2, _), (3, _), (4, _)]) dX1_longest_39 (by decide) rfl rfl ?_
        refine g_iconst (v := -1) dX1_longest_41 (by decide +kernel) ?_
        refine g_istore (L' := [(0, _), (1, _), (2, _), (3, _), (4, _), (5, _)]) dX1_longest_42 (by decide) rfl rfl ?_
        refine g_iconst (v := nI 0) dX1_longest_44 (by decide +kernel) ?_
        refine g_istore (L' := [(0, _), (1, _), (2, _), (3, _), (4, _), (5, _), (6, _)]) dX1_longest_45 (by decide) rfl rfl ?_
        have loop47 : ∀ (q47 : Nat) (w : Nat), many2 - w < q47 → (w ≤ many2) → GG l D clX (tyX Y) cX1_longest 7 (some .int) RX1 ({ frames := 1817, cells := 3, slots := 18, locals := 54570 } : Room) A (MXN A) (QB (Qi (fun (v : Int32) (u : XS × Nat × Nat × (Nat → Int32)) => isLongest T (nI i) (nI j) wh 0 v ∧ LdX T (ta 0) u.1 ∧ muP u.2.1 u.2.2.1) (fun (u : XS × Nat × Nat × (Nat → Int32)) => HW D clX A (CoL Y ca ra 0 u.1.2.1 u.1.2.2.1 0 (-1) u.1.2.2.2.1 u.1.2.2.2.2.1 u.1.2.2.2.2.2.1 u.1.2.2.2.2.2.2.1 u.1.2.2.2.2.2.2.2 (XoL Y xa ca cb ra (ta 0) u.1.1 taped fk fa an nx images tape (MuL Y xa ra u.2.1 u.2.2.1 u.2.2.2 W)))) A) (fun (u : Nat × XS) => (∃ v9, isLongest T (nI i) (nI j) wh u.1 v9) ∧ (u.1 = 1 ∨ u.1 = 2) ∧ LdX T (ta 0) u.2) (fun u => exL ["java/util/NoSuchElementException", "java/lang/IllegalArgumentException"] u.1) (fun (u : Nat × XS) (_ : Nat) => HW D clX A (CoL Y ca ra 0 u.2.2.1 u.2.2.2.1 0 (-1) u.2.2.2.2.1 u.2.2.2.2.2.1 u.2.2.2.2.2.2.1 u.2.2.2.2.2.2.2.1 u.2.2.2.2.2.2.2.2 (XoL Y xa ca cb ra (ta 0) u.2.1 taped fk fa an nx images tape (MuL Y xa ra mn mt wn W)))) 3 18 A) (HW D clX A (CoL Y ca ra 0 (some (ta 0)) many2 0 (-1) xs2 ys2 heaps2 slips2 rows2 (XoL Y xa ca cb ra (ta 0) true taped fk fa an nx images tape (MuL Y xa ra mn2 mt2 wn2 W)))) (0 + 2 + 1) (0 + 12 + 6) 47 [(0, .ref (xa 0)), (1, .int (nI i)), (2, .int (nI j)), (3, .int wh), (4, .int (bestV (muWhen T i j K) (bestE (muWhen T i j K) w))), (5, .int (bestB (bestE (muWhen T i j K) w))), (6, .int (nI w))] [] := by
          intro q47
          induction q47 with
          | zero => intro w hq47; exact absurd hq47 (Nat.not_lt_zero _)
          | succ q47 ih47 =>
            intro w hq47 hw
            refine g_iload dX1_longest_47 rfl ?_
            refine g_aload_n 0 dX1_longest_49 rfl rfl ?_
            refine x_get_course q445 dX1_longest_50 ?_
            refine co_get_manyN q276 dX1_longest_53 ?_
            refine g_icmp_ge_n (tgt := 99) dX1_longest_56 (by decide) (by omega) (by omega) (fun c56 => ?_) (fun c56 => ?_)
            · skip
              refine g_iload_n 3 dX1_longest_99 rfl rfl ?_
              refine g_if_ne (tgt := 108) dX1_longest_100 (by decide) (fun c100 => ?_) (fun c100 => ?_)
              · skip
                refine g_iload dX1_longest_108 rfl ?_
                exact GG.ret (g_iret ((true, some (ta 0), many2, xs2, ys2, heaps2, slips2, rows2), mn2, mt2, wn2) dX1_longest_110 (Nat.le_of_ble_eq_true rfl) (Nat.le_of_ble_eq_true rfl) (⟨by have hw1 : wh = 1 := hwh.resolve_left c100; unfold isLongest; rw [if_pos h2, nI_clamp (by omega), nI_clamp (by omega), if_neg c100, if_pos hw1]; exact ⟨rfl, K, hK, by rw [show w = tP T by omega]⟩, fun _ => ⟨rfl, hC2⟩, hmu2⟩) (fun _ h => h))
              · skip
                refine g_iload dX1_longest_103 rfl ?_
                refine g_goto (tgt := 110) dX1_longest_105 (by decide) ?_
                exact GG.ret (g_iret ((true, some (ta 0), many2, xs2, ys2, heaps2, slips2, rows2), mn2, mt2, wn2) dX1_longest_110 (Nat.le_of_ble_eq_true rfl) (Nat.le_of_ble_eq_true rfl) (⟨by unfold isLongest; rw [if_pos h2, nI_clamp (by omega), nI_clamp (by omega), if_pos c100]; exact ⟨rfl, K, hK, by rw [show w = tP T by omega]⟩, fun _ => ⟨rfl, hC2⟩, hmu2⟩) (fun _ h => h))
            · skip
              refine g_aload_n 0 dX1_longest_59 rfl rfl ?_
              refine x_get_mute q454 dX1_longest_60 ?_
              refine mu_get_whenN q313 dX1_longest_63 ?_
              refine g_iload dX1_longest_66 rfl ?_
              refine mu_ld_when (by omega) dX1_longest_68 ?_
              refine g_iload dX1_longest_69 rfl ?_
              refine g_icmp_gt (tgt := 77) dX1_longest_71 (by decide) (fun c71 => ?_) (fun c71 => ?_)
              · skip
                refine g_aload_n 0 dX1_longest_77 rfl rfl ?_
                refine x_get_mute q454 dX1_longest_78 ?_
                refine mu_get_whenN q313 dX1_longest_81 ?_
                refine g_iload dX1_longest_84 rfl ?_
                refine mu_ld_when (by omega) dX1_longest_86 ?_
                refine g_istore (L' := [(0, _), (1, _), (2, _), (3, _), (4, _), (5, _), (6, _)]) dX1_longest_87 (by decide) rfl rfl ?_
                refine g_iload dX1_longest_89 rfl ?_
                refine g_istore (L' := [(0, _), (1, _), (2, _), (3, _), (4, _), (5, _), (6, _)]) dX1_longest_91 (by decide) rfl rfl ?_
                refine g_iinc_n (b := 1) (L' := [(0, _), (1, _), (2, _), (3, _), (4, _), (5, _), (6, _)]) dX1_longest_93 rfl rfl (by decide) rfl rfl ?_
                refine g_goto (tgt := 47) dX1_longest_96 (by decide) ?_
                have hs := BE_up (e := (muWhen T i j K)) (n := w) (muW_ge hK0) (by rw [← hKW w (by omega)]; exact c71)
                rw [hKW w (by omega), show muWhen T i j K w = bestV (muWhen T i j K) (bestE (muWhen T i j K) (w + 1)) by rw [hs]; rfl, show nI w = bestB (bestE (muWhen T i j K) (w + 1)) by rw [hs]; rfl]
                exact ih47 (w + 1) (by omega) (by omega)
              · skip
                refine g_goto (tgt := 93) dX1_longest_74 (by decide) ?_
                refine g_iinc_n (b := 1) (L' := [(0, _), (1, _), (2, _), (3, _), (4, _), (5, _), (6, _)]) dX1_longest_93 rfl rfl (by decide) rfl rfl ?_
                refine g_goto (tgt := 47) dX1_longest_96 (by decide) ?_
                have hs := BE_keep (e := (muWhen T i j K)) (n := w) (muW_ge hK0) (by rw [← hKW w (by omega)]; exact c71)
                rw [← hs]
                exact ih47 (w + 1) (by omega) (by omega)
        exact loop47 (many2 + 1) 0 (by omega) (by omega)
end
