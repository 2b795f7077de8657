/-! TWOSLIPS, 8: rows of answers -/
set_option maxRecDepth 100000
theorem sel_priv {args : Array Value} {s : State} {C : String} {c : ClassId} {y : MethodName} (hc : s.vm.findClass C = some c) (hsame : (Cond.sameMethod y.cls y.cls y.name y.desc).before args s = true) (hp : (Cond.privateMethod y).before args s = true) : (Cond.selects C y y).before args s = true := by
  have hs := hsame
  simp only [Cond.before, Cond.holds, Cond.value] at hs
  cases h1 : s.vm.findClass y.cls with
  | none => simp [h1] at hs
  | some cr =>
    cases h2 : s.methodFound? y.cls y.name y.desc with
    | none => simp [h1, h2] at hs
    | some r =>
      obtain ⟨h3, k, hk, hki⟩ := Cond.sameMethod_spec h1 h2 hsame
      have h3' : s.methodNamed? y = some r := h3
      have hcr : s.vm.findClass y.cls = some r.cls := findClass_of_methodNamed h3'
      cases h1.symm.trans hcr
      cases hm : s.vm.method? r with
      | none => simp [Cond.before, Cond.holds, Cond.value, h3', hm] at hp
      | some meth =>
        have hpr := Cond.privateMethod_at hp r meth h3' hm
        simp [Cond.before, Cond.holds, Cond.value, hc, h2, h3', selectMethod, hm, hpr, hk, hki]
theorem cwQ {R : Room} {s : State} {args : Array Value} {own C : String} {index maxL : Nat} {y : MethodName} {bytes : ByteArray} {ret : Option FieldType} {rm : Room} {c9 : ClassId} (n : Nat) (ht : ∀ w ∈ lw_all, w.before args s = true) (hcode : Cond.code y bytes maxL ret ∈ lw_all) (hlink : Cond.methodLink own index y ∈ lw_all) (hsame : Cond.sameMethod y.cls y.cls y.name y.desc ∈ lw_all) (hpriv : (Cond.privateMethod y).before args s = true) (hini : Cond.initialized y.cls ∈ lw_all) (hinst : Cond.instanceMethod y ∈ lw_all) (hc : s.vm.findClass C = some c9) (hd : y.cls ≠ "java/lang/invoke/MethodHandle" ∧ y.cls ≠ "java/lang/invoke/VarHandle" ∧ (parseMethodDescriptor y.desc).map (fun d => d.parameters.length) = some n) (hR : rm.frames + 1 ≤ R.frames ∧ 8 + (maxL + 11) + rm.locals ≤ R.locals) : va_CU R s args own C y.cls index y y bytes maxL ret (ws_ y bytes maxL ret) rm rm.cells rm.slots n := by
  refine ⟨⟨rfl, rfl, hR.1, hR.2, pay_in ht (lw_meth hcode), List.mem_cons_self⟩, ht _ hcode, ht _ hini, ⟨hd.1, hd.2.1⟩, fun sig h => ?_, ht _ hlink, ht _ hsame, va_Decl.of (ht _ hinst) (ht _ hcode), sel_priv hc (ht _ hsame) hpriv, ht _ hinst⟩
  have h2 := hd.2.2
  rw [h] at h2
  exact (Option.some.inj h2).symm
section
variable {l : Launch} {D : va_G} {cl : List vw_C} {tys : List (ClassId × FieldType)} {cc : ByteArray} {nL : Nat} {rt : Option FieldType} {own : String} {R : Room} {A : Nat → Prop} {MX : Heap → Method → Code → Prop} {QF : List Frame → Array Value → State → State → Prop} {HP : Heap → Prop} {k n pc : Nat} {L : List (Nat × Value)} {st : List Value}
/-- a private method of a class above, on an object of a class below -/
theorem h_cQi {S : Type} {post : Int32 → S → Prop} {HPu : S → Heap → Prop} {y : MethodName} {cc1 : ByteArray} {nL1 : Nat} {rt1 : Option FieldType} {rm1 : Room} {idx n9 ci : Nat} {b : Addr} {r9 : vw_C} {As rest : List Value} (hM : CT l D cl tys y cc1 nL1 rt1 rm1 (.ref b :: As) HP (Qi post HPu A) A) (hcode : Cond.code y cc1 nL1 rt1 ∈ lw_all) (hlink : Cond.methodLink own idx y ∈ lw_all) (hsame : Cond.sameMethod y.cls y.cls y.name y.desc ∈ lw_all) (hpriv : Cond.privateMethod y ∈ lw_tbl) (hini : Cond.initialized y.cls ∈ lw_all) (hinst : Cond.instanceMethod y ∈ lw_all) (hc : cl[ci]? = some r9) (hy : y.cls ≠ "java/lang/invoke/MethodHandle" ∧ y.cls ≠ "java/lang/invoke/VarHandle" ∧ (parseMethodDescriptor y.desc).map (fun d => d.parameters.length) = some n9) (hn : As.length = n9) (hR : rm1.frames + 1 ≤ R.frames ∧ 8 + (nL1 + 11) + rm1.locals ≤ R.locals) (hf : k + rm1.cells ≤ R.cells ∧ n + rm1.slots ≤ R.slots) (hst : st = As.reverse ++ .ref b :: rest) (hcat : (rest.map fun v => v.category).sum ≤ 8) (hd : decode cc pc = .ok (.invokevirtual idx, 3)) (hrecv : ∀ (s : State) (H : Heap), va_K D cl tys s → HP H → ∃ cell : Cell, H[b]? = some cell ∧ cell.vm.isStatics = false ∧ s.vm.findClass r9.1 = some cell.cls)
    (K : ∀ (r : Int32) (u : S), post r u → GG l D cl tys cc nL rt own R A MX QF (HPu u) (k + rm1.cells) (n + rm1.slots) (pc + 3) L (.int r :: rest)) : GG l D cl tys cc nL rt own R A MX QF HP k n pc L st := by
  subst hst
  intro p e s m args below meth c H locs ls B hP hS hl
  refine va_calli (va_runU (As := As) (rest := rest) (b := b) ⟨B.1, B.2.1, B.2.2.1, B.2.2.2.2.2.1, B.2.2.2.2.2.2.1⟩ hM (cwQ n9 B.2.2.2.2.2.2.1 hcode hlink hsame (va_Nw.use rfl (B.2.2.2.2.2.2.2.2.2.1 _ hpriv rfl)) hini hinst ((B.2.2.2.2.2.2.2.1.1 ci r9 hc).2.1) hy hR) ⟨fun a U g mk q => ⟨q.1, q.2.1, va_K.moved (u := U) (U := U.calling g mk a) (Vm.Alike.refl U.vm) q.2.2.1, VX.same (u := U) (U := U.calling g mk a) rfl q.2.2.2⟩, hrecv s H B.2.2.2.2.2.2.2.1 hP, fun U hU hW => ⟨rfl, by rw [hU]; exact hP, va_K.moved hW.alike B.2.2.2.2.2.2.2.1, B.2.2.2.2.2.2.2.2.2.go hS (fun _ h => h) hU hW⟩⟩ rfl hn hl.1 rfl (lv_room hcat) hd hf) hS (fun q _ h => h) (fun _ h => h) (fun r u t H1 locs1 ht hvm hp hb hz hk1 hS1 => K r u hp p e s m args below meth c H1 locs1 ls B ?_ hS1 hl)
  rw [← ht]; exact hb
end
def anyF (T : Talk) (x : Int32) (w : Nat) (al : Bool) (f : Nat → Bool) : Bool := if al = true then snFin T x w f else !snGood T x w f
theorem anyF_hit {T : Talk} {x : Int32} {w s : Nat} {al : Bool} {f : Nat → Bool} (hs : s < tNS T) (hb : sBit x s = true) (hk : ¬ knowF (tP T) (tSl T s) f w = al) : anyF T x w al f = !al := by
  unfold anyF
  cases al with
  | true =>
    rw [if_pos rfl]
    exact decide_eq_false (fun h => hk (h s hs hb))
  | false =>
    rw [if_neg (by decide)]
    have h1 : snGood T x w f = false := decide_eq_false (fun h => hk (h s hs hb))
    rw [h1]
theorem anyF_all {T : Talk} {x : Int32} {w : Nat} {al : Bool} {f : Nat → Bool} (h : ∀ s, s < tNS T → sBit x s = true → knowF (tP T) (tSl T s) f w = al) : anyF T x w al f = al := by
  unfold anyF
  cases al with
  | true => rw [if_pos rfl]; exact decide_eq_true h
  | false =>
    rw [if_neg (by decide)]
    have h1 : snGood T x w f = true := decide_eq_true h
    rw [h1]; rfl
theorem sBit_t {x : Int32} {s : Nat} (h : ¬ ((x >>> (nI s &&& 31)) &&& nI 1) = 0) : sBit x s = true := decide_eq_true ((bxor1 _).resolve_left h)
theorem sBit_f {x : Int32} {s : Nat} (h : ((x >>> (nI s &&& 31)) &&& nI 1) = 0) : sBit x s = false := decide_eq_false (fun q => by rw [h] at q; exact absurd q (by decide))
theorem so_kn {T : Talk} {many s w r : Nat} {xs ys : Nat → Nat} {slips : Nat → Nat → Nat} {rows : Nat → Nat → Int64} {f : Nat → Bool} (hC : LdC T many xs ys slips rows) (hok : TOK T) (hs : s < tNS T) (hw : w < many) (hf : isRow (rows r) (fun w => decide (w < many) && f w)) : knowF many (slips s) (lbt (rows r)) w = knowF (tP T) (tSl T s) f w := by
  have h1 := hC.mny; have h2 := tP_le hok
  rw [knowF_congr (f2 := f) (sl2 := tSl T s) hw (fun v hv => hC.sl hs hv) (fun v hv => by rw [show lbt (rows r) v = (decide (v < many) && f v) from hf v (by omega), decide_eq_true hv, Bool.true_and]), h1]
def soL (Y : Nat → ClassId) (xa ra : Nat → Nat) (inn : Option Nat) (mny wd : Nat) (wan hid : Int32) (rw bs : Nat → Nat) (W : va_W) : va_W :=
  (xa 5, .inr (6, [.ref (xa 6), .ref (xa 7), .ref (xa 8), va_rf inn, .int (nI mny), .ref (xa 0), .int (nI wd), .int wan, .int hid, .ref (xa 0)])) :: (xa 6, rfC (Y 6) 6 (fun j => some (ra (142 + j)))) :: (xa 7, inC Y 5 rw) :: (xa 8, inC Y 5 bs) :: W
theorem so_tl {Y : Nat → ClassId} {xa ra : Nat → Nat} {inn : Option Nat} {mny wd : Nat} {wan hid : Int32} {rw bs : Nat → Nat} {W : va_W} {q : Nat × va_E} (h : q ∈ W) : q ∈ soL Y xa ra inn mny wd wan hid rw bs W := List.mem_cons_of_mem _ (List.mem_cons_of_mem _ (List.mem_cons_of_mem _ (List.mem_cons_of_mem _ h)))
theorem so_up {Y : Nat → ClassId} {xa ra : Nat → Nat} {inn : Option Nat} {mny wd : Nat} {wan hid : Int32} {rw bs : Nat → Nat} {W : va_W} {T : Talk} {ta : Nat → Nat} (h : TalkL Y T ta W) : TalkL Y T ta (soL Y xa ra inn mny wd wan hid rw bs W) := h.up (fun _ => so_tl)
section RosoRows
variable {l : Launch} {D : va_G} {Y : Nat → ClassId} {A : Nat → Prop} {cf xa ca cb ra : Nat → Nat} {b tx : Nat} {bL : Bool} {tk : Option Nat} {many used : Nat} {liar : Int32} {xs ys heaps : Nat → Nat} {slips : Nat → Nat → Nat} {rows : Nat → Nat → Int64} {taped fk : Nat} {fa : Int32} {an nx : Nat} {images : Nat → Option Nat} {tape : Nat → Int32} {W : va_W} {inn : Option Nat} {mny wd : Nat} {wan hid : Int32} {rw bs : Nat → Nat}
variable {cc : ByteArray} {nL : Nat} {rt : Option FieldType} {own : String} {R : Room} {MX : Heap → Method → Code → Prop} {QF : List Frame → Array Value → State → State → Prop} {k n pc mc ms : Nat} {L L' : List (Nat × Value)} {st : List Value}
theorem so_put_in {z : Nat} {idx : Nat} (hq : Cond.fieldLink own idx "TwoSlips$Rows" "in" "LTwoSlips$Course;" ∈ lw_all) (hd : decode cc pc = .ok (.putfield idx, 3)) (K : GG l D clX (tyX Y) cc nL rt own R A MX QF (HW D clX A (CoL Y cf ra b tk many used liar xs ys heaps slips rows (XoL Y xa ca cb ra tx bL taped fk fa an nx images tape (soL Y xa ra (some z) mny wd wan hid rw bs W)))) k n (pc + 3) L st) : GG l D clX (tyX Y) cc nL rt own R A MX QF (HW D clX A (CoL Y cf ra b tk many used liar xs ys heaps slips rows (XoL Y xa ca cb ra tx bL taped fk fa an nx images tape (soL Y xa ra inn mny wd wan hid rw bs W)))) k n pc L (.ref z :: .ref (xa 5) :: st) :=
  w_putf (C := RX6) (T := TX6) (N := 10) (ty := .object "TwoSlips$Course") 3 in_X6 rfl (by decide) hq rfl rfl tyX6 tyX6_ok nmX6 (by decide +kernel) rfl rfl 172 (CoL_at (i := 3)) (CoL_setW (i := 3)) (Nat.le_of_ble_eq_true rfl) hd K
theorem so_put_many {z : Nat} {idx : Nat} (hq : Cond.fieldLink own idx "TwoSlips$Rows" "many" "I" ∈ lw_all) (hd : decode cc pc = .ok (.putfield idx, 3)) (K : GG l D clX (tyX Y) cc nL rt own R A MX QF (HW D clX A (CoL Y cf ra b tk many used liar xs ys heaps slips rows (XoL Y xa ca cb ra tx bL taped fk fa an nx images tape (soL Y xa ra inn z wd wan hid rw bs W)))) k n (pc + 3) L st) : GG l D clX (tyX Y) cc nL rt own R A MX QF (HW D clX A (CoL Y cf ra b tk many used liar xs ys heaps slips rows (XoL Y xa ca cb ra tx bL taped fk fa an nx images tape (soL Y xa ra inn mny wd wan hid rw bs W)))) k n pc L (.int (nI z) :: .ref (xa 5) :: st) :=
  w_putf (C := RX6) (T := TX6) (N := 10) (ty := .int) 4 in_X6 rfl (by decide) hq rfl rfl tyX6 tyX6_ok nmX6 (by decide +kernel) rfl rfl 172 (CoL_at (i := 3)) (CoL_setW (i := 3)) (Nat.le_of_ble_eq_true rfl) hd K
theorem so_put_world {z : Nat} {idx : Nat} (hq : Cond.fieldLink own idx "TwoSlips$Soonest" "world" "I" ∈ lw_all) (hd : decode cc pc = .ok (.putfield idx, 3)) (K : GG l D clX (tyX Y) cc nL rt own R A MX QF (HW D clX A (CoL Y cf ra b tk many used liar xs ys heaps slips rows (XoL Y xa ca cb ra tx bL taped fk fa an nx images tape (soL Y xa ra inn mny z wan hid rw bs W)))) k n (pc + 3) L st) : GG l D clX (tyX Y) cc nL rt own R A MX QF (HW D clX A (CoL Y cf ra b tk many used liar xs ys heaps slips rows (XoL Y xa ca cb ra tx bL taped fk fa an nx images tape (soL Y xa ra inn mny wd wan hid rw bs W)))) k n pc L (.int (nI z) :: .ref (xa 5) :: st) :=
  w_putf (C := RX6) (T := TX6) (N := 10) (ty := .int) 6 in_X6 rfl (by decide) hq rfl rfl tyX6 tyX6_ok nmX6 (by decide +kernel) rfl rfl 172 (CoL_at (i := 3)) (CoL_setW (i := 3)) (Nat.le_of_ble_eq_true rfl) hd K
theorem so_put_worldN {z : Nat} {idx : Nat} {host : String} (hq : Cond.fieldLinkNest own idx "TwoSlips$Soonest" "world" "I" host ∈ lw_tbl) (hd : decode cc pc = .ok (.putfield idx, 3)) (K : GG l D clX (tyX Y) cc nL rt own R A MX QF (HW D clX A (CoL Y cf ra b tk many used liar xs ys heaps slips rows (XoL Y xa ca cb ra tx bL taped fk fa an nx images tape (soL Y xa ra inn mny z wan hid rw bs W)))) k n (pc + 3) L st) : GG l D clX (tyX Y) cc nL rt own R A MX QF (HW D clX A (CoL Y cf ra b tk many used liar xs ys heaps slips rows (XoL Y xa ca cb ra tx bL taped fk fa an nx images tape (soL Y xa ra inn mny wd wan hid rw bs W)))) k n pc L (.int (nI z) :: .ref (xa 5) :: st) :=
  w_putfN (C := RX6) (T := TX6) (N := 10) (ty := .int) 6 in_X6 rfl (by decide) hq rfl rfl tyX6 tyX6_ok nmX6 (by decide +kernel) rfl rfl 172 (CoL_at (i := 3)) (CoL_setW (i := 3)) (Nat.le_of_ble_eq_true rfl) hd K
theorem so_put_wanted {z : Int32} {idx : Nat} (hq : Cond.fieldLink own idx "TwoSlips$Soonest" "wanted" "I" ∈ lw_all) (hd : decode cc pc = .ok (.putfield idx, 3)) (K : GG l D clX (tyX Y) cc nL rt own R A MX QF (HW D clX A (CoL Y cf ra b tk many used liar xs ys heaps slips rows (XoL Y xa ca cb ra tx bL taped fk fa an nx images tape (soL Y xa ra inn mny wd z hid rw bs W)))) k n (pc + 3) L st) : GG l D clX (tyX Y) cc nL rt own R A MX QF (HW D clX A (CoL Y cf ra b tk many used liar xs ys heaps slips rows (XoL Y xa ca cb ra tx bL taped fk fa an nx images tape (soL Y xa ra inn mny wd wan hid rw bs W)))) k n pc L (.int z :: .ref (xa 5) :: st) :=
  w_putf (C := RX6) (T := TX6) (N := 10) (ty := .int) 7 in_X6 rfl (by decide) hq rfl rfl tyX6 tyX6_ok nmX6 (by decide +kernel) rfl rfl 172 (CoL_at (i := 3)) (CoL_setW (i := 3)) (Nat.le_of_ble_eq_true rfl) hd K
theorem so_put_wantedN {z : Int32} {idx : Nat} {host : String} (hq : Cond.fieldLinkNest own idx "TwoSlips$Soonest" "wanted" "I" host ∈ lw_tbl) (hd : decode cc pc = .ok (.putfield idx, 3)) (K : GG l D clX (tyX Y) cc nL rt own R A MX QF (HW D clX A (CoL Y cf ra b tk many used liar xs ys heaps slips rows (XoL Y xa ca cb ra tx bL taped fk fa an nx images tape (soL Y xa ra inn mny wd z hid rw bs W)))) k n (pc + 3) L st) : GG l D clX (tyX Y) cc nL rt own R A MX QF (HW D clX A (CoL Y cf ra b tk many used liar xs ys heaps slips rows (XoL Y xa ca cb ra tx bL taped fk fa an nx images tape (soL Y xa ra inn mny wd wan hid rw bs W)))) k n pc L (.int z :: .ref (xa 5) :: st) :=
  w_putfN (C := RX6) (T := TX6) (N := 10) (ty := .int) 7 in_X6 rfl (by decide) hq rfl rfl tyX6 tyX6_ok nmX6 (by decide +kernel) rfl rfl 172 (CoL_at (i := 3)) (CoL_setW (i := 3)) (Nat.le_of_ble_eq_true rfl) hd K
theorem so_put_hidden {z : Int32} {idx : Nat} (hq : Cond.fieldLink own idx "TwoSlips$Soonest" "hidden" "I" ∈ lw_all) (hd : decode cc pc = .ok (.putfield idx, 3)) (K : GG l D clX (tyX Y) cc nL rt own R A MX QF (HW D clX A (CoL Y cf ra b tk many used liar xs ys heaps slips rows (XoL Y xa ca cb ra tx bL taped fk fa an nx images tape (soL Y xa ra inn mny wd wan z rw bs W)))) k n (pc + 3) L st) : GG l D clX (tyX Y) cc nL rt own R A MX QF (HW D clX A (CoL Y cf ra b tk many used liar xs ys heaps slips rows (XoL Y xa ca cb ra tx bL taped fk fa an nx images tape (soL Y xa ra inn mny wd wan hid rw bs W)))) k n pc L (.int z :: .ref (xa 5) :: st) :=
  w_putf (C := RX6) (T := TX6) (N := 10) (ty := .int) 8 in_X6 rfl (by decide) hq rfl rfl tyX6 tyX6_ok nmX6 (by decide +kernel) rfl rfl 172 (CoL_at (i := 3)) (CoL_setW (i := 3)) (Nat.le_of_ble_eq_true rfl) hd K
theorem so_put_hiddenN {z : Int32} {idx : Nat} {host : String} (hq : Cond.fieldLinkNest own idx "TwoSlips$Soonest" "hidden" "I" host ∈ lw_tbl) (hd : decode cc pc = .ok (.putfield idx, 3)) (K : GG l D clX (tyX Y) cc nL rt own R A MX QF (HW D clX A (CoL Y cf ra b tk many used liar xs ys heaps slips rows (XoL Y xa ca cb ra tx bL taped fk fa an nx images tape (soL Y xa ra inn mny wd wan z rw bs W)))) k n (pc + 3) L st) : GG l D clX (tyX Y) cc nL rt own R A MX QF (HW D clX A (CoL Y cf ra b tk many used liar xs ys heaps slips rows (XoL Y xa ca cb ra tx bL taped fk fa an nx images tape (soL Y xa ra inn mny wd wan hid rw bs W)))) k n pc L (.int z :: .ref (xa 5) :: st) :=
  w_putfN (C := RX6) (T := TX6) (N := 10) (ty := .int) 8 in_X6 rfl (by decide) hq rfl rfl tyX6 tyX6_ok nmX6 (by decide +kernel) rfl rfl 172 (CoL_at (i := 3)) (CoL_setW (i := 3)) (Nat.le_of_ble_eq_true rfl) hd K
theorem so_ld_sets {i : Nat} (hi : i < 6) (hd : decode cc pc = .ok (.aaload, 1)) (K : GG l D clX (tyX Y) cc nL rt own R A MX QF (HW D clX A (CoL Y cf ra b tk many used liar xs ys heaps slips rows (XoL Y xa ca cb ra tx bL taped fk fa an nx images tape (soL Y xa ra inn mny wd wan hid rw bs W)))) k n (pc + 1) L (.ref (ra (142 + i)) :: st)) : GG l D clX (tyX Y) cc nL rt own R A MX QF (HW D clX A (CoL Y cf ra b tk many used liar xs ys heaps slips rows (XoL Y xa ca cb ra tx bL taped fk fa an nx images tape (soL Y xa ra inn mny wd wan hid rw bs W)))) k n pc L (.int (nI i) :: .ref (xa 6) :: st) := g_ldr (cA := Y 6) 6 rfl rfl hi (by decide) hd (hw_mem (co_tl (xo_tl (List.mem_cons_of_mem _ List.mem_cons_self)))) rfl K
theorem so_ld_row {i : Nat} (hi : i < 5) (hd : decode cc pc = .ok (.iaload, 1)) (K : GG l D clX (tyX Y) cc nL rt own R A MX QF (HW D clX A (CoL Y cf ra b tk many used liar xs ys heaps slips rows (XoL Y xa ca cb ra tx bL taped fk fa an nx images tape (soL Y xa ra inn mny wd wan hid rw bs W)))) k n (pc + 1) L (.int (nI (rw i)) :: st)) : GG l D clX (tyX Y) cc nL rt own R A MX QF (HW D clX A (CoL Y cf ra b tk many used liar xs ys heaps slips rows (XoL Y xa ca cb ra tx bL taped fk fa an nx images tape (soL Y xa ra inn mny wd wan hid rw bs W)))) k n pc L (.int (nI i) :: .ref (xa 7) :: st) := g_ldi (cA := Y 0) 0 rfl hi (by decide) hd (hw_mem (co_tl (xo_tl (List.mem_cons_of_mem _ (List.mem_cons_of_mem _ List.mem_cons_self))))) K
theorem so_st_row {i z : Nat} (hi : i < 5) (hd : decode cc pc = .ok (.iastore, 1)) (K : GG l D clX (tyX Y) cc nL rt own R A MX QF (HW D clX A (CoL Y cf ra b tk many used liar xs ys heaps slips rows (XoL Y xa ca cb ra tx bL taped fk fa an nx images tape (soL Y xa ra inn mny wd wan hid (up rw i z) bs W)))) k n (pc + 1) L st) : GG l D clX (tyX Y) cc nL rt own R A MX QF (HW D clX A (CoL Y cf ra b tk many used liar xs ys heaps slips rows (XoL Y xa ca cb ra tx bL taped fk fa an nx images tape (soL Y xa ra inn mny wd wan hid rw bs W)))) k n pc L (.int (nI z) :: .int (nI i) :: .ref (xa 7) :: st) := w_sti (cA := Y 0) 0 rfl hi (by decide) 174 (CoL_at (i := 5)) (by rw [upd_nI]; exact CoL_setW (i := 5)) hd K
theorem so_rec : ∀ (s : State) (H : Heap), va_K D clX (tyX Y) s → HW D clX A (CoL Y cf ra b tk many used liar xs ys heaps slips rows (XoL Y xa ca cb ra tx bL taped fk fa an nx images tape (soL Y xa ra inn mny wd wan hid rw bs W))) H → ∃ cell : Cell, H[xa 5]? = some cell ∧ cell.vm.isStatics = false ∧ s.vm.findClass RX6 = some cell.cls := fun s H hK hP => va_recv hK (hw_mem (co_tl (xo_tl List.mem_cons_self)) H hP) (ci := 6) rfl (q0 := 0) rfl
end RosoRows
def brL (Y : Nat → ClassId) (xa ra : Nat → Nat) (inn : Option Nat) (mny : Nat) (rw bs : Nat → Nat) (W : va_W) : va_W :=
  (xa 9, .inr (7, [.ref (xa 10), .ref (xa 11), .ref (xa 12), va_rf inn, .int (nI mny), .ref (xa 0), .ref (xa 0)])) :: (xa 10, rfC (Y 6) 6 (fun j => some (ra (148 + j)))) :: (xa 11, inC Y 5 rw) :: (xa 12, inC Y 5 bs) :: W
theorem br_tl {Y : Nat → ClassId} {xa ra : Nat → Nat} {inn : Option Nat} {mny : Nat} {rw bs : Nat → Nat} {W : va_W} {q : Nat × va_E} (h : q ∈ W) : q ∈ brL Y xa ra inn mny rw bs W := List.mem_cons_of_mem _ (List.mem_cons_of_mem _ (List.mem_cons_of_mem _ (List.mem_cons_of_mem _ h)))
theorem br_up {Y : Nat → ClassId} {xa ra : Nat → Nat} {inn : Option Nat} {mny : Nat} {rw bs : Nat → Nat} {W : va_W} {T : Talk} {ta : Nat → Nat} (h : TalkL Y T ta W) : TalkL Y T ta (brL Y xa ra inn mny rw bs W) := h.up (fun _ => br_tl)
section RobrRows
variable {l : Launch} {D : va_G} {Y : Nat → ClassId} {A : Nat → Prop} {cf xa ca cb ra : Nat → Nat} {b tx : Nat} {bL : Bool} {tk : Option Nat} {many used : Nat} {liar : Int32} {xs ys heaps : Nat → Nat} {slips : Nat → Nat → Nat} {rows : Nat → Nat → Int64} {taped fk : Nat} {fa : Int32} {an nx : Nat} {images : Nat → Option Nat} {tape : Nat → Int32} {W : va_W} {inn : Option Nat} {mny : Nat} {rw bs : Nat → Nat}
variable {cc : ByteArray} {nL : Nat} {rt : Option FieldType} {own : String} {R : Room} {MX : Heap → Method → Code → Prop} {QF : List Frame → Array Value → State → State → Prop} {k n pc mc ms : Nat} {L L' : List (Nat × Value)} {st : List Value}
theorem br_put_in {z : Nat} {idx : Nat} (hq : Cond.fieldLink own idx "TwoSlips$Rows" "in" "LTwoSlips$Course;" ∈ lw_all) (hd : decode cc pc = .ok (.putfield idx, 3)) (K : GG l D clX (tyX Y) cc nL rt own R A MX QF (HW D clX A (CoL Y cf ra b tk many used liar xs ys heaps slips rows (XoL Y xa ca cb ra tx bL taped fk fa an nx images tape (brL Y xa ra (some z) mny rw bs W)))) k n (pc + 3) L st) : GG l D clX (tyX Y) cc nL rt own R A MX QF (HW D clX A (CoL Y cf ra b tk many used liar xs ys heaps slips rows (XoL Y xa ca cb ra tx bL taped fk fa an nx images tape (brL Y xa ra inn mny rw bs W)))) k n pc L (.ref z :: .ref (xa 9) :: st) :=
  w_putf (C := RX7) (T := TX7) (N := 7) (ty := .object "TwoSlips$Course") 3 in_X7 rfl (by decide) hq rfl rfl tyX7 tyX7_ok nmX7 (by decide +kernel) rfl rfl 172 (CoL_at (i := 3)) (CoL_setW (i := 3)) (Nat.le_of_ble_eq_true rfl) hd K
theorem br_put_many {z : Nat} {idx : Nat} (hq : Cond.fieldLink own idx "TwoSlips$Rows" "many" "I" ∈ lw_all) (hd : decode cc pc = .ok (.putfield idx, 3)) (K : GG l D clX (tyX Y) cc nL rt own R A MX QF (HW D clX A (CoL Y cf ra b tk many used liar xs ys heaps slips rows (XoL Y xa ca cb ra tx bL taped fk fa an nx images tape (brL Y xa ra inn z rw bs W)))) k n (pc + 3) L st) : GG l D clX (tyX Y) cc nL rt own R A MX QF (HW D clX A (CoL Y cf ra b tk many used liar xs ys heaps slips rows (XoL Y xa ca cb ra tx bL taped fk fa an nx images tape (brL Y xa ra inn mny rw bs W)))) k n pc L (.int (nI z) :: .ref (xa 9) :: st) :=
  w_putf (C := RX7) (T := TX7) (N := 7) (ty := .int) 4 in_X7 rfl (by decide) hq rfl rfl tyX7 tyX7_ok nmX7 (by decide +kernel) rfl rfl 172 (CoL_at (i := 3)) (CoL_setW (i := 3)) (Nat.le_of_ble_eq_true rfl) hd K
theorem br_ld_sets {i : Nat} (hi : i < 6) (hd : decode cc pc = .ok (.aaload, 1)) (K : GG l D clX (tyX Y) cc nL rt own R A MX QF (HW D clX A (CoL Y cf ra b tk many used liar xs ys heaps slips rows (XoL Y xa ca cb ra tx bL taped fk fa an nx images tape (brL Y xa ra inn mny rw bs W)))) k n (pc + 1) L (.ref (ra (148 + i)) :: st)) : GG l D clX (tyX Y) cc nL rt own R A MX QF (HW D clX A (CoL Y cf ra b tk many used liar xs ys heaps slips rows (XoL Y xa ca cb ra tx bL taped fk fa an nx images tape (brL Y xa ra inn mny rw bs W)))) k n pc L (.int (nI i) :: .ref (xa 10) :: st) := g_ldr (cA := Y 6) 6 rfl rfl hi (by decide) hd (hw_mem (co_tl (xo_tl (List.mem_cons_of_mem _ List.mem_cons_self)))) rfl K
theorem br_ld_row {i : Nat} (hi : i < 5) (hd : decode cc pc = .ok (.iaload, 1)) (K : GG l D clX (tyX Y) cc nL rt own R A MX QF (HW D clX A (CoL Y cf ra b tk many used liar xs ys heaps slips rows (XoL Y xa ca cb ra tx bL taped fk fa an nx images tape (brL Y xa ra inn mny rw bs W)))) k n (pc + 1) L (.int (nI (rw i)) :: st)) : GG l D clX (tyX Y) cc nL rt own R A MX QF (HW D clX A (CoL Y cf ra b tk many used liar xs ys heaps slips rows (XoL Y xa ca cb ra tx bL taped fk fa an nx images tape (brL Y xa ra inn mny rw bs W)))) k n pc L (.int (nI i) :: .ref (xa 11) :: st) := g_ldi (cA := Y 0) 0 rfl hi (by decide) hd (hw_mem (co_tl (xo_tl (List.mem_cons_of_mem _ (List.mem_cons_of_mem _ List.mem_cons_self))))) K
theorem br_st_row {i z : Nat} (hi : i < 5) (hd : decode cc pc = .ok (.iastore, 1)) (K : GG l D clX (tyX Y) cc nL rt own R A MX QF (HW D clX A (CoL Y cf ra b tk many used liar xs ys heaps slips rows (XoL Y xa ca cb ra tx bL taped fk fa an nx images tape (brL Y xa ra inn mny (up rw i z) bs W)))) k n (pc + 1) L st) : GG l D clX (tyX Y) cc nL rt own R A MX QF (HW D clX A (CoL Y cf ra b tk many used liar xs ys heaps slips rows (XoL Y xa ca cb ra tx bL taped fk fa an nx images tape (brL Y xa ra inn mny rw bs W)))) k n pc L (.int (nI z) :: .int (nI i) :: .ref (xa 11) :: st) := w_sti (cA := Y 0) 0 rfl hi (by decide) 174 (CoL_at (i := 5)) (by rw [upd_nI]; exact CoL_setW (i := 5)) hd K
theorem br_rec : ∀ (s : State) (H : Heap), va_K D clX (tyX Y) s → HW D clX A (CoL Y cf ra b tk many used liar xs ys heaps slips rows (XoL Y xa ca cb ra tx bL taped fk fa an nx images tape (brL Y xa ra inn mny rw bs W))) H → ∃ cell : Cell, H[xa 9]? = some cell ∧ cell.vm.isStatics = false ∧ s.vm.findClass RX7 = some cell.cls := fun s H hK hP => va_recv hK (hw_mem (co_tl (xo_tl List.mem_cons_self)) H hP) (ci := 7) rfl (q0 := 0) rfl
end RobrRows
theorem hy_X6_choices : yX6_choices.cls ≠ "java/lang/invoke/MethodHandle" ∧ yX6_choices.cls ≠ "java/lang/invoke/VarHandle" ∧ (parseMethodDescriptor yX6_choices.desc).map (fun d => d.parameters.length) = some 0 := by decide +kernel
section
variable {l : Launch} {D : va_G} {Y : Nat → ClassId} {A : Nat → Prop}
set_option maxHeartbeats 4000000 in
/-- how many speakers -/
theorem ctX6_choices {xa ca cb ra ta : Nat → Nat} {T : Talk} {bL : Bool} {tk : Option Nat} {many : Nat} {xs ys heaps : Nat → Nat} {slips : Nat → Nat → Nat} {rows : Nat → Nat → Int64} {taped fk : Nat} {fa : Int32} {an nx : Nat} {images : Nat → Option Nat} {tape : Nat → Int32} {W : va_W} {inn : Option Nat} {mny wd : Nat} {wan hid : Int32} {rw bs : Nat → Nat}  (hT : TalkL Y T ta W) : CT l D clX (tyX Y) yX6_choices cX6_choices 1 (some .int) ({ frames := 1, cells := 0, slots := 0, locals := 20 } : Room) [.ref (xa 5)] (HW D clX A (CoL Y ca ra 0 tk many 0 (-1) xs ys heaps slips rows (XoL Y xa ca cb ra (ta 0) bL taped fk fa an nx images tape (soL Y xa ra (some (ca 0)) mny wd wan hid rw bs W)))) (Qi (fun (v : Int32) (u : Unit) => v = nI (tNS T)) (fun (u : Unit) => HW D clX A (CoL Y ca ra 0 tk many 0 (-1) xs ys heaps slips rows (XoL Y xa ca cb ra (ta 0) bL taped fk fa an nx images tape (soL Y xa ra (some (ca 0)) mny wd wan hid rw bs W)))) A) A := by
  obtain ⟨ea1, na1, mc1, hL1⟩ := hT.2.1
  refine CT.of (L := [(0, .ref (xa 5))]) rfl (by decide +kernel) rfl (Nat.le_of_ble_eq_true rfl) ?_
  refine g_aload_n 0 dX6_choices_0 rfl rfl ?_
  refine g_getf (C := RX6) (T := TX6) (N := 10) 9 in_X6 rfl (by decide) q344 rfl dX6_choices_1 ((hw_mem (co_tl (xo_tl List.mem_cons_self)))) rfl ?_
  refine x_get_talkN q443 dX6_choices_4 ?_
  refine g_getfN (C := RX2) (T := TX2) (N := 7) 0 in_X2 rfl (by decide) q205 rfl dX6_choices_7 (co_has _ (xo_tl (so_tl hT.1))) rfl ?_
  refine h_cVi (ctJ2_size (co_has _ (xo_tl (so_tl hL1.1)))) (lw_V q1607 q522 q523 q110 q524) ⟨rfl, hy_J2_size⟩ rfl ⟨Nat.le_of_ble_eq_true rfl, Nat.le_of_ble_eq_true rfl⟩ ⟨Nat.le_of_ble_eq_true rfl, Nat.le_of_ble_eq_true rfl⟩ rfl (Nat.le_of_ble_eq_true rfl) dX6_choices_10 (fun s H hK hP => va_recv hK (co_has _ (xo_tl (so_tl hL1.1)) H hP) (ci := 33) rfl (q0 := 0) rfl) (fun r u hp => ?_)
  obtain rfl := hp
  exact g_iret () dX6_choices_13 (Nat.le_refl _) (Nat.le_refl _) (rfl) (fun _ h => h)
set_option maxHeartbeats 4000000 in
/-- whether one of a set knows, or all -/
theorem ctX6_knowsAny {xa ca cb ra ta : Nat → Nat} {T : Talk} {bL : Bool} {tk : Option Nat} {many : Nat} {xs ys heaps : Nat → Nat} {slips : Nat → Nat → Nat} {rows : Nat → Nat → Int64} {taped fk : Nat} {fa : Int32} {an nx : Nat} {images : Nat → Option Nat} {tape : Nat → Int32} {W : va_W} {inn : Option Nat} {mny wd : Nat} {wan hid : Int32} {rw bs : Nat → Nat} (of0 : Int32) (lv : Nat) (al : Bool) (f : Nat → Bool) (hT : TalkL Y T ta W) (hok : TOK T) (hC : LdC T many xs ys slips rows) (hwd : wd < many) (hlv : lv < 6) (hf : isRow (rows (142 + lv)) (fun w => decide (w < many) && f w)) : CT l D clX (tyX Y) yX6_knowsAny cX6_knowsAny 5 (some .boolean) ({ frames := 2, cells := 0, slots := 0, locals := 46 } : Room) [.ref (xa 5), .int of0, .int (nI lv), .int (bI al)] (HW D clX A (CoL Y ca ra 0 tk many 0 (-1) xs ys heaps slips rows (XoL Y xa ca cb ra (ta 0) bL taped fk fa an nx images tape (soL Y xa ra (some (ca 0)) mny wd wan hid rw bs W)))) (Qi (fun (v : Int32) (u : Unit) => v = bI (anyF T of0 wd al f)) (fun (u : Unit) => HW D clX A (CoL Y ca ra 0 tk many 0 (-1) xs ys heaps slips rows (XoL Y xa ca cb ra (ta 0) bL taped fk fa an nx images tape (soL Y xa ra (some (ca 0)) mny wd wan hid rw bs W)))) A) A := by
  have hn6 := hok.2.2.2.2.2.1
  refine CT.of (L := [(0, .ref (xa 5)), (1, .int of0), (2, .int (nI lv)), (3, .int (bI al))]) rfl (by decide +kernel) rfl (Nat.le_of_ble_eq_true rfl) ?_
  refine g_iconst (v := nI 0) dX6_knowsAny_0 (by decide +kernel) ?_
  refine g_istore (L' := [(0, _), (1, _), (2, _), (3, _), (4, _)]) dX6_knowsAny_1 (by decide) rfl rfl ?_
  have loop3 : ∀ (q3 : Nat) (s : Nat), tNS T - s < q3 → (s ≤ tNS T) → (∀ s9, s9 < s → sBit of0 s9 = true → knowF (tP T) (tSl T s9) f wd = al) → GG l D clX (tyX Y) cX6_knowsAny 5 (some .boolean) RX6 ({ frames := 2, cells := 0, slots := 0, locals := 46 } : Room) A MT (QM (Qi (fun (v : Int32) (u : Unit) => v = bI (anyF T of0 wd al f)) (fun (u : Unit) => HW D clX A (CoL Y ca ra 0 tk many 0 (-1) xs ys heaps slips rows (XoL Y xa ca cb ra (ta 0) bL taped fk fa an nx images tape (soL Y xa ra (some (ca 0)) mny wd wan hid rw bs W)))) A) 0 0 A) (HW D clX A (CoL Y ca ra 0 tk many 0 (-1) xs ys heaps slips rows (XoL Y xa ca cb ra (ta 0) bL taped fk fa an nx images tape (soL Y xa ra (some (ca 0)) mny wd wan hid rw bs W)))) 0 0 3 [(0, .ref (xa 5)), (1, .int of0), (2, .int (nI lv)), (3, .int (bI al)), (4, .int (nI s))] [] := by
    intro q3
    induction q3 with
    | zero => intro s hq3; exact absurd hq3 (Nat.not_lt_zero _)
    | succ q3 ih3 =>
      intro s hq3 hs hi
      refine g_iload dX6_knowsAny_3 rfl ?_
      refine g_aload_n 0 dX6_knowsAny_5 rfl rfl ?_
      refine h_cVi (ctX6_choices hT) (lw_V q1603 q1604 q1605 q114 q1606) ⟨rfl, hy_X6_choices⟩ rfl ⟨Nat.le_of_ble_eq_true rfl, Nat.le_of_ble_eq_true rfl⟩ ⟨Nat.le_of_ble_eq_true rfl, Nat.le_of_ble_eq_true rfl⟩ rfl (Nat.le_of_ble_eq_true rfl) dX6_knowsAny_6 so_rec (fun r u hp => ?_)
      obtain rfl := hp
      refine g_icmp_ge_n (tgt := 63) dX6_knowsAny_9 (by decide) (by omega) (by omega) (fun c9 => ?_) (fun c9 => ?_)
      · skip
        refine g_iload_n 3 dX6_knowsAny_63 rfl rfl ?_
        exact g_zret () dX6_knowsAny_64 (Nat.le_refl _) (Nat.le_refl _) (by rw [anyF_all (fun s9 h9 => hi s9 (by omega))]) (fun _ h => h)
      · skip
        refine g_iload_n 1 dX6_knowsAny_12 rfl rfl ?_
        refine g_iload dX6_knowsAny_13 rfl ?_
        refine g_ishr dX6_knowsAny_15 ?_
        refine g_iconst (v := nI 1) dX6_knowsAny_16 (by decide +kernel) ?_
        refine g_iand dX6_knowsAny_17 ?_
        refine g_if_ne (tgt := 24) dX6_knowsAny_18 (by decide) (fun c18 => ?_) (fun c18 => ?_)
        · skip
          refine g_aload_n 0 dX6_knowsAny_24 rfl rfl ?_
          refine g_getfU (C := RX6) (T := TX6) (N := 10) 3 in_X6 rfl (by decide) q357 q358 dX6_knowsAny_25 ((hw_mem (co_tl (xo_tl List.mem_cons_self)))) rfl ?_
          refine g_iload dX6_knowsAny_28 rfl ?_
          refine g_aload_n 0 dX6_knowsAny_30 rfl rfl ?_
          refine g_getf (C := RX6) (T := TX6) (N := 10) 6 in_X6 rfl (by decide) q338 rfl dX6_knowsAny_31 ((hw_mem (co_tl (xo_tl List.mem_cons_self)))) rfl ?_
          refine g_aload_n 0 dX6_knowsAny_34 rfl rfl ?_
          refine g_getfU (C := RX6) (T := TX6) (N := 10) 0 in_X6 rfl (by decide) q348 q349 dX6_knowsAny_35 ((hw_mem (co_tl (xo_tl List.mem_cons_self)))) rfl ?_
          refine g_iload_n 2 dX6_knowsAny_38 rfl rfl ?_
          refine so_ld_sets (by omega) dX6_knowsAny_39 ?_
          refine h_cVi (ctX3_knowsIn s wd (142 + lv) (tNS T) (hC.ok hok) c9 hok.2.2.2.2.2.1 (by omega) hwd) (lw_V q1608 q1489 q1490 q111 q1491) ⟨rfl, hy_X3_knowsIn⟩ rfl ⟨Nat.le_of_ble_eq_true rfl, Nat.le_of_ble_eq_true rfl⟩ ⟨Nat.le_of_ble_eq_true rfl, Nat.le_of_ble_eq_true rfl⟩ rfl (Nat.le_of_ble_eq_true rfl) dX6_knowsAny_40 co_rec (fun r u hp => ?_)
          obtain rfl := hp
          rw [so_kn hC hok c9 hwd hf]
          refine g_iload_n 3 dX6_knowsAny_43 rfl rfl ?_
          refine g_icmp_eq_b (tgt := 57) dX6_knowsAny_44 (by decide) (fun c44 => ?_) (fun c44 => ?_)
          · skip
            refine g_iinc_n (b := 1) (L' := [(0, _), (1, _), (2, _), (3, _), (4, _)]) dX6_knowsAny_57 rfl rfl (by decide) rfl rfl ?_
            refine g_goto (tgt := 3) dX6_knowsAny_60 (by decide) ?_
            exact ih3 (s + 1) (by omega) (by omega) (fun s9 h9 hb9 => (Nat.lt_succ_iff_lt_or_eq.mp h9).elim (fun q => hi s9 q hb9) (fun q => by subst q; exact c44))
          · skip
            refine g_iload_n 3 dX6_knowsAny_47 rfl rfl ?_
            refine g_if_ne_b (tgt := 55) dX6_knowsAny_48 (by decide) (fun c48 => ?_) (fun c48 => ?_)
            · skip
              refine g_iconst (v := nI 0) dX6_knowsAny_55 (by decide +kernel) ?_
              exact g_zret (b := false) () dX6_knowsAny_56 (Nat.le_refl _) (Nat.le_refl _) (by rw [anyF_hit c9 (sBit_t c18) c44, c48]; rfl) (fun _ h => h)
            · skip
              refine g_iconst (v := nI 1) dX6_knowsAny_51 (by decide +kernel) ?_
              refine g_goto (tgt := 56) dX6_knowsAny_52 (by decide) ?_
              exact g_zret (b := true) () dX6_knowsAny_56 (Nat.le_refl _) (Nat.le_refl _) (by rw [anyF_hit c9 (sBit_t c18) c44, c48]; rfl) (fun _ h => h)
        · skip
          refine g_goto (tgt := 57) dX6_knowsAny_21 (by decide) ?_
          refine g_iinc_n (b := 1) (L' := [(0, _), (1, _), (2, _), (3, _), (4, _)]) dX6_knowsAny_57 rfl rfl (by decide) rfl rfl ?_
          refine g_goto (tgt := 3) dX6_knowsAny_60 (by decide) ?_
          exact ih3 (s + 1) (by omega) (by omega) (fun s9 h9 hb9 => (Nat.lt_succ_iff_lt_or_eq.mp h9).elim (fun q => hi s9 q hb9) (fun q => by subst q; rw [sBit_f c18] at hb9; exact absurd hb9 (by decide)))
  exact loop3 (tNS T + 1) 0 (by omega) (by omega) (fun s9 h9 => absurd h9 (Nat.not_lt_zero _))
end
