/-! CONSTANT TEXTS: rows -/
set_option maxRecDepth 100000
section STRrows
variable {l : Launch} {D : va_G} {cl : List vw_C} {tys : List (ClassId × FieldType)} {cc : ByteArray} {nL : Nat} {rt : Option FieldType} {own : String} {R : Room} {A : Nat → Prop} {MX : Heap → Method → Code → Prop} {QF : List Frame → Array Value → State → State → Prop} {HP : Heap → Prop} {k n pc mc ms : Nat} {L L' : List (Nat × Value)} {st : List Value}
theorem strT_ok : ∀ q ∈ strT, q.2.2.2.1 < 100 ∧ q.2.2.2.2.length = q.2.2.2.1 ∧ ∀ c ∈ q.2.2.2.2, 0 ≤ c ∧ c < 128 := by decide +kernel
theorem VX.str {A : Nat → Prop} {U : State} {H : Heap} (h : VX D A U H) {i : Nat} {q : String × Nat × String × Nat × List Int32} (hq : strT[i]? = some q) : vk_R q.1 q.2.1 q.2.2.1 (D.2 1000 i) U ∧ va_O "java/lang/String" (D.2 1000 i) A U H ∧ va_OF "java/lang/String" "coder" "B" (.int 0) (D.2 1000 i) A U H ∧ va_OF "java/lang/String" "value" "[B" (.ref (D.2 1001 i)) (D.2 1000 i) A U H ∧ va_T .byte (D.2 1001 i) q.2.2.2.1 (fun j => .int (q.2.2.2.2.getD j 0)) A U H :=
  ⟨(h.2.1 i q hq).1, ((h.2.1 i q hq).2.1 0 Nat.one_pos).1, ((h.2.1 i q hq).2.1 0 Nat.one_pos).2.1, ((h.2.1 i q hq).2.1 0 Nat.one_pos).2.2.1, ((h.2.1 i q hq).2.1 0 Nat.one_pos).2.2.2⟩
theorem g_getsX (i : Nat) {C nm d ref : String} {v : Value} {idx : Nat} (hi : (staT D)[i]? = some (C, nm, d, v)) (hl9 : Cond.fieldLink own idx ref nm d ∈ lw_all) (hr : C = ref) (hd : decode cc pc = .ok (.getstatic idx, 3)) (K : GG l D cl tys cc nL rt own R A MX QF HP k n (pc + 3) L (v :: st)) : GG l D cl tys cc nL rt own R A MX QF HP k n pc L st :=
  fun p e s m args below meth c H locs ls B hP hS hl => va_gets B.1 B.2.1 (B.2.2.2.2.2.2.2.2.2.2.2.1 i _ hi) hS B.2.2.2.2.2.1 (B.2.2.2.2.2.2.1 _ hl9) (fun x hx => by rw [← hr]; exact hx) hd (K p e s m args below meth c H locs ls B hP hS hl)
theorem g_getsXq (i : Nat) {C nm d ref : String} {idx : Nat} (hi : staQ[i]? = some (C, nm, d)) (hl9 : Cond.fieldLink own idx ref nm d ∈ lw_all) (hr : C = ref) (hd : decode cc pc = .ok (.getstatic idx, 3)) (K : ∀ z : Option Nat, GG l D cl tys cc nL rt own R A MX QF HP k n (pc + 3) L (va_rf z :: st)) : GG l D cl tys cc nL rt own R A MX QF HP k n pc L st :=
  fun p e s m args below meth c H locs ls B hP hS hl => Or.elim (B.2.2.2.2.2.2.2.2.2.2.2.2.1 i _ hi).1 (fun hz => va_gets B.1 B.2.1 hz hS B.2.2.2.2.2.1 (B.2.2.2.2.2.2.1 _ hl9) (fun x hx => by rw [← hr]; exact hx) hd (K none p e s m args below meth c H locs ls B hP hS hl)) (fun hq => hq.elim fun z hz => va_gets B.1 B.2.1 hz hS B.2.2.2.2.2.1 (B.2.2.2.2.2.2.1 _ hl9) (fun x hx => by rw [← hr]; exact hx) hd (K (some z) p e s m args below meth c H locs ls B hP hS hl))
theorem g_ldcS {i idx : Nat} {tx : String} {ln : Nat} {bs : List Int32} (hq : strT[i]? = some (own, idx, tx, ln, bs)) (hd : decode cc pc = .ok (.ldc idx, 2)) (K : GG l D cl tys cc nL rt own R A MX QF HP k n (pc + 2) L (.ref (D.2 1000 i) :: st)) : GG l D cl tys cc nL rt own R A MX QF HP k n pc L st :=
  fun p e s m args below meth c H locs ls B hP hS hl => va_ldcS B.1 B.2.1 B.2.2.2.2.2.1 (B.2.2.2.2.2.2.2.2.2.str hq).1 hd (K p e s m args below meth c H locs ls B hP hS hl)
theorem g_s_coder {i idx : Nat} {q : String × Nat × String × Nat × List Int32} (hq : strT[i]? = some q) (hl9 : Cond.fieldLink own idx "java/lang/String" "coder" "B" ∈ lw_all) (hd : decode cc pc = .ok (.getfield idx, 3)) (K : GG l D cl tys cc nL rt own R A MX QF HP k n (pc + 3) L (.int 0 :: st)) : GG l D cl tys cc nL rt own R A MX QF HP k n pc L (.ref (D.2 1000 i) :: st) :=
  fun p e s m args below meth c H locs ls B hP hS hl => vk_getf B.1 B.2.1 (B.2.2.2.2.2.2.2.2.2.str hq).2.2.1 hS B.2.2.2.2.2.1 (B.2.2.2.2.2.2.1 _ hl9) (fun _ h9 => h9) hd (K p e s m args below meth c H locs ls B hP hS hl)
theorem g_s_value {i idx : Nat} {q : String × Nat × String × Nat × List Int32} (hq : strT[i]? = some q) (hl9 : Cond.fieldLink own idx "java/lang/String" "value" "[B" ∈ lw_all) (hd : decode cc pc = .ok (.getfield idx, 3)) (K : GG l D cl tys cc nL rt own R A MX QF HP k n (pc + 3) L (.ref (D.2 1001 i) :: st)) : GG l D cl tys cc nL rt own R A MX QF HP k n pc L (.ref (D.2 1000 i) :: st) :=
  fun p e s m args below meth c H locs ls B hP hS hl => vk_getf B.1 B.2.1 (B.2.2.2.2.2.2.2.2.2.str hq).2.2.2.1 hS B.2.2.2.2.2.1 (B.2.2.2.2.2.2.1 _ hl9) (fun _ h9 => h9) hd (K p e s m args below meth c H locs ls B hP hS hl)
theorem g_s_len {i : Nat} {q : String × Nat × String × Nat × List Int32} (hq : strT[i]? = some q) (hd : decode cc pc = .ok (.arraylength, 1)) (K : GG l D cl tys cc nL rt own R A MX QF HP k n (pc + 1) L (.int (nI q.2.2.2.1) :: st)) : GG l D cl tys cc nL rt own R A MX QF HP k n pc L (.ref (D.2 1001 i) :: st) :=
  fun p e s m args below meth c H locs ls B hP hS hl => va_tlen B.1 B.2.1 (B.2.2.2.2.2.2.2.2.2.str hq).2.2.2.2 hS rfl hd (K p e s m args below meth c H locs ls B hP hS hl)
theorem g_s_ld {i j : Nat} {q : String × Nat × String × Nat × List Int32} (hq : strT[i]? = some q) (hj : j < q.2.2.2.1) (hd : decode cc pc = .ok (.baload, 1)) (K : GG l D cl tys cc nL rt own R A MX QF HP k n (pc + 1) L (.int (q.2.2.2.2.getD j 0) :: st)) : GG l D cl tys cc nL rt own R A MX QF HP k n pc L (.int (nI j) :: .ref (D.2 1001 i) :: st) :=
  fun p e s m args below meth c H locs ls B hP hS hl => va_tb B.1 B.2.1 (B.2.2.2.2.2.2.2.2.2.str hq).2.2.2.2 hS (vp_in_nI hj (Nat.lt_trans (strT_ok q (List.mem_of_getElem? hq)).1 (by decide))) (by rw [nI_clamp (Nat.lt_trans (Nat.lt_trans hj (strT_ok q (List.mem_of_getElem? hq)).1) (by decide))]) hd (K p e s m args below meth c H locs ls B hP hS hl)
theorem g_i2c {x v : Int32} (hd : decode cc pc = .ok (.i2c, 1)) (hv : (x.toUInt32 % 65536).toInt32 = v) (K : GG l D cl tys cc nL rt own R A MX QF HP k n (pc + 1) L (.int v :: st)) : GG l D cl tys cc nL rt own R A MX QF HP k n pc L (.int x :: st) :=
  fun p e s m args below meth c H locs ls B hP hS hl => lv_i2c B.1 B.2.1 hd hv (K p e s m args below meth c H locs ls B hP hS hl)
theorem g_nret {S : Type} {ty : FieldType} {post : Int32 → S → Prop} {HPu : S → Heap → Prop} {v : Int32} (u : S) (hd : decode cc pc = .ok (.ireturn, 1)) (hv : narrow ty (.int v) = .int v) (hk : k ≤ mc) (hn : n ≤ ms) (hp : post v u) (hH : ∀ H, HP H → HPu u H) : GG l D cl tys cc nL (some ty) own R A MX (QM (Qi post HPu A) mc ms A) HP k n pc L [.int v] :=
  fun p e s m args below meth c H locs ls B hP hS hl => W.widen hk hn (W.zret B.1 B.2.1 B.2.2.2.1 hv (fun t ht hW => ⟨⟨v, u, rfl, hp, by show HPu u t.heap; rw [ht]; exact hH _ hP⟩, hS.F ht⟩) hS.2.2 hd B.2.2.2.2.1)

/-- a call on a constant text; it makes and changes nothing -/
theorem g_cTi {i : Nat} {q : String × Nat × String × Nat × List Int32} {post : Int32 → Unit → Prop} {y : MethodName} {cc1 : ByteArray} {nL1 : Nat} {rt1 : Option FieldType} {fr lo : Nat} {idx n9 : Nat} {As rest : List Value} (hq : strT[i]? = some q) (hM : CT l D cl tys y cc1 nL1 rt1 { frames := fr, cells := 0, slots := 0, locals := lo } (.ref (D.2 1000 i) :: As) HP (Qi post (fun _ => HP) A) A) (hc9 : y.cls = "java/lang/String") (hT : GoodIn lw_all (wsV own idx y.cls y (ws_ y cc1 nL1 rt1))) (hy : y.cls = y.cls ∧ y.cls ≠ "java/lang/invoke/MethodHandle" ∧ y.cls ≠ "java/lang/invoke/VarHandle" ∧ (parseMethodDescriptor y.desc).map (fun d => d.parameters.length) = some n9) (hn : As.length = n9) (hR : fr + 1 ≤ R.frames ∧ 8 + (nL1 + 11) + lo ≤ R.locals) (hf : k ≤ R.cells ∧ n ≤ R.slots) (hst : st = As.reverse ++ .ref (D.2 1000 i) :: rest) (hcat : (rest.map fun v => v.category).sum ≤ 8) (hd : decode cc pc = .ok (.invokevirtual idx, 3))
    (K : ∀ r : Int32, post r () → GG l D cl tys cc nL rt own R A MX QF HP k n (pc + 3) L (.int r :: rest)) : GG l D cl tys cc nL rt own R A MX QF HP k n pc L st := by
  subst hst
  intro p e s m args below meth c H locs ls B hP hS hl
  have hrecv : ∃ cell : Cell, H[D.2 1000 i]? = some cell ∧ cell.vm.isStatics = false ∧ s.vm.findClass y.cls = some cell.cls := by
    obtain ⟨cell, h1, h2, h3, -⟩ := (B.2.2.2.2.2.2.2.2.2.str hq).2.1.kept hS.2.1
    exact ⟨cell, h1, h2, by rw [hc9]; exact h3⟩
  refine va_calli (va_runV (As := As) (rest := rest) (b := D.2 1000 i) ⟨B.1, B.2.1, B.2.2.1, B.2.2.2.2.2.1, B.2.2.2.2.2.2.1⟩ hM (cwV n9 B.2.2.2.2.2.2.1 hT rfl rfl rfl hy hR) ⟨fun a U g mk q => ⟨q.1, q.2.1, va_K.moved (u := U) (U := U.calling g mk a) (Vm.Alike.refl U.vm) q.2.2.1, VX.same (u := U) (U := U.calling g mk a) rfl q.2.2.2⟩, hrecv, fun U hU hW => ⟨rfl, by rw [hU]; exact hP, va_K.moved hW.alike B.2.2.2.2.2.2.2.1, B.2.2.2.2.2.2.2.2.2.go hS (fun _ h => h) hU hW⟩⟩ rfl hn hl.1 rfl (lv_room hcat) hd hf) hS (fun q _ h => h) (fun _ h => h) (fun r u t H1 locs1 ht hvm hp hb hz hk1 hS1 => K r hp p e s m args below meth c H1 locs1 ls B (by rw [← ht]; exact hb) hS1 hl)
theorem g_cPi {post : Int32 → Unit → Prop} {y : MethodName} {cc1 : ByteArray} {nL1 : Nat} {rt1 : Option FieldType} {fr lo : Nat} {idx n9 : Nat} {As rest : List Value} (hM : CT l D cl tys y cc1 nL1 rt1 { frames := fr, cells := 0, slots := 0, locals := lo } As HP (Qi post (fun _ => HP) A) A) (hT : GoodIn lw_all (va_wsS own idx y (ws_ y cc1 nL1 rt1))) (hy : y.cls ≠ "java/lang/invoke/MethodHandle" ∧ y.cls ≠ "java/lang/invoke/VarHandle" ∧ (parseMethodDescriptor y.desc).map (fun d => d.parameters.length) = some n9) (hn : As.length = n9) (hR : fr + 1 ≤ R.frames ∧ 8 + (nL1 + 11) + lo ≤ R.locals) (hf : k ≤ R.cells ∧ n ≤ R.slots) (hst : st = As.reverse ++ rest) (hcat : (rest.map fun v => v.category).sum ≤ 8) (hd : decode cc pc = .ok (.invokestatic idx, 3))
    (K : ∀ r : Int32, post r () → GG l D cl tys cc nL rt own R A MX QF HP k n (pc + 3) L (.int r :: rest)) : GG l D cl tys cc nL rt own R A MX QF HP k n pc L st :=
  g_cSi hM hT hy hn hR hf hst hcat hd (fun _ h => h) (fun _ h => h) (fun r u hp => GG.mono (K r hp) (fun _ h => h.1))
theorem g_cPv {post : Unit → Prop} {y : MethodName} {cc1 : ByteArray} {nL1 : Nat} {rt1 : Option FieldType} {fr lo : Nat} {idx n9 : Nat} {As rest : List Value} (hM : CT l D cl tys y cc1 nL1 rt1 { frames := fr, cells := 0, slots := 0, locals := lo } As HP (Qv post (fun _ => HP) A) A) (hT : GoodIn lw_all (va_wsS own idx y (ws_ y cc1 nL1 rt1))) (hy : y.cls ≠ "java/lang/invoke/MethodHandle" ∧ y.cls ≠ "java/lang/invoke/VarHandle" ∧ (parseMethodDescriptor y.desc).map (fun d => d.parameters.length) = some n9) (hn : As.length = n9) (hR : fr + 1 ≤ R.frames ∧ 8 + (nL1 + 11) + lo ≤ R.locals) (hf : k ≤ R.cells ∧ n ≤ R.slots) (hst : st = As.reverse ++ rest) (hcat : (rest.map fun v => v.category).sum ≤ 8) (hd : decode cc pc = .ok (.invokestatic idx, 3))
    (K : post () → GG l D cl tys cc nL rt own R A MX QF HP k n (pc + 3) L rest) : GG l D cl tys cc nL rt own R A MX QF HP k n pc L st :=
  g_cSv hM hT hy hn hR hf hst hcat hd (fun _ h => h) (fun _ h => h) (fun u hp => GG.mono (K hp) (fun _ h => h.1))
end STRrows
theorem strT_shr {i : Nat} {q : String × Nat × String × Nat × List Int32} (hq : strT[i]? = some q) : nI q.2.2.2.1 >>> ((0 : Int32) &&& 31) = nI q.2.2.2.1 := by
  have h := (strT_ok q (List.mem_of_getElem? hq)).1
  have h2 : ∀ k, k < 100 → nI k >>> ((0 : Int32) &&& 31) = nI k := by decide +kernel
  exact h2 _ h
theorem strT_chr {i j : Nat} {q : String × Nat × String × Nat × List Int32} (hq : strT[i]? = some q) (hj : j < q.2.2.2.1) : ∃ c : Nat, c < 128 ∧ q.2.2.2.2.getD j 0 = nI c ∧ nI c &&& nI 255 = nI c ∧ ((nI c).toUInt32 % 65536).toInt32 = nI c ∧ narrow .char (.int (nI c)) = .int (nI c) := by
  obtain ⟨h1, h2, h3⟩ := strT_ok q (List.mem_of_getElem? hq)
  have hj2 : j < q.2.2.2.2.length := by omega
  have hm : q.2.2.2.2.getD j 0 ∈ q.2.2.2.2 := by
    rw [List.getD_eq_getElem?_getD, List.getElem?_eq_getElem hj2]; exact List.getElem_mem hj2
  obtain ⟨h4, h5⟩ := h3 _ hm
  have h6 : 0 ≤ (q.2.2.2.2.getD j 0).toInt := by simpa using Int32.le_iff_toInt_le.mp h4
  have h7 : (q.2.2.2.2.getD j 0).toInt < 128 := by simpa using Int32.lt_iff_toInt_lt.mp h5
  refine ⟨(q.2.2.2.2.getD j 0).toInt.toNat, by omega, ?_, ?_⟩
  · apply Int32.toInt_inj.mp
    rw [nI_toInt (by omega)]; omega
  · have h8 : ∀ c, c < 128 → nI c &&& nI 255 = nI c ∧ ((nI c).toUInt32 % 65536).toInt32 = nI c ∧ (nI c).toUInt32.toUInt16.toUInt32.toInt32 = nI c := by decide +kernel
    obtain ⟨h9, h10, h11⟩ := h8 _ (show (q.2.2.2.2.getD j 0).toInt.toNat < 128 by omega)
    exact ⟨h9, h10, by show Value.int _ = _; exact congrArg Value.int h11⟩
section STRc
variable {l : Launch} {D : va_G} {cl : List vw_C} {tys : List (ClassId × FieldType)} {A : Nat → Prop} {HP : Heap → Prop} {i : Nat} {q : String × Nat × String × Nat × List Int32}
theorem ctJ7_coder (hq : strT[i]? = some q) : CT l D cl tys yJ7_coder cJ7_coder 1 (some .byte) ({ frames := 0, cells := 0, slots := 0, locals := 0 } : Room) [.ref (D.2 1000 i)] HP (Qi (fun (v : Int32) (_ : Unit) => v = 0) (fun (_ : Unit) => HP) A) A := by
  refine CT.of (own := RJ7) (L := [(0, .ref (D.2 1000 i))]) rfl (by decide +kernel) rfl (Nat.le_of_ble_eq_true rfl) ?_
  refine g_getsX (v := .int 1) 0 rfl q894 rfl dJ7_coder_0 ?_
  refine GG.topi (y := nI 1) rfl ?_
  refine g_if_eq_n (tgt := 13) dJ7_coder_3 (by decide) (by decide) (fun h => absurd h (by decide)) (fun _ => ?_)
  refine g_aload_n 0 dJ7_coder_6 rfl rfl ?_
  refine g_s_coder hq q2477 dJ7_coder_7 ?_
  refine g_goto (tgt := 14) dJ7_coder_10 (by decide) ?_
  exact g_nret () dJ7_coder_14 (rfl) (Nat.le_refl _) (Nat.le_refl _) (rfl) (fun _ h => h)
theorem ctJ7_isLatin1 (hq : strT[i]? = some q) : CT l D cl tys yJ7_isLatin1 cJ7_isLatin1 1 (some .boolean) ({ frames := 0, cells := 0, slots := 0, locals := 0 } : Room) [.ref (D.2 1000 i)] HP (Qi (fun (v : Int32) (_ : Unit) => v = nI 1) (fun (_ : Unit) => HP) A) A := by
  refine CT.of (own := RJ7) (L := [(0, .ref (D.2 1000 i))]) rfl (by decide +kernel) rfl (Nat.le_of_ble_eq_true rfl) ?_
  refine g_getsX (v := .int 1) 0 rfl q894 rfl dJ7_isLatin1_0 ?_
  refine GG.topi (y := nI 1) rfl ?_
  refine g_if_eq_n (tgt := 17) dJ7_isLatin1_3 (by decide) (by decide) (fun h => absurd h (by decide)) (fun _ => ?_)
  refine g_aload_n 0 dJ7_isLatin1_6 rfl rfl ?_
  refine g_s_coder hq q2477 dJ7_isLatin1_7 ?_
  refine GG.topi (y := nI 0) rfl ?_
  refine g_if_ne_n (tgt := 17) dJ7_isLatin1_10 (by decide) (by decide) (fun h => absurd h (by decide)) (fun _ => ?_)
  refine g_iconst (v := nI 1) dJ7_isLatin1_13 (by decide +kernel) ?_
  refine g_goto (tgt := 18) dJ7_isLatin1_14 (by decide) ?_
  exact g_nret () dJ7_isLatin1_18 (rfl) (Nat.le_refl _) (Nat.le_refl _) (rfl) (fun _ h => h)
theorem kvJ7_J7_coder_335 : GoodIn lw_all (wsV RJ7 335 yJ7_coder.cls yJ7_coder (ws_ yJ7_coder cJ7_coder 1 (some .byte))) := lw_V q890 q891 q892 q124 q893
theorem kyJ7_J7_coder_335 : yJ7_coder.cls = yJ7_coder.cls ∧ yJ7_coder.cls ≠ "java/lang/invoke/MethodHandle" ∧ yJ7_coder.cls ≠ "java/lang/invoke/VarHandle" ∧ (parseMethodDescriptor yJ7_coder.desc).map (fun d => d.parameters.length) = some 0 := by decide +kernel
theorem ctJ7_length (hq : strT[i]? = some q) : CT l D cl tys yJ7_length cJ7_length 1 (some .int) ({ frames := 1, cells := 0, slots := 0, locals := 20 } : Room) [.ref (D.2 1000 i)] HP (Qi (fun (v : Int32) (_ : Unit) => v = nI q.2.2.2.1) (fun (_ : Unit) => HP) A) A := by
  refine CT.of (own := RJ7) (L := [(0, .ref (D.2 1000 i))]) rfl (by decide +kernel) rfl (Nat.le_of_ble_eq_true rfl) ?_
  refine g_aload_n 0 dJ7_length_0 rfl rfl ?_
  refine g_s_value hq q2476 dJ7_length_1 ?_
  refine g_s_len hq dJ7_length_4 ?_
  refine g_aload_n 0 dJ7_length_5 rfl rfl ?_
  refine g_cTi hq (ctJ7_coder hq) rfl kvJ7_J7_coder_335 kyJ7_J7_coder_335 rfl ⟨Nat.le_of_ble_eq_true rfl, Nat.le_of_ble_eq_true rfl⟩ ⟨Nat.zero_le _, Nat.zero_le _⟩ rfl (Nat.le_of_ble_eq_true rfl) dJ7_length_6 (fun r hr => ?_)
  obtain rfl := hr
  refine g_ishr dJ7_length_9 ?_
  refine GG.topi (show _ = nI q.2.2.2.1 from strT_shr hq) ?_
  exact g_iret () dJ7_length_10 (Nat.le_refl _) (Nat.le_refl _) rfl (fun _ h => h)
theorem ctJ9_checkIndex {a b z : Nat} (hab : a < b) (hb : b < 2 ^ 31) : CT l D cl tys yJ9_checkIndex cJ9_checkIndex 3 (some .int) ({ frames := 0, cells := 0, slots := 0, locals := 0 } : Room) [.int (nI a), .int (nI b), .ref z] HP (Qi (fun (v : Int32) (_ : Unit) => v = nI a) (fun (_ : Unit) => HP) A) A := by
  refine CT.of (own := RJ9) (L := [(0, .int (nI a)), (1, .int (nI b)), (2, .ref z)]) rfl (by decide +kernel) rfl (Nat.le_of_ble_eq_true rfl) ?_
  refine g_iload_n 0 dJ9_checkIndex_0 rfl rfl ?_
  refine g_if_lt_n (tgt := 9) dJ9_checkIndex_1 (by decide) (by omega) ?_
  refine g_iload_n 0 dJ9_checkIndex_4 rfl rfl ?_
  refine g_iload_n 1 dJ9_checkIndex_5 rfl rfl ?_
  refine g_icmp_lt_n (tgt := 16) dJ9_checkIndex_6 (by decide) (by omega) (by omega) (fun c6 => ?_) (fun c6 => ?_)
  · skip
    refine g_iload_n 0 dJ9_checkIndex_16 rfl rfl ?_
    exact g_iret () dJ9_checkIndex_17 (Nat.le_refl _) (Nat.le_refl _) rfl (fun _ h => h)
  · skip
    exact absurd c6 (by omega)
theorem ctJ9_checkIndexN {a b : Nat} (hab : a < b) (hb : b < 2 ^ 31) : CT l D cl tys yJ9_checkIndex cJ9_checkIndex 3 (some .int) ({ frames := 0, cells := 0, slots := 0, locals := 0 } : Room) [.int (nI a), .int (nI b), .null] HP (Qi (fun (v : Int32) (_ : Unit) => v = nI a) (fun (_ : Unit) => HP) A) A := by
  refine CT.of (own := RJ9) (L := [(0, .int (nI a)), (1, .int (nI b)), (2, .null)]) rfl (by decide +kernel) rfl (Nat.le_of_ble_eq_true rfl) ?_
  refine g_iload_n 0 dJ9_checkIndex_0 rfl rfl ?_
  refine g_if_lt_n (tgt := 9) dJ9_checkIndex_1 (by decide) (by omega) ?_
  refine g_iload_n 0 dJ9_checkIndex_4 rfl rfl ?_
  refine g_iload_n 1 dJ9_checkIndex_5 rfl rfl ?_
  refine g_icmp_lt_n (tgt := 16) dJ9_checkIndex_6 (by decide) (by omega) (by omega) (fun c6 => ?_) (fun c6 => ?_)
  · skip
    refine g_iload_n 0 dJ9_checkIndex_16 rfl rfl ?_
    exact g_iret () dJ9_checkIndex_17 (Nat.le_refl _) (Nat.le_refl _) rfl (fun _ h => h)
  · skip
    exact absurd c6 (by omega)
theorem ctJ9_checkIndexR {a b : Nat} {z : Option Nat} (hab : a < b) (hb : b < 2 ^ 31) : CT l D cl tys yJ9_checkIndex cJ9_checkIndex 3 (some .int) ({ frames := 0, cells := 0, slots := 0, locals := 0 } : Room) [.int (nI a), .int (nI b), va_rf z] HP (Qi (fun (v : Int32) (_ : Unit) => v = nI a) (fun (_ : Unit) => HP) A) A := by
  cases z with
  | none => exact ctJ9_checkIndexN hab hb
  | some z => exact ctJ9_checkIndex hab hb
theorem ksJ7_J9_checkIndex_1059 : GoodIn lw_all (va_wsS RJ7 1059 yJ9_checkIndex (ws_ yJ9_checkIndex cJ9_checkIndex 3 (some .int))) := lw_S q916 q537 q126 q538
theorem kyJ7_J9_checkIndex_1059 : yJ9_checkIndex.cls ≠ "java/lang/invoke/MethodHandle" ∧ yJ9_checkIndex.cls ≠ "java/lang/invoke/VarHandle" ∧ (parseMethodDescriptor yJ9_checkIndex.desc).map (fun d => d.parameters.length) = some 3 := by decide +kernel
theorem ctJ7_checkIndex {a b : Nat} (hab : a < b) (hb : b < 2 ^ 31) : CT l D cl tys yJ7_checkIndex cJ7_checkIndex 2 none ({ frames := 1, cells := 0, slots := 0, locals := 22 } : Room) [.int (nI a), .int (nI b)] HP (Qv (fun (_ : Unit) => True) (fun (_ : Unit) => HP) A) A := by
  refine CT.of (own := RJ7) (L := [(0, .int (nI a)), (1, .int (nI b))]) rfl (by decide +kernel) rfl (Nat.le_of_ble_eq_true rfl) ?_
  refine g_iload_n 0 dJ7_checkIndex_0 rfl rfl ?_
  refine g_iload_n 1 dJ7_checkIndex_1 rfl rfl ?_
  refine g_getsXq 0 rfl q914 rfl dJ7_checkIndex_2 (fun z => ?_)
  refine g_cPi (ctJ9_checkIndexR hab hb) ksJ7_J9_checkIndex_1059 kyJ7_J9_checkIndex_1059 rfl ⟨Nat.le_of_ble_eq_true rfl, Nat.le_of_ble_eq_true rfl⟩ ⟨Nat.zero_le _, Nat.zero_le _⟩ rfl (Nat.le_of_ble_eq_true rfl) dJ7_checkIndex_5 (fun r hr => ?_)
  refine g_pop dJ7_checkIndex_8 rfl ?_
  exact g_vret () dJ7_checkIndex_9 (Nat.le_refl _) (Nat.le_refl _) trivial (fun _ h => h)
theorem ksJ8_J7_checkIndex_9 : GoodIn lw_all (va_wsS RJ8 9 yJ7_checkIndex (ws_ yJ7_checkIndex cJ7_checkIndex 2 none)) := lw_S q911 q912 q124 q913
theorem kyJ8_J7_checkIndex_9 : yJ7_checkIndex.cls ≠ "java/lang/invoke/MethodHandle" ∧ yJ7_checkIndex.cls ≠ "java/lang/invoke/VarHandle" ∧ (parseMethodDescriptor yJ7_checkIndex.desc).map (fun d => d.parameters.length) = some 2 := by decide +kernel
theorem ctJ8_charAt (hq : strT[i]? = some q) {j : Nat} (hj : j < q.2.2.2.1) : CT l D cl tys yJ8_charAt cJ8_charAt 2 (some .char) ({ frames := 2, cells := 0, slots := 0, locals := 43 } : Room) [.ref (D.2 1001 i), .int (nI j)] HP (Qi (fun (v : Int32) (_ : Unit) => v = q.2.2.2.2.getD j 0) (fun (_ : Unit) => HP) A) A := by
  refine CT.of (own := RJ8) (L := [(0, .ref (D.2 1001 i)), (1, .int (nI j))]) rfl (by decide +kernel) rfl (Nat.le_of_ble_eq_true rfl) ?_
  refine g_iload_n 1 dJ8_charAt_0 rfl rfl ?_
  refine g_aload_n 0 dJ8_charAt_1 rfl rfl ?_
  refine g_s_len hq dJ8_charAt_2 ?_
  refine g_cPv (ctJ7_checkIndex hj (Nat.lt_trans (strT_ok q (List.mem_of_getElem? hq)).1 (by decide))) ksJ8_J7_checkIndex_9 kyJ8_J7_checkIndex_9 rfl ⟨Nat.le_of_ble_eq_true rfl, Nat.le_of_ble_eq_true rfl⟩ ⟨Nat.zero_le _, Nat.zero_le _⟩ rfl (Nat.le_of_ble_eq_true rfl) dJ8_charAt_3 (fun _ => ?_)
  refine g_aload_n 0 dJ8_charAt_6 rfl rfl ?_
  refine g_iload_n 1 dJ8_charAt_7 rfl rfl ?_
  refine g_s_ld hq hj dJ8_charAt_8 ?_
  obtain ⟨c, hc, hc1, hc2, hc3, hc4⟩ := strT_chr hq hj
  refine GG.topi hc1 ?_
  refine g_sipush (v := nI 255) dJ8_charAt_9 (by decide +kernel) ?_
  refine g_iand dJ8_charAt_12 ?_
  refine GG.topi hc2 ?_
  refine g_i2c dJ8_charAt_13 hc3 ?_
  exact g_nret () dJ8_charAt_14 (hc4) (Nat.le_refl _) (Nat.le_refl _) (hc1.symm) (fun _ h => h)
theorem kvJ7_J7_isLatin1_492 : GoodIn lw_all (wsV RJ7 492 yJ7_isLatin1.cls yJ7_isLatin1 (ws_ yJ7_isLatin1 cJ7_isLatin1 1 (some .boolean))) := lw_V q904 q905 q906 q124 q907
theorem kyJ7_J7_isLatin1_492 : yJ7_isLatin1.cls = yJ7_isLatin1.cls ∧ yJ7_isLatin1.cls ≠ "java/lang/invoke/MethodHandle" ∧ yJ7_isLatin1.cls ≠ "java/lang/invoke/VarHandle" ∧ (parseMethodDescriptor yJ7_isLatin1.desc).map (fun d => d.parameters.length) = some 0 := by decide +kernel
theorem ksJ7_J8_charAt_495 : GoodIn lw_all (va_wsS RJ7 495 yJ8_charAt (ws_ yJ8_charAt cJ8_charAt 2 (some .char))) := lw_S q908 q909 q125 q910
theorem kyJ7_J8_charAt_495 : yJ8_charAt.cls ≠ "java/lang/invoke/MethodHandle" ∧ yJ8_charAt.cls ≠ "java/lang/invoke/VarHandle" ∧ (parseMethodDescriptor yJ8_charAt.desc).map (fun d => d.parameters.length) = some 2 := by decide +kernel
theorem ctJ7_charAt (hq : strT[i]? = some q) {j : Nat} (hj : j < q.2.2.2.1) : CT l D cl tys yJ7_charAt cJ7_charAt 2 (some .char) ({ frames := 3, cells := 0, slots := 0, locals := 64 } : Room) [.ref (D.2 1000 i), .int (nI j)] HP (Qi (fun (v : Int32) (_ : Unit) => v = q.2.2.2.2.getD j 0) (fun (_ : Unit) => HP) A) A := by
  refine CT.of (own := RJ7) (L := [(0, .ref (D.2 1000 i)), (1, .int (nI j))]) rfl (by decide +kernel) rfl (Nat.le_of_ble_eq_true rfl) ?_
  refine g_aload_n 0 dJ7_charAt_0 rfl rfl ?_
  refine g_cTi hq (ctJ7_isLatin1 hq) rfl kvJ7_J7_isLatin1_492 kyJ7_J7_isLatin1_492 rfl ⟨Nat.le_of_ble_eq_true rfl, Nat.le_of_ble_eq_true rfl⟩ ⟨Nat.zero_le _, Nat.zero_le _⟩ rfl (Nat.le_of_ble_eq_true rfl) dJ7_charAt_1 (fun r hr => ?_)
  obtain rfl := hr
  refine g_if_eq_n (tgt := 16) dJ7_charAt_4 (by decide) (by decide) (fun h => absurd h (by decide)) (fun _ => ?_)
  refine g_aload_n 0 dJ7_charAt_7 rfl rfl ?_
  refine g_s_value hq q2476 dJ7_charAt_8 ?_
  refine g_iload_n 1 dJ7_charAt_11 rfl rfl ?_
  refine g_cPi (ctJ8_charAt hq hj) ksJ7_J8_charAt_495 kyJ7_J8_charAt_495 rfl ⟨Nat.le_of_ble_eq_true rfl, Nat.le_of_ble_eq_true rfl⟩ ⟨Nat.zero_le _, Nat.zero_le _⟩ rfl (Nat.le_of_ble_eq_true rfl) dJ7_charAt_12 (fun r hr => ?_)
  obtain ⟨c, hc, hc1, hc2, hc3, hc4⟩ := strT_chr hq hj
  obtain rfl := hr
  exact g_nret () dJ7_charAt_15 (by rw [hc1]; exact hc4) (Nat.le_refl _) (Nat.le_refl _) (rfl) (fun _ h => h)
end STRc
