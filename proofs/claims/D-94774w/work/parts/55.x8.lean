/-! TWOSLIPS, 8: rows of answers -/
set_option maxRecDepth 100000
theorem sel_priv {args : Array Value} {s : State} {C : String} {c : ClassId} {y : MethodName} (hc : s.vm.findClass C = some c) (hsame : (Cond.sameMethod y.cls y.cls y.name y.desc).before args s = true) (hp : (Cond.privateMethod y).before args s = true) : (Cond.selects C y y).before args s = true := by
  have hs := hsame
  simp only [Cond.before, Cond.holds, Cond.value] at hs
  cases h1 : s.vm.findClass y.cls with
  | none => simp [h1] at hs
  | some cr =>
    cases h2 : s.methodFound? y.cls y.name y.desc with
    | none => simp [h1, h2] at hs
    | some r =>
      obtain ⟨h3, k, hk, hki⟩ := Cond.sameMethod_spec h1 h2 hsame
      have h3' : s.methodNamed? y = some r := h3
      have hcr : s.vm.findClass y.cls = some r.cls := findClass_of_methodNamed h3'
      cases h1.symm.trans hcr
      cases hm : s.vm.method? r with
      | none => simp [Cond.before, Cond.holds, Cond.value, h3', hm] at hp
      | some meth =>
        have hpr := Cond.privateMethod_at hp r meth h3' hm
        simp [Cond.before, Cond.holds, Cond.value, hc, h2, h3', selectMethod, hm, hpr, hk, hki]
theorem cwQ {R : Room} {s : State} {args : Array Value} {own C : String} {index maxL : Nat} {y : MethodName} {bytes : ByteArray} {ret : Option FieldType} {rm : Room} {c9 : ClassId} (n : Nat) (ht : ∀ w ∈ lw_all, w.before args s = true) (hcode : Cond.code y bytes maxL ret ∈ lw_all) (hlink : Cond.methodLink own index y ∈ lw_all) (hsame : Cond.sameMethod y.cls y.cls y.name y.desc ∈ lw_all) (hpriv : (Cond.privateMethod y).before args s = true) (hini : Cond.initialized y.cls ∈ lw_all) (hinst : Cond.instanceMethod y ∈ lw_all) (hc : s.vm.findClass C = some c9) (hd : y.cls ≠ "java/lang/invoke/MethodHandle" ∧ y.cls ≠ "java/lang/invoke/VarHandle" ∧ (parseMethodDescriptor y.desc).map (fun d => d.parameters.length) = some n) (hR : rm.frames + 1 ≤ R.frames ∧ 8 + (maxL + 11) + rm.locals ≤ R.locals) : va_CU R s args own C y.cls index y y bytes maxL ret (ws_ y bytes maxL ret) rm rm.cells rm.slots n := by
  refine ⟨⟨rfl, rfl, hR.1, hR.2, pay_in ht (lw_meth hcode), List.mem_cons_self⟩, ht _ hcode, ht _ hini, ⟨hd.1, hd.2.1⟩, fun sig h => ?_, ht _ hlink, ht _ hsame, va_Decl.of (ht _ hinst) (ht _ hcode), sel_priv hc (ht _ hsame) hpriv, ht _ hinst⟩
  have h2 := hd.2.2
  rw [h] at h2
  exact (Option.some.inj h2).symm
section
variable {l : Launch} {D : va_G} {cl : List vw_C} {tys : List (ClassId × FieldType)} {cc : ByteArray} {nL : Nat} {rt : Option FieldType} {own : String} {R : Room} {A : Nat → Prop} {MX : Heap → Method → Code → Prop} {QF : List Frame → Array Value → State → State → Prop} {HP : Heap → Prop} {k n pc : Nat} {L : List (Nat × Value)} {st : List Value}
/-- a private method of a class above, on an object of a class below -/
theorem h_cQi {S : Type} {post : Int32 → S → Prop} {HPu : S → Heap → Prop} {y : MethodName} {cc1 : ByteArray} {nL1 : Nat} {rt1 : Option FieldType} {rm1 : Room} {idx n9 ci : Nat} {b : Addr} {r9 : vw_C} {As rest : List Value} (hM : CT l D cl tys y cc1 nL1 rt1 rm1 (.ref b :: As) HP (Qi post HPu A) A) (hcode : Cond.code y cc1 nL1 rt1 ∈ lw_all) (hlink : Cond.methodLink own idx y ∈ lw_all) (hsame : Cond.sameMethod y.cls y.cls y.name y.desc ∈ lw_all) (hpriv : Cond.privateMethod y ∈ lw_tbl) (hini : Cond.initialized y.cls ∈ lw_all) (hinst : Cond.instanceMethod y ∈ lw_all) (hc : cl[ci]? = some r9) (hy : y.cls ≠ "java/lang/invoke/MethodHandle" ∧ y.cls ≠ "java/lang/invoke/VarHandle" ∧ (parseMethodDescriptor y.desc).map (fun d => d.parameters.length) = some n9) (hn : As.length = n9) (hR : rm1.frames + 1 ≤ R.frames ∧ 8 + (nL1 + 11) + rm1.locals ≤ R.locals) (hf : k + rm1.cells ≤ R.cells ∧ n + rm1.slots ≤ R.slots) (hst : st = As.reverse ++ .ref b :: rest) (hcat : (rest.map fun v => v.category).sum ≤ 8) (hd : decode cc pc = .ok (.invokevirtual idx, 3)) (hrecv : ∀ (s : State) (H : Heap), va_K D cl tys s → HP H → ∃ cell : Cell, H[b]? = some cell ∧ cell.vm.isStatics = false ∧ s.vm.findClass r9.1 = some cell.cls)
    (K : ∀ (r : Int32) (u : S), post r u → GG l D cl tys cc nL rt own R A MX QF (HPu u) (k + rm1.cells) (n + rm1.slots) (pc + 3) L (.int r :: rest)) : GG l D cl tys cc nL rt own R A MX QF HP k n pc L st := by
  subst hst
  intro p e s m args below meth c H locs ls B hP hS hl
  refine va_calli (va_runU (As := As) (rest := rest) (b := b) ⟨B.1, B.2.1, B.2.2.1, B.2.2.2.2.2.1, B.2.2.2.2.2.2.1⟩ hM (cwQ n9 B.2.2.2.2.2.2.1 hcode hlink hsame (va_Nw.use rfl (B.2.2.2.2.2.2.2.2.2.1 _ hpriv rfl)) hini hinst ((B.2.2.2.2.2.2.2.1.1 ci r9 hc).2.1) hy hR) ⟨fun a U g mk q => ⟨q.1, q.2.1, va_K.moved (u := U) (U := U.calling g mk a) (Vm.Alike.refl U.vm) q.2.2.1, VX.same (u := U) (U := U.calling g mk a) rfl q.2.2.2⟩, hrecv s H B.2.2.2.2.2.2.2.1 hP, fun U hU hW => ⟨rfl, by rw [hU]; exact hP, va_K.moved hW.alike B.2.2.2.2.2.2.2.1, B.2.2.2.2.2.2.2.2.2.go hS (fun _ h => h) hU hW⟩⟩ rfl hn hl.1 rfl (lv_room hcat) hd hf) hS (fun q _ h => h) (fun _ h => h) (fun r u t H1 locs1 ht hvm hp hb hz hk1 hS1 => K r u hp p e s m args below meth c H1 locs1 ls B ?_ hS1 hl)
  rw [← ht]; exact hb
end
/-! a class with two fields of one name: a put of a field needs its own name apart, or that the other holds the value already -/
theorem t_set1 {cell : Cell} {N : Nat} {iS : Nat → Nat} {V : Nat → Value} {k : Nat} {v : Value} (h : ∀ k, k < N → cell.slots[iS k]? = some (V k)) (hap : ∀ j, j < N → j ≠ k → iS j ≠ iS k ∨ V j = v) (hk : k < N) :
    ∀ j, j < N → (cell.setSlot (iS k) v).slots[iS j]? = some (updV V k v j) := by
  intro j hj
  by_cases hjk : j = k
  · subst hjk
    rw [Cell.slots_setSlot_self _ (k2_hasslot (h j hj))]
    simp [updV]
  · by_cases e : iS j = iS k
    · rw [e, Cell.slots_setSlot_self _ (k2_hasslot (h k hk))]
      have h2 := (hap j hj hjk).resolve_left (fun q => q e)
      simp [updV, hjk, h2]
    · rw [slot_ne _ _ (Ne.symm e), h j hj]
      simp [updV, hjk]
section
variable {p : Program} {l : Launch} {e : Env} {R : Room} {s : State} {m : MethodId} {args : Array Value} {below : List Frame} {meth : Method} {c : Code} {H : Heap} {locs : List Loc} {cells slots : Nat} {Q : State → Prop}
variable {cc : ByteArray} {pc : Nat} {ls : Array Slot} {rest : List Value} {D : va_G} {cl : List vw_C} {A : Nat → Prop} {a : Nat} {tys : List (ClassId × FieldType)} {ws : va_W} {H0 : Heap}
theorem va_apart1 {own C : String} {T : u_T} {N ci k : Nat} {Ts : List Cond} {fs : List Value} {v : Value} (hts : ∀ w ∈ Ts, w.before args s = true) (hin : ∀ w ∈ u_ws C T N, w ∈ Ts) (ty : Nat → FieldType) (hty : ∀ k, k < N → parseFieldDescriptor (T k).2.2.1 = some (ty k)) (hk : k < N) (hnm : ∀ a, a < N → a ≠ k → (T a).2.1 ≠ (T k).2.1 ∨ fs[a]? = some v) (hK : va_K D cl tys s) (hc : cl[ci]? = some (C, T, N)) : ∀ x, x < N → x ≠ k → (D.2 ci) x ≠ (D.2 ci) k ∨ vp_V fs x = v := by
  intro x hx hne
  rcases hnm x hx hne with h | h
  · refine Or.inl ?_
    obtain ⟨hS, -⟩ := hK.1 ci _ hc
    obtain ⟨_, _, _, fa, hia, ea⟩ := hS x hx
    obtain ⟨_, _, _, fb, hib, eb⟩ := hS k hk
    rw [← ea, ← eb]
    refine u_apart (u_lays hts hin hx) (u_lays hts hin hk) hia hib ?_
    rw [(State.fieldFound?_type hia (hty x hx)).1, (State.fieldFound?_type hib (hty k hk)).1]
    exact h
  · exact Or.inr (by simp [vp_V, h])
theorem va_put1 (hexec : p.tables.exec = Jvm.exec) (hb : c.code = cc) {own ref CC : String} {T : u_T} {N ci index : Nat} {Ts : List Cond} (hts : ∀ w ∈ Ts, w.before args s = true) (hin : ∀ w ∈ u_ws CC T N, w ∈ Ts) (ty0 : Nat → FieldType) (hty : ∀ k, k < N → parseFieldDescriptor (T k).2.2.1 = some (ty0 k)) (hown : s.vm.findClass own = some m.cls) (hK : va_K D cl tys s) (hP : va_P D cl ws H) (hD : va_D A ws) (hS0 : va_S A H0 H locs) (q0 : Nat) {fs : List Value} {v : Value} (he : ws[q0]? = some (a, .inr (ci, fs))) (hc : cl[ci]? = some (CC, T, N)) (k : Nat) (hk : k < N) (hnm : ∀ a, a < N → a ≠ k → (T a).2.1 ≠ (T k).2.1 ∨ fs[a]? = some v) (hlink : (Cond.fieldLink own index ref (T k).2.1 (T k).2.2.1).before args s = true) (hsame : ∀ x, s.fieldFound? (T k).1 (T k).2.1 (T k).2.2.1 = some x → s.fieldFound? ref (T k).2.1 (T k).2.2.1 = some x) (hfin : (T k).2.2.2 = false) {ty : FieldType} (hd : parseFieldDescriptor (T k).2.2.1 = some ty) (hn : narrow ty v = v) (hfit : fits ty v = true) (hl : k < fs.length)
    (hdg : decode cc pc = .ok (.putfield index, 3)) (kk : ∀ (H1 : Heap) (locs1 : List Loc), va_P D cl (ws.set q0 (a, .inr (ci, fs.set k v))) H1 → va_D A (ws.set q0 (a, .inr (ci, fs.set k v))) → va_S A H0 H1 locs1 → W p l e R s m args below meth c H1 locs1 cells slots Q (F0 m (pc + 3) ls rest)) : W p l e R s m args below meth c H locs cells slots Q (F0 m pc ls (v :: .ref a :: rest)) := by
  have hap := va_apart1 (own := own) hts hin ty0 hty hk hnm hK hc
  obtain ⟨r, h1, cell, q1, q2, q3, q4⟩ := hP q0 _ he
  have hr : r = (CC, T, N) := Option.some.inj (h1.symm.trans hc)
  subst hr
  obtain ⟨hS, hfc, kC, hkC, hkind⟩ := hK.1 ci _ hc
  obtain ⟨cf, kf, fi, f, hi, hsl⟩ := hS k hk
  have hlay := hts _ (hin _ (u_in_lay hk))
  unfold u_lay at hlay
  rw [if_neg (by rw [hfin]; decide)] at hlay
  have hst := (u_facts hfc hkC (u_lays hts hin hk) hi).1
  have h6 := u_store hfc hkC hkind hlay hi hd hn hfit
  refine W.putK hexec hb (f := f) ⟨hown, hlink, ⟨_, _, _, hsame _ hi⟩, hst⟩ (by rw [q2]; exact h6) q1 q3 (by rw [hsl]; exact k2_hasslot (q4 k hk)) rfl rfl hdg fun H9 e1 e2 e3 => ?_
  rw [hsl] at e1 ⊢
  exact kk H9 _ (hP.set hD he ⟨_, hc, t_OB.to (V := updV (vp_V fs) k v) ⟨_, e1, q2, q3, t_set1 q4 hap hk⟩ (fun j _ => vp_updV_set hl v j)⟩ e3) (hD.set he) (hS0.put e2 e3 (hD.2 q0 _ he))
theorem va_putN1 (hexec : p.tables.exec = Jvm.exec) (hb : c.code = cc) {own ref CC host : String} {T : u_T} {N ci index : Nat} {Ts : List Cond} (hts : ∀ w ∈ Ts, w.before args s = true) (hin : ∀ w ∈ u_ws CC T N, w ∈ Ts) (ty0 : Nat → FieldType) (hty : ∀ k, k < N → parseFieldDescriptor (T k).2.2.1 = some (ty0 k)) (hown : s.vm.findClass own = some m.cls) (hK : va_K D cl tys s) (hP : va_P D cl ws H) (hD : va_D A ws) (hS0 : va_S A H0 H locs) (q0 : Nat) {fs : List Value} {v : Value} (he : ws[q0]? = some (a, .inr (ci, fs))) (hc : cl[ci]? = some (CC, T, N)) (k : Nat) (hk : k < N) (hnm : ∀ a, a < N → a ≠ k → (T a).2.1 ≠ (T k).2.1 ∨ fs[a]? = some v) (hlink : (Cond.fieldLinkNest own index ref (T k).2.1 (T k).2.2.1 host).before args s = true) (hsame : ∀ x, s.fieldFound? (T k).1 (T k).2.1 (T k).2.2.1 = some x → s.fieldFound? ref (T k).2.1 (T k).2.2.1 = some x) (hfin : (T k).2.2.2 = false) {ty : FieldType} (hd : parseFieldDescriptor (T k).2.2.1 = some ty) (hn : narrow ty v = v) (hfit : fits ty v = true) (hl : k < fs.length)
    (hdg : decode cc pc = .ok (.putfield index, 3)) (kk : ∀ (H1 : Heap) (locs1 : List Loc), va_P D cl (ws.set q0 (a, .inr (ci, fs.set k v))) H1 → va_D A (ws.set q0 (a, .inr (ci, fs.set k v))) → va_S A H0 H1 locs1 → W p l e R s m args below meth c H1 locs1 cells slots Q (F0 m (pc + 3) ls rest)) : W p l e R s m args below meth c H locs cells slots Q (F0 m pc ls (v :: .ref a :: rest)) := by
  have hap := va_apart1 (own := own) hts hin ty0 hty hk hnm hK hc
  obtain ⟨r, h1, cell, q1, q2, q3, q4⟩ := hP q0 _ he
  have hr : r = (CC, T, N) := Option.some.inj (h1.symm.trans hc)
  subst hr
  obtain ⟨hS, hfc, kC, hkC, hkind⟩ := hK.1 ci _ hc
  obtain ⟨cf, kf, fi, f, hi, hsl⟩ := hS k hk
  have hlay := hts _ (hin _ (u_in_lay hk))
  unfold u_lay at hlay
  rw [if_neg (by rw [hfin]; decide)] at hlay
  have hst := (u_facts hfc hkC (u_lays hts hin hk) hi).1
  have h6 := u_store hfc hkC hkind hlay hi hd hn hfit
  refine va_WputK hexec hb (f := f) hown hlink (hsame _ hi) hst (by rw [q2]; exact h6) q1 q3 (by rw [hsl]; exact k2_hasslot (q4 k hk)) rfl rfl hdg fun H9 e1 e2 e3 => ?_
  rw [hsl] at e1 ⊢
  exact kk H9 _ (hP.set hD he ⟨_, hc, t_OB.to (V := updV (vp_V fs) k v) ⟨_, e1, q2, q3, t_set1 q4 hap hk⟩ (fun j _ => vp_updV_set hl v j)⟩ e3) (hD.set he) (hS0.put e2 e3 (hD.2 q0 _ he))
end
section
variable {l : Launch} {D : va_G} {cl : List vw_C} {tys : List (ClassId × FieldType)} {cc : ByteArray} {nL : Nat} {rt : Option FieldType} {own : String} {R : Room} {A : Nat → Prop} {MX : Heap → Method → Code → Prop} {QF : List Frame → Array Value → State → State → Prop} {HP : Heap → Prop} {k n pc : Nat} {L : List (Nat × Value)} {st : List Value} {ws ws2 : va_W}
theorem w_put1 {ref : String} {C : String} {T : u_T} {N ci idx a : Nat} {fs : List Value} {v : Value} (k9 : Nat) (hin : ∀ w ∈ u_ws C T N, w ∈ lw_all) (hc : cl[ci]? = some (C, T, N)) (hk : k9 < N) (hq : Cond.fieldLink own idx ref (T k9).2.1 (T k9).2.2.1 ∈ lw_all) (hs : (T k9).1 = ref) (hfin : (T k9).2.2.2 = false) (ty0 : Nat → FieldType) (hty : ∀ k, k < N → parseFieldDescriptor (T k).2.2.1 = some (ty0 k)) (hnm : ∀ a, a < N → a ≠ k9 → (T a).2.1 ≠ (T k9).2.1) {ty : FieldType} (hde : parseFieldDescriptor (T k9).2.2.1 = some ty) (hn9 : narrow ty v = v) (hfit : fits ty v = true) (q0 : Nat) (he : ws[q0]? = some (a, .inr (ci, fs))) (hw : ws.set q0 (a, .inr (ci, fs.set k9 v)) = ws2) (hl9 : k9 < fs.length) (hd : decode cc pc = .ok (.putfield idx, 3)) (K : GG l D cl tys cc nL rt own R A MX QF (HW D cl A ws2) k n (pc + 3) L st) : GG l D cl tys cc nL rt own R A MX QF (HW D cl A ws) k n pc L (v :: .ref a :: st) := by
  subst hs
  subst hw
  exact fun p e s m args below meth c H locs ls B hP hS hl => va_put1 B.1 B.2.1 B.2.2.2.2.2.2.1 hin ty0 hty B.2.2.2.2.2.1 B.2.2.2.2.2.2.2.1 hP.1 hP.2 hS q0 he hc k9 hk (fun a9 h8 h9 => Or.inl (hnm a9 h8 h9)) (B.2.2.2.2.2.2.1 _ hq) (fun _ h9 => h9) hfin hde hn9 hfit hl9 hd (fun H1 locs1 hP1 hD1 hS1 => K p e s m args below meth c H1 locs1 ls B ⟨hP1, hD1⟩ hS1 hl)
theorem w_putN1 {ref host : String} {C : String} {T : u_T} {N ci idx a : Nat} {fs : List Value} {v : Value} (k9 : Nat) (hin : ∀ w ∈ u_ws C T N, w ∈ lw_all) (hc : cl[ci]? = some (C, T, N)) (hk : k9 < N) (hq : Cond.fieldLinkNest own idx ref (T k9).2.1 (T k9).2.2.1 host ∈ lw_tbl) (hs : (T k9).1 = ref) (hfin : (T k9).2.2.2 = false) (ty0 : Nat → FieldType) (hty : ∀ k, k < N → parseFieldDescriptor (T k).2.2.1 = some (ty0 k)) (hnm : ∀ a, a < N → a ≠ k9 → (T a).2.1 ≠ (T k9).2.1) {ty : FieldType} (hde : parseFieldDescriptor (T k9).2.2.1 = some ty) (hn9 : narrow ty v = v) (hfit : fits ty v = true) (q0 : Nat) (he : ws[q0]? = some (a, .inr (ci, fs))) (hw : ws.set q0 (a, .inr (ci, fs.set k9 v)) = ws2) (hl9 : k9 < fs.length) (hd : decode cc pc = .ok (.putfield idx, 3)) (K : GG l D cl tys cc nL rt own R A MX QF (HW D cl A ws2) k n (pc + 3) L st) : GG l D cl tys cc nL rt own R A MX QF (HW D cl A ws) k n pc L (v :: .ref a :: st) := by
  subst hs
  subst hw
  exact fun p e s m args below meth c H locs ls B hP hS hl => va_putN1 (host := host) B.1 B.2.1 B.2.2.2.2.2.2.1 hin ty0 hty B.2.2.2.2.2.1 B.2.2.2.2.2.2.2.1 hP.1 hP.2 hS q0 he hc k9 hk (fun a9 h8 h9 => Or.inl (hnm a9 h8 h9)) (va_Nw.use rfl (B.2.2.2.2.2.2.2.2.2.1 _ hq rfl)) (fun _ h9 => h9) hfin hde hn9 hfit hl9 hd (fun H1 locs1 hP1 hD1 hS1 => K p e s m args below meth c H1 locs1 ls B ⟨hP1, hD1⟩ hS1 hl)
end
def GoW (base lv d many : Nat) (o : Option (List Nat × (Nat → Bool))) (rows rows2 : Nat → Nat → Int64) (rw rw2 : Nat → Nat) : Prop :=
  (∀ r, ¬ (base + lv < r ∧ r ≤ base + 5) → rows2 r = rows r) ∧ (∀ j, j < lv → rw2 j = rw j) ∧ ∀ p S, o = some (p, S) → p.length = d ∧ (∀ i, i < d → rw2 (lv + i) = p.getD i 0) ∧ isRow (rows2 (base + lv + d)) (fun w => decide (w < many) && S w)
theorem GoW.none {base lv d many : Nat} {rows rows2 : Nat → Nat → Int64} {rw rw2 : Nat → Nat} (h1 : ∀ r, ¬ (base + lv < r ∧ r ≤ base + 5) → rows2 r = rows r) (h2 : ∀ j, j < lv → rw2 j = rw j) : GoW base lv d many none rows rows2 rw rw2 := ⟨h1, h2, fun p S h => by cases h⟩
theorem GoW.cons {base lv d many s : Nat} {p : List Nat} {S : Nat → Bool} {o : Option (List Nat × (Nat → Bool))} {rows rowsL rows4 rows5 : Nat → Nat → Int64} {rw rwL rw5 : Nat → Nat} {G : Nat → Bool} (h1 : ∀ r, ¬ (base + lv < r ∧ r ≤ base + 5) → rowsL r = rows r) (h2 : ∀ j, j < lv → rwL j = rw j) (hR : RT rowsL rows4 (base + (lv + 1)) G) (hl : lv + 1 ≤ 5) (h : GoW base (lv + 1) d many o rows4 rows5 (up rwL lv s) rw5) (ho : o = some (p, S)) : GoW base lv (d + 1) many (some (s :: p, S)) rows rows5 rw rw5 := by
  refine ⟨fun r hr => ?_, fun j hj => ?_, fun p9 S9 h9 => ?_⟩
  · rw [h.1 r (by omega), hR.2 r (by omega), h1 r hr]
  · rw [h.2.1 j (by omega), up_n (by omega), h2 j hj]
  · cases h9
    obtain ⟨g1, g2, g3⟩ := h.2.2 p S ho
    refine ⟨by rw [List.length_cons, g1], fun i hi => ?_, by rw [show base + lv + (d + 1) = base + (lv + 1) + d by omega]; exact g3⟩
    cases i with
    | zero => rw [Nat.add_zero, h.2.1 lv (by omega), up_s]; rfl
    | succ i => rw [show lv + (i + 1) = lv + 1 + i by omega, g2 i (by omega)]; rfl
theorem GoW.step {base lv d many s : Nat} {o : Option (List Nat × (Nat → Bool))} {rows rowsL rows4 rows5 : Nat → Nat → Int64} {rw rwL rw5 : Nat → Nat} {G : Nat → Bool} (h1 : ∀ r, ¬ (base + lv < r ∧ r ≤ base + 5) → rowsL r = rows r) (h2 : ∀ j, j < lv → rwL j = rw j) (hR : RT rowsL rows4 (base + (lv + 1)) G) (hl : lv + 1 ≤ 5) (h : GoW base (lv + 1) d many o rows4 rows5 (up rwL lv s) rw5) : (∀ r, ¬ (base + lv < r ∧ r ≤ base + 5) → rows5 r = rows r) ∧ ∀ j, j < lv → rw5 j = rw j :=
  ⟨fun r hr => by rw [h.1 r (by omega), hR.2 r (by omega), h1 r hr], fun j hj => by rw [h.2.1 j (by omega), up_n (by omega), h2 j hj]⟩
def anyF (T : Talk) (x : Int32) (w : Nat) (al : Bool) (f : Nat → Bool) : Bool := if al = true then snFin T x w f else !snGood T x w f
theorem anyF_hit {T : Talk} {x : Int32} {w s : Nat} {al : Bool} {f : Nat → Bool} (hs : s < tNS T) (hb : sBit x s = true) (hk : ¬ knowF (tP T) (tSl T s) f w = al) : anyF T x w al f = !al := by
  unfold anyF
  cases al with
  | true =>
    rw [if_pos rfl]
    exact decide_eq_false (fun h => hk (h s hs hb))
  | false =>
    rw [if_neg (by decide)]
    have h1 : snGood T x w f = false := decide_eq_false (fun h => hk (h s hs hb))
    rw [h1]
theorem anyF_all {T : Talk} {x : Int32} {w : Nat} {al : Bool} {f : Nat → Bool} (h : ∀ s, s < tNS T → sBit x s = true → knowF (tP T) (tSl T s) f w = al) : anyF T x w al f = al := by
  unfold anyF
  cases al with
  | true => rw [if_pos rfl]; exact decide_eq_true h
  | false =>
    rw [if_neg (by decide)]
    have h1 : snGood T x w f = true := decide_eq_true h
    rw [h1]; rfl
theorem sBit_t {x : Int32} {s : Nat} (h : ¬ ((x >>> (nI s &&& 31)) &&& nI 1) = 0) : sBit x s = true := decide_eq_true ((bxor1 _).resolve_left h)
theorem sBit_f {x : Int32} {s : Nat} (h : ((x >>> (nI s &&& 31)) &&& nI 1) = 0) : sBit x s = false := decide_eq_false (fun q => by rw [h] at q; exact absurd q (by decide))
theorem so_kn {T : Talk} {many s w r : Nat} {xs ys : Nat → Nat} {slips : Nat → Nat → Nat} {rows : Nat → Nat → Int64} {f : Nat → Bool} (hC : LdC T many xs ys slips rows) (hok : TOK T) (hs : s < tNS T) (hw : w < many) (hf : isRow (rows r) (fun w => decide (w < many) && f w)) : knowF many (slips s) (lbt (rows r)) w = knowF (tP T) (tSl T s) f w := by
  have h1 := hC.mny; have h2 := tP_le hok
  rw [knowF_congr (f2 := f) (sl2 := tSl T s) hw (fun v hv => hC.sl hs hv) (fun v hv => by rw [show lbt (rows r) v = (decide (v < many) && f v) from hf v (by omega), decide_eq_true hv, Bool.true_and]), h1]
def soL (Y : Nat → ClassId) (xa ra : Nat → Nat) (inn : Option Nat) (mny wd : Nat) (wan hid : Int32) (rw bs : Nat → Nat) (W : va_W) : va_W :=
  (xa 5, .inr (6, [.ref (xa 6), .ref (xa 7), .ref (xa 8), va_rf inn, .int (nI mny), .ref (xa 0), .int (nI wd), .int wan, .int hid, .ref (xa 0)])) :: (xa 6, rfC (Y 6) 6 (fun j => some (ra (142 + j)))) :: (xa 7, inC Y 5 rw) :: (xa 8, inC Y 5 bs) :: W
theorem so_tl {Y : Nat → ClassId} {xa ra : Nat → Nat} {inn : Option Nat} {mny wd : Nat} {wan hid : Int32} {rw bs : Nat → Nat} {W : va_W} {q : Nat × va_E} (h : q ∈ W) : q ∈ soL Y xa ra inn mny wd wan hid rw bs W := List.mem_cons_of_mem _ (List.mem_cons_of_mem _ (List.mem_cons_of_mem _ (List.mem_cons_of_mem _ h)))
theorem so_up {Y : Nat → ClassId} {xa ra : Nat → Nat} {inn : Option Nat} {mny wd : Nat} {wan hid : Int32} {rw bs : Nat → Nat} {W : va_W} {T : Talk} {ta : Nat → Nat} (h : TalkL Y T ta W) : TalkL Y T ta (soL Y xa ra inn mny wd wan hid rw bs W) := h.up (fun _ => so_tl)
section RosoRows
variable {l : Launch} {D : va_G} {Y : Nat → ClassId} {A : Nat → Prop} {cf xa ca cb ra : Nat → Nat} {b tx : Nat} {bL : Bool} {tk : Option Nat} {many used : Nat} {liar : Int32} {xs ys heaps : Nat → Nat} {slips : Nat → Nat → Nat} {rows : Nat → Nat → Int64} {taped fk : Nat} {fa : Int32} {an nx : Nat} {images : Nat → Option Nat} {tape : Nat → Int32} {W : va_W} {inn : Option Nat} {mny wd : Nat} {wan hid : Int32} {rw bs : Nat → Nat}
variable {cc : ByteArray} {nL : Nat} {rt : Option FieldType} {own : String} {R : Room} {MX : Heap → Method → Code → Prop} {QF : List Frame → Array Value → State → State → Prop} {k n pc mc ms : Nat} {L L' : List (Nat × Value)} {st : List Value}
theorem so_put_in {z : Nat} {idx : Nat} (hq : Cond.fieldLink own idx "TwoSlips$Rows" "in" "LTwoSlips$Course;" ∈ lw_all) (hd : decode cc pc = .ok (.putfield idx, 3)) (K : GG l D clX (tyX Y) cc nL rt own R A MX QF (HW D clX A (CoL Y cf ra b tk many used liar xs ys heaps slips rows (XoL Y xa ca cb ra tx bL taped fk fa an nx images tape (soL Y xa ra (some z) mny wd wan hid rw bs W)))) k n (pc + 3) L st) : GG l D clX (tyX Y) cc nL rt own R A MX QF (HW D clX A (CoL Y cf ra b tk many used liar xs ys heaps slips rows (XoL Y xa ca cb ra tx bL taped fk fa an nx images tape (soL Y xa ra inn mny wd wan hid rw bs W)))) k n pc L (.ref z :: .ref (xa 5) :: st) :=
  w_put1 (C := RX6) (T := TX6) (N := 10) (ty := .object "TwoSlips$Course") 3 in_X6 rfl (by decide) hq rfl rfl tyX6 tyX6_ok (by decide +kernel) (by decide +kernel) rfl rfl 172 (CoL_at (i := 3)) (CoL_setW (i := 3)) (Nat.le_of_ble_eq_true rfl) hd K
theorem so_put_many {z : Nat} {idx : Nat} (hq : Cond.fieldLink own idx "TwoSlips$Rows" "many" "I" ∈ lw_all) (hd : decode cc pc = .ok (.putfield idx, 3)) (K : GG l D clX (tyX Y) cc nL rt own R A MX QF (HW D clX A (CoL Y cf ra b tk many used liar xs ys heaps slips rows (XoL Y xa ca cb ra tx bL taped fk fa an nx images tape (soL Y xa ra inn z wd wan hid rw bs W)))) k n (pc + 3) L st) : GG l D clX (tyX Y) cc nL rt own R A MX QF (HW D clX A (CoL Y cf ra b tk many used liar xs ys heaps slips rows (XoL Y xa ca cb ra tx bL taped fk fa an nx images tape (soL Y xa ra inn mny wd wan hid rw bs W)))) k n pc L (.int (nI z) :: .ref (xa 5) :: st) :=
  w_put1 (C := RX6) (T := TX6) (N := 10) (ty := .int) 4 in_X6 rfl (by decide) hq rfl rfl tyX6 tyX6_ok (by decide +kernel) (by decide +kernel) rfl rfl 172 (CoL_at (i := 3)) (CoL_setW (i := 3)) (Nat.le_of_ble_eq_true rfl) hd K
theorem so_put_world {z : Nat} {idx : Nat} (hq : Cond.fieldLink own idx "TwoSlips$Soonest" "world" "I" ∈ lw_all) (hd : decode cc pc = .ok (.putfield idx, 3)) (K : GG l D clX (tyX Y) cc nL rt own R A MX QF (HW D clX A (CoL Y cf ra b tk many used liar xs ys heaps slips rows (XoL Y xa ca cb ra tx bL taped fk fa an nx images tape (soL Y xa ra inn mny z wan hid rw bs W)))) k n (pc + 3) L st) : GG l D clX (tyX Y) cc nL rt own R A MX QF (HW D clX A (CoL Y cf ra b tk many used liar xs ys heaps slips rows (XoL Y xa ca cb ra tx bL taped fk fa an nx images tape (soL Y xa ra inn mny wd wan hid rw bs W)))) k n pc L (.int (nI z) :: .ref (xa 5) :: st) :=
  w_put1 (C := RX6) (T := TX6) (N := 10) (ty := .int) 6 in_X6 rfl (by decide) hq rfl rfl tyX6 tyX6_ok (by decide +kernel) (by decide +kernel) rfl rfl 172 (CoL_at (i := 3)) (CoL_setW (i := 3)) (Nat.le_of_ble_eq_true rfl) hd K
theorem so_put_worldN {z : Nat} {idx : Nat} {host : String} (hq : Cond.fieldLinkNest own idx "TwoSlips$Soonest" "world" "I" host ∈ lw_tbl) (hd : decode cc pc = .ok (.putfield idx, 3)) (K : GG l D clX (tyX Y) cc nL rt own R A MX QF (HW D clX A (CoL Y cf ra b tk many used liar xs ys heaps slips rows (XoL Y xa ca cb ra tx bL taped fk fa an nx images tape (soL Y xa ra inn mny z wan hid rw bs W)))) k n (pc + 3) L st) : GG l D clX (tyX Y) cc nL rt own R A MX QF (HW D clX A (CoL Y cf ra b tk many used liar xs ys heaps slips rows (XoL Y xa ca cb ra tx bL taped fk fa an nx images tape (soL Y xa ra inn mny wd wan hid rw bs W)))) k n pc L (.int (nI z) :: .ref (xa 5) :: st) :=
  w_putN1 (C := RX6) (T := TX6) (N := 10) (ty := .int) 6 in_X6 rfl (by decide) hq rfl rfl tyX6 tyX6_ok (by decide +kernel) (by decide +kernel) rfl rfl 172 (CoL_at (i := 3)) (CoL_setW (i := 3)) (Nat.le_of_ble_eq_true rfl) hd K
theorem so_put_wanted {z : Int32} {idx : Nat} (hq : Cond.fieldLink own idx "TwoSlips$Soonest" "wanted" "I" ∈ lw_all) (hd : decode cc pc = .ok (.putfield idx, 3)) (K : GG l D clX (tyX Y) cc nL rt own R A MX QF (HW D clX A (CoL Y cf ra b tk many used liar xs ys heaps slips rows (XoL Y xa ca cb ra tx bL taped fk fa an nx images tape (soL Y xa ra inn mny wd z hid rw bs W)))) k n (pc + 3) L st) : GG l D clX (tyX Y) cc nL rt own R A MX QF (HW D clX A (CoL Y cf ra b tk many used liar xs ys heaps slips rows (XoL Y xa ca cb ra tx bL taped fk fa an nx images tape (soL Y xa ra inn mny wd wan hid rw bs W)))) k n pc L (.int z :: .ref (xa 5) :: st) :=
  w_put1 (C := RX6) (T := TX6) (N := 10) (ty := .int) 7 in_X6 rfl (by decide) hq rfl rfl tyX6 tyX6_ok (by decide +kernel) (by decide +kernel) rfl rfl 172 (CoL_at (i := 3)) (CoL_setW (i := 3)) (Nat.le_of_ble_eq_true rfl) hd K
theorem so_put_wantedN {z : Int32} {idx : Nat} {host : String} (hq : Cond.fieldLinkNest own idx "TwoSlips$Soonest" "wanted" "I" host ∈ lw_tbl) (hd : decode cc pc = .ok (.putfield idx, 3)) (K : GG l D clX (tyX Y) cc nL rt own R A MX QF (HW D clX A (CoL Y cf ra b tk many used liar xs ys heaps slips rows (XoL Y xa ca cb ra tx bL taped fk fa an nx images tape (soL Y xa ra inn mny wd z hid rw bs W)))) k n (pc + 3) L st) : GG l D clX (tyX Y) cc nL rt own R A MX QF (HW D clX A (CoL Y cf ra b tk many used liar xs ys heaps slips rows (XoL Y xa ca cb ra tx bL taped fk fa an nx images tape (soL Y xa ra inn mny wd wan hid rw bs W)))) k n pc L (.int z :: .ref (xa 5) :: st) :=
  w_putN1 (C := RX6) (T := TX6) (N := 10) (ty := .int) 7 in_X6 rfl (by decide) hq rfl rfl tyX6 tyX6_ok (by decide +kernel) (by decide +kernel) rfl rfl 172 (CoL_at (i := 3)) (CoL_setW (i := 3)) (Nat.le_of_ble_eq_true rfl) hd K
theorem so_put_hidden {z : Int32} {idx : Nat} (hq : Cond.fieldLink own idx "TwoSlips$Soonest" "hidden" "I" ∈ lw_all) (hd : decode cc pc = .ok (.putfield idx, 3)) (K : GG l D clX (tyX Y) cc nL rt own R A MX QF (HW D clX A (CoL Y cf ra b tk many used liar xs ys heaps slips rows (XoL Y xa ca cb ra tx bL taped fk fa an nx images tape (soL Y xa ra inn mny wd wan z rw bs W)))) k n (pc + 3) L st) : GG l D clX (tyX Y) cc nL rt own R A MX QF (HW D clX A (CoL Y cf ra b tk many used liar xs ys heaps slips rows (XoL Y xa ca cb ra tx bL taped fk fa an nx images tape (soL Y xa ra inn mny wd wan hid rw bs W)))) k n pc L (.int z :: .ref (xa 5) :: st) :=
  w_put1 (C := RX6) (T := TX6) (N := 10) (ty := .int) 8 in_X6 rfl (by decide) hq rfl rfl tyX6 tyX6_ok (by decide +kernel) (by decide +kernel) rfl rfl 172 (CoL_at (i := 3)) (CoL_setW (i := 3)) (Nat.le_of_ble_eq_true rfl) hd K
theorem so_put_hiddenN {z : Int32} {idx : Nat} {host : String} (hq : Cond.fieldLinkNest own idx "TwoSlips$Soonest" "hidden" "I" host ∈ lw_tbl) (hd : decode cc pc = .ok (.putfield idx, 3)) (K : GG l D clX (tyX Y) cc nL rt own R A MX QF (HW D clX A (CoL Y cf ra b tk many used liar xs ys heaps slips rows (XoL Y xa ca cb ra tx bL taped fk fa an nx images tape (soL Y xa ra inn mny wd wan z rw bs W)))) k n (pc + 3) L st) : GG l D clX (tyX Y) cc nL rt own R A MX QF (HW D clX A (CoL Y cf ra b tk many used liar xs ys heaps slips rows (XoL Y xa ca cb ra tx bL taped fk fa an nx images tape (soL Y xa ra inn mny wd wan hid rw bs W)))) k n pc L (.int z :: .ref (xa 5) :: st) :=
  w_putN1 (C := RX6) (T := TX6) (N := 10) (ty := .int) 8 in_X6 rfl (by decide) hq rfl rfl tyX6 tyX6_ok (by decide +kernel) (by decide +kernel) rfl rfl 172 (CoL_at (i := 3)) (CoL_setW (i := 3)) (Nat.le_of_ble_eq_true rfl) hd K
theorem so_ld_sets {i : Nat} (hi : i < 6) (hd : decode cc pc = .ok (.aaload, 1)) (K : GG l D clX (tyX Y) cc nL rt own R A MX QF (HW D clX A (CoL Y cf ra b tk many used liar xs ys heaps slips rows (XoL Y xa ca cb ra tx bL taped fk fa an nx images tape (soL Y xa ra inn mny wd wan hid rw bs W)))) k n (pc + 1) L (.ref (ra (142 + i)) :: st)) : GG l D clX (tyX Y) cc nL rt own R A MX QF (HW D clX A (CoL Y cf ra b tk many used liar xs ys heaps slips rows (XoL Y xa ca cb ra tx bL taped fk fa an nx images tape (soL Y xa ra inn mny wd wan hid rw bs W)))) k n pc L (.int (nI i) :: .ref (xa 6) :: st) := g_ldr (cA := Y 6) 6 rfl rfl hi (by decide) hd (hw_mem (co_tl (xo_tl (List.mem_cons_of_mem _ List.mem_cons_self)))) rfl K
theorem so_ld_row {i : Nat} (hi : i < 5) (hd : decode cc pc = .ok (.iaload, 1)) (K : GG l D clX (tyX Y) cc nL rt own R A MX QF (HW D clX A (CoL Y cf ra b tk many used liar xs ys heaps slips rows (XoL Y xa ca cb ra tx bL taped fk fa an nx images tape (soL Y xa ra inn mny wd wan hid rw bs W)))) k n (pc + 1) L (.int (nI (rw i)) :: st)) : GG l D clX (tyX Y) cc nL rt own R A MX QF (HW D clX A (CoL Y cf ra b tk many used liar xs ys heaps slips rows (XoL Y xa ca cb ra tx bL taped fk fa an nx images tape (soL Y xa ra inn mny wd wan hid rw bs W)))) k n pc L (.int (nI i) :: .ref (xa 7) :: st) := g_ldi (cA := Y 0) 0 rfl hi (by decide) hd (hw_mem (co_tl (xo_tl (List.mem_cons_of_mem _ (List.mem_cons_of_mem _ List.mem_cons_self))))) K
theorem so_st_row {i z : Nat} (hi : i < 5) (hd : decode cc pc = .ok (.iastore, 1)) (K : GG l D clX (tyX Y) cc nL rt own R A MX QF (HW D clX A (CoL Y cf ra b tk many used liar xs ys heaps slips rows (XoL Y xa ca cb ra tx bL taped fk fa an nx images tape (soL Y xa ra inn mny wd wan hid (up rw i z) bs W)))) k n (pc + 1) L st) : GG l D clX (tyX Y) cc nL rt own R A MX QF (HW D clX A (CoL Y cf ra b tk many used liar xs ys heaps slips rows (XoL Y xa ca cb ra tx bL taped fk fa an nx images tape (soL Y xa ra inn mny wd wan hid rw bs W)))) k n pc L (.int (nI z) :: .int (nI i) :: .ref (xa 7) :: st) := w_sti (cA := Y 0) 0 rfl hi (by decide) 174 (CoL_at (i := 5)) (by rw [upd_nI]; exact CoL_setW (i := 5)) hd K
theorem so_rec : ∀ (s : State) (H : Heap), va_K D clX (tyX Y) s → HW D clX A (CoL Y cf ra b tk many used liar xs ys heaps slips rows (XoL Y xa ca cb ra tx bL taped fk fa an nx images tape (soL Y xa ra inn mny wd wan hid rw bs W))) H → ∃ cell : Cell, H[xa 5]? = some cell ∧ cell.vm.isStatics = false ∧ s.vm.findClass RX6 = some cell.cls := fun s H hK hP => va_recv hK (hw_mem (co_tl (xo_tl List.mem_cons_self)) H hP) (ci := 6) rfl (q0 := 0) rfl
end RosoRows
def brL (Y : Nat → ClassId) (xa ra : Nat → Nat) (inn : Option Nat) (mny : Nat) (rw bs : Nat → Nat) (W : va_W) : va_W :=
  (xa 9, .inr (7, [.ref (xa 10), .ref (xa 11), .ref (xa 12), va_rf inn, .int (nI mny), .ref (xa 0), .ref (xa 0)])) :: (xa 10, rfC (Y 6) 6 (fun j => some (ra (148 + j)))) :: (xa 11, inC Y 5 rw) :: (xa 12, inC Y 5 bs) :: W
theorem br_tl {Y : Nat → ClassId} {xa ra : Nat → Nat} {inn : Option Nat} {mny : Nat} {rw bs : Nat → Nat} {W : va_W} {q : Nat × va_E} (h : q ∈ W) : q ∈ brL Y xa ra inn mny rw bs W := List.mem_cons_of_mem _ (List.mem_cons_of_mem _ (List.mem_cons_of_mem _ (List.mem_cons_of_mem _ h)))
theorem br_up {Y : Nat → ClassId} {xa ra : Nat → Nat} {inn : Option Nat} {mny : Nat} {rw bs : Nat → Nat} {W : va_W} {T : Talk} {ta : Nat → Nat} (h : TalkL Y T ta W) : TalkL Y T ta (brL Y xa ra inn mny rw bs W) := h.up (fun _ => br_tl)
section RobrRows
variable {l : Launch} {D : va_G} {Y : Nat → ClassId} {A : Nat → Prop} {cf xa ca cb ra : Nat → Nat} {b tx : Nat} {bL : Bool} {tk : Option Nat} {many used : Nat} {liar : Int32} {xs ys heaps : Nat → Nat} {slips : Nat → Nat → Nat} {rows : Nat → Nat → Int64} {taped fk : Nat} {fa : Int32} {an nx : Nat} {images : Nat → Option Nat} {tape : Nat → Int32} {W : va_W} {inn : Option Nat} {mny : Nat} {rw bs : Nat → Nat}
variable {cc : ByteArray} {nL : Nat} {rt : Option FieldType} {own : String} {R : Room} {MX : Heap → Method → Code → Prop} {QF : List Frame → Array Value → State → State → Prop} {k n pc mc ms : Nat} {L L' : List (Nat × Value)} {st : List Value}
theorem br_put_in {z : Nat} {idx : Nat} (hq : Cond.fieldLink own idx "TwoSlips$Rows" "in" "LTwoSlips$Course;" ∈ lw_all) (hd : decode cc pc = .ok (.putfield idx, 3)) (K : GG l D clX (tyX Y) cc nL rt own R A MX QF (HW D clX A (CoL Y cf ra b tk many used liar xs ys heaps slips rows (XoL Y xa ca cb ra tx bL taped fk fa an nx images tape (brL Y xa ra (some z) mny rw bs W)))) k n (pc + 3) L st) : GG l D clX (tyX Y) cc nL rt own R A MX QF (HW D clX A (CoL Y cf ra b tk many used liar xs ys heaps slips rows (XoL Y xa ca cb ra tx bL taped fk fa an nx images tape (brL Y xa ra inn mny rw bs W)))) k n pc L (.ref z :: .ref (xa 9) :: st) :=
  w_put1 (C := RX7) (T := TX7) (N := 7) (ty := .object "TwoSlips$Course") 3 in_X7 rfl (by decide) hq rfl rfl tyX7 tyX7_ok (by decide +kernel) (by decide +kernel) rfl rfl 172 (CoL_at (i := 3)) (CoL_setW (i := 3)) (Nat.le_of_ble_eq_true rfl) hd K
theorem br_put_many {z : Nat} {idx : Nat} (hq : Cond.fieldLink own idx "TwoSlips$Rows" "many" "I" ∈ lw_all) (hd : decode cc pc = .ok (.putfield idx, 3)) (K : GG l D clX (tyX Y) cc nL rt own R A MX QF (HW D clX A (CoL Y cf ra b tk many used liar xs ys heaps slips rows (XoL Y xa ca cb ra tx bL taped fk fa an nx images tape (brL Y xa ra inn z rw bs W)))) k n (pc + 3) L st) : GG l D clX (tyX Y) cc nL rt own R A MX QF (HW D clX A (CoL Y cf ra b tk many used liar xs ys heaps slips rows (XoL Y xa ca cb ra tx bL taped fk fa an nx images tape (brL Y xa ra inn mny rw bs W)))) k n pc L (.int (nI z) :: .ref (xa 9) :: st) :=
  w_put1 (C := RX7) (T := TX7) (N := 7) (ty := .int) 4 in_X7 rfl (by decide) hq rfl rfl tyX7 tyX7_ok (by decide +kernel) (by decide +kernel) rfl rfl 172 (CoL_at (i := 3)) (CoL_setW (i := 3)) (Nat.le_of_ble_eq_true rfl) hd K
theorem br_ld_sets {i : Nat} (hi : i < 6) (hd : decode cc pc = .ok (.aaload, 1)) (K : GG l D clX (tyX Y) cc nL rt own R A MX QF (HW D clX A (CoL Y cf ra b tk many used liar xs ys heaps slips rows (XoL Y xa ca cb ra tx bL taped fk fa an nx images tape (brL Y xa ra inn mny rw bs W)))) k n (pc + 1) L (.ref (ra (148 + i)) :: st)) : GG l D clX (tyX Y) cc nL rt own R A MX QF (HW D clX A (CoL Y cf ra b tk many used liar xs ys heaps slips rows (XoL Y xa ca cb ra tx bL taped fk fa an nx images tape (brL Y xa ra inn mny rw bs W)))) k n pc L (.int (nI i) :: .ref (xa 10) :: st) := g_ldr (cA := Y 6) 6 rfl rfl hi (by decide) hd (hw_mem (co_tl (xo_tl (List.mem_cons_of_mem _ List.mem_cons_self)))) rfl K
theorem br_ld_row {i : Nat} (hi : i < 5) (hd : decode cc pc = .ok (.iaload, 1)) (K : GG l D clX (tyX Y) cc nL rt own R A MX QF (HW D clX A (CoL Y cf ra b tk many used liar xs ys heaps slips rows (XoL Y xa ca cb ra tx bL taped fk fa an nx images tape (brL Y xa ra inn mny rw bs W)))) k n (pc + 1) L (.int (nI (rw i)) :: st)) : GG l D clX (tyX Y) cc nL rt own R A MX QF (HW D clX A (CoL Y cf ra b tk many used liar xs ys heaps slips rows (XoL Y xa ca cb ra tx bL taped fk fa an nx images tape (brL Y xa ra inn mny rw bs W)))) k n pc L (.int (nI i) :: .ref (xa 11) :: st) := g_ldi (cA := Y 0) 0 rfl hi (by decide) hd (hw_mem (co_tl (xo_tl (List.mem_cons_of_mem _ (List.mem_cons_of_mem _ List.mem_cons_self))))) K
theorem br_st_row {i z : Nat} (hi : i < 5) (hd : decode cc pc = .ok (.iastore, 1)) (K : GG l D clX (tyX Y) cc nL rt own R A MX QF (HW D clX A (CoL Y cf ra b tk many used liar xs ys heaps slips rows (XoL Y xa ca cb ra tx bL taped fk fa an nx images tape (brL Y xa ra inn mny (up rw i z) bs W)))) k n (pc + 1) L st) : GG l D clX (tyX Y) cc nL rt own R A MX QF (HW D clX A (CoL Y cf ra b tk many used liar xs ys heaps slips rows (XoL Y xa ca cb ra tx bL taped fk fa an nx images tape (brL Y xa ra inn mny rw bs W)))) k n pc L (.int (nI z) :: .int (nI i) :: .ref (xa 11) :: st) := w_sti (cA := Y 0) 0 rfl hi (by decide) 174 (CoL_at (i := 5)) (by rw [upd_nI]; exact CoL_setW (i := 5)) hd K
theorem br_rec : ∀ (s : State) (H : Heap), va_K D clX (tyX Y) s → HW D clX A (CoL Y cf ra b tk many used liar xs ys heaps slips rows (XoL Y xa ca cb ra tx bL taped fk fa an nx images tape (brL Y xa ra inn mny rw bs W))) H → ∃ cell : Cell, H[xa 9]? = some cell ∧ cell.vm.isStatics = false ∧ s.vm.findClass RX7 = some cell.cls := fun s H hK hP => va_recv hK (hw_mem (co_tl (xo_tl List.mem_cons_self)) H hP) (ci := 7) rfl (q0 := 0) rfl
end RobrRows
theorem hy_X6_choices : yX6_choices.cls ≠ "java/lang/invoke/MethodHandle" ∧ yX6_choices.cls ≠ "java/lang/invoke/VarHandle" ∧ (parseMethodDescriptor yX6_choices.desc).map (fun d => d.parameters.length) = some 0 := by decide +kernel
theorem hy_X6_knowsAny : yX6_knowsAny.cls ≠ "java/lang/invoke/MethodHandle" ∧ yX6_knowsAny.cls ≠ "java/lang/invoke/VarHandle" ∧ (parseMethodDescriptor yX6_knowsAny.desc).map (fun d => d.parameters.length) = some 3 := by decide +kernel
theorem hy_X5_goes : yX5_goes.cls ≠ "java/lang/invoke/MethodHandle" ∧ yX5_goes.cls ≠ "java/lang/invoke/VarHandle" ∧ (parseMethodDescriptor yX5_goes.desc).map (fun d => d.parameters.length) = some 2 := by decide +kernel
theorem hyx_TwoSlips_Rows_isGood__I_Z : "TwoSlips$Rows" ≠ "java/lang/invoke/MethodHandle" ∧ "TwoSlips$Rows" ≠ "java/lang/invoke/VarHandle" ∧ (parseMethodDescriptor "(I)Z").map (fun d => d.parameters.length) = some 1 := by decide +kernel
theorem hyx_TwoSlips_Rows_choices___I : "TwoSlips$Rows" ≠ "java/lang/invoke/MethodHandle" ∧ "TwoSlips$Rows" ≠ "java/lang/invoke/VarHandle" ∧ (parseMethodDescriptor "()I").map (fun d => d.parameters.length) = some 0 := by decide +kernel
theorem hyx_TwoSlips_Rows_answers__I_J_J_V : "TwoSlips$Rows" ≠ "java/lang/invoke/MethodHandle" ∧ "TwoSlips$Rows" ≠ "java/lang/invoke/VarHandle" ∧ (parseMethodDescriptor "(I[J[J)V").map (fun d => d.parameters.length) = some 3 := by decide +kernel
theorem hyx_TwoSlips_Rows_isEnd__I_Z : "TwoSlips$Rows" ≠ "java/lang/invoke/MethodHandle" ∧ "TwoSlips$Rows" ≠ "java/lang/invoke/VarHandle" ∧ (parseMethodDescriptor "(I)Z").map (fun d => d.parameters.length) = some 1 := by decide +kernel
section
variable {l : Launch} {D : va_G} {Y : Nat → ClassId} {A : Nat → Prop}
set_option maxHeartbeats 4000000 in
/-- how many speakers -/
theorem ctX6_choices {xa ca cb ra ta : Nat → Nat} {T : Talk} {bL : Bool} {tk : Option Nat} {many : Nat} {xs ys heaps : Nat → Nat} {slips : Nat → Nat → Nat} {rows : Nat → Nat → Int64} {taped fk : Nat} {fa : Int32} {an nx : Nat} {images : Nat → Option Nat} {tape : Nat → Int32} {W : va_W} {mny wd : Nat} {wan hid : Int32} {rw bs : Nat → Nat}  (hT : TalkL Y T ta W) : CT l D clX (tyX Y) yX6_choices cX6_choices 1 (some .int) ({ frames := 1, cells := 0, slots := 0, locals := 20 } : Room) [.ref (xa 5)] (HW D clX A (CoL Y ca ra 0 tk many 0 (-1) xs ys heaps slips rows (XoL Y xa ca cb ra (ta 0) bL taped fk fa an nx images tape (soL Y xa ra (some (ca 0)) mny wd wan hid rw bs W)))) (Qi (fun (v : Int32) (u : Unit) => v = nI (tNS T)) (fun (u : Unit) => HW D clX A (CoL Y ca ra 0 tk many 0 (-1) xs ys heaps slips rows (XoL Y xa ca cb ra (ta 0) bL taped fk fa an nx images tape (soL Y xa ra (some (ca 0)) mny wd wan hid rw bs W)))) A) A := by
  obtain ⟨ea1, na1, mc1, hL1⟩ := hT.2.1
  refine CT.of (L := [(0, .ref (xa 5))]) rfl (by decide +kernel) rfl (Nat.le_of_ble_eq_true rfl) ?_
  refine g_aload_n 0 dX6_choices_0 rfl rfl ?_
  refine g_getf (C := RX6) (T := TX6) (N := 10) 9 in_X6 rfl (by decide) q344 rfl dX6_choices_1 ((hw_mem (co_tl (xo_tl List.mem_cons_self)))) rfl ?_
  refine x_get_talkN q443 dX6_choices_4 ?_
  refine g_getfN (C := RX2) (T := TX2) (N := 7) 0 in_X2 rfl (by decide) q205 rfl dX6_choices_7 (co_has _ (xo_tl (so_tl hT.1))) rfl ?_
  refine h_cVi (ctJ2_size (co_has _ (xo_tl (so_tl hL1.1)))) (lw_V q1607 q522 q523 q110 q524) ⟨rfl, hy_J2_size⟩ rfl ⟨Nat.le_of_ble_eq_true rfl, Nat.le_of_ble_eq_true rfl⟩ ⟨Nat.le_of_ble_eq_true rfl, Nat.le_of_ble_eq_true rfl⟩ rfl (Nat.le_of_ble_eq_true rfl) dX6_choices_10 (fun s H hK hP => va_recv hK (co_has _ (xo_tl (so_tl hL1.1)) H hP) (ci := 33) rfl (q0 := 0) rfl) (fun r u hp => ?_)
  obtain rfl := hp
  exact g_iret () dX6_choices_13 (Nat.le_refl _) (Nat.le_refl _) (rfl) (fun _ h => h)
set_option maxHeartbeats 4000000 in
/-- whether one of a set knows, or all -/
theorem ctX6_knowsAny {xa ca cb ra ta : Nat → Nat} {T : Talk} {bL : Bool} {tk : Option Nat} {many : Nat} {xs ys heaps : Nat → Nat} {slips : Nat → Nat → Nat} {rows : Nat → Nat → Int64} {taped fk : Nat} {fa : Int32} {an nx : Nat} {images : Nat → Option Nat} {tape : Nat → Int32} {W : va_W} {mny wd : Nat} {wan hid : Int32} {rw bs : Nat → Nat} (of0 : Int32) (lv : Nat) (al : Bool) (f : Nat → Bool) (hT : TalkL Y T ta W) (hok : TOK T) (hC : LdC T many xs ys slips rows) (hwd : wd < many) (hlv : lv < 6) (hf : isRow (rows (142 + lv)) (fun w => decide (w < many) && f w)) : CT l D clX (tyX Y) yX6_knowsAny cX6_knowsAny 5 (some .boolean) ({ frames := 2, cells := 0, slots := 0, locals := 46 } : Room) [.ref (xa 5), .int of0, .int (nI lv), .int (bI al)] (HW D clX A (CoL Y ca ra 0 tk many 0 (-1) xs ys heaps slips rows (XoL Y xa ca cb ra (ta 0) bL taped fk fa an nx images tape (soL Y xa ra (some (ca 0)) mny wd wan hid rw bs W)))) (Qi (fun (v : Int32) (u : Unit) => v = bI (anyF T of0 wd al f)) (fun (u : Unit) => HW D clX A (CoL Y ca ra 0 tk many 0 (-1) xs ys heaps slips rows (XoL Y xa ca cb ra (ta 0) bL taped fk fa an nx images tape (soL Y xa ra (some (ca 0)) mny wd wan hid rw bs W)))) A) A := by
  have hn6 := hok.2.2.2.2.2.1
  refine CT.of (L := [(0, .ref (xa 5)), (1, .int of0), (2, .int (nI lv)), (3, .int (bI al))]) rfl (by decide +kernel) rfl (Nat.le_of_ble_eq_true rfl) ?_
  refine g_iconst (v := nI 0) dX6_knowsAny_0 (by decide +kernel) ?_
  refine g_istore (L' := [(0, _), (1, _), (2, _), (3, _), (4, _)]) dX6_knowsAny_1 (by decide) rfl rfl ?_
  have loop3 : ∀ (q3 : Nat) (s : Nat), tNS T - s < q3 → (s ≤ tNS T) → (∀ s9, s9 < s → sBit of0 s9 = true → knowF (tP T) (tSl T s9) f wd = al) → GG l D clX (tyX Y) cX6_knowsAny 5 (some .boolean) RX6 ({ frames := 2, cells := 0, slots := 0, locals := 46 } : Room) A MT (QM (Qi (fun (v : Int32) (u : Unit) => v = bI (anyF T of0 wd al f)) (fun (u : Unit) => HW D clX A (CoL Y ca ra 0 tk many 0 (-1) xs ys heaps slips rows (XoL Y xa ca cb ra (ta 0) bL taped fk fa an nx images tape (soL Y xa ra (some (ca 0)) mny wd wan hid rw bs W)))) A) 0 0 A) (HW D clX A (CoL Y ca ra 0 tk many 0 (-1) xs ys heaps slips rows (XoL Y xa ca cb ra (ta 0) bL taped fk fa an nx images tape (soL Y xa ra (some (ca 0)) mny wd wan hid rw bs W)))) 0 0 3 [(0, .ref (xa 5)), (1, .int of0), (2, .int (nI lv)), (3, .int (bI al)), (4, .int (nI s))] [] := by
    intro q3
    induction q3 with
    | zero => intro s hq3; exact absurd hq3 (Nat.not_lt_zero _)
    | succ q3 ih3 =>
      intro s hq3 hs hi
      refine g_iload dX6_knowsAny_3 rfl ?_
      refine g_aload_n 0 dX6_knowsAny_5 rfl rfl ?_
      refine h_cVi (ctX6_choices hT) (lw_V q1603 q1604 q1605 q114 q1606) ⟨rfl, hy_X6_choices⟩ rfl ⟨Nat.le_of_ble_eq_true rfl, Nat.le_of_ble_eq_true rfl⟩ ⟨Nat.le_of_ble_eq_true rfl, Nat.le_of_ble_eq_true rfl⟩ rfl (Nat.le_of_ble_eq_true rfl) dX6_knowsAny_6 so_rec (fun r u hp => ?_)
      obtain rfl := hp
      refine g_icmp_ge_n (tgt := 63) dX6_knowsAny_9 (by decide) (by omega) (by omega) (fun c9 => ?_) (fun c9 => ?_)
      · skip
        refine g_iload_n 3 dX6_knowsAny_63 rfl rfl ?_
        exact g_zret () dX6_knowsAny_64 (Nat.le_refl _) (Nat.le_refl _) (by rw [anyF_all (fun s9 h9 => hi s9 (by omega))]) (fun _ h => h)
      · skip
        refine g_iload_n 1 dX6_knowsAny_12 rfl rfl ?_
        refine g_iload dX6_knowsAny_13 rfl ?_
        refine g_ishr dX6_knowsAny_15 ?_
        refine g_iconst (v := nI 1) dX6_knowsAny_16 (by decide +kernel) ?_
        refine g_iand dX6_knowsAny_17 ?_
        refine g_if_ne (tgt := 24) dX6_knowsAny_18 (by decide) (fun c18 => ?_) (fun c18 => ?_)
        · skip
          refine g_aload_n 0 dX6_knowsAny_24 rfl rfl ?_
          refine g_getfU (C := RX6) (T := TX6) (N := 10) 3 in_X6 rfl (by decide) q357 q358 dX6_knowsAny_25 ((hw_mem (co_tl (xo_tl List.mem_cons_self)))) rfl ?_
          refine g_iload dX6_knowsAny_28 rfl ?_
          refine g_aload_n 0 dX6_knowsAny_30 rfl rfl ?_
          refine g_getf (C := RX6) (T := TX6) (N := 10) 6 in_X6 rfl (by decide) q338 rfl dX6_knowsAny_31 ((hw_mem (co_tl (xo_tl List.mem_cons_self)))) rfl ?_
          refine g_aload_n 0 dX6_knowsAny_34 rfl rfl ?_
          refine g_getfU (C := RX6) (T := TX6) (N := 10) 0 in_X6 rfl (by decide) q348 q349 dX6_knowsAny_35 ((hw_mem (co_tl (xo_tl List.mem_cons_self)))) rfl ?_
          refine g_iload_n 2 dX6_knowsAny_38 rfl rfl ?_
          refine so_ld_sets (by omega) dX6_knowsAny_39 ?_
          refine h_cVi (ctX3_knowsIn s wd (142 + lv) (tNS T) (hC.ok hok) c9 hok.2.2.2.2.2.1 (by omega) hwd) (lw_V q1608 q1489 q1490 q111 q1491) ⟨rfl, hy_X3_knowsIn⟩ rfl ⟨Nat.le_of_ble_eq_true rfl, Nat.le_of_ble_eq_true rfl⟩ ⟨Nat.le_of_ble_eq_true rfl, Nat.le_of_ble_eq_true rfl⟩ rfl (Nat.le_of_ble_eq_true rfl) dX6_knowsAny_40 co_rec (fun r u hp => ?_)
          obtain rfl := hp
          rw [so_kn hC hok c9 hwd hf]
          refine g_iload_n 3 dX6_knowsAny_43 rfl rfl ?_
          refine g_icmp_eq_b (tgt := 57) dX6_knowsAny_44 (by decide) (fun c44 => ?_) (fun c44 => ?_)
          · skip
            refine g_iinc_n (b := 1) (L' := [(0, _), (1, _), (2, _), (3, _), (4, _)]) dX6_knowsAny_57 rfl rfl (by decide) rfl rfl ?_
            refine g_goto (tgt := 3) dX6_knowsAny_60 (by decide) ?_
            exact ih3 (s + 1) (by omega) (by omega) (fun s9 h9 hb9 => (Nat.lt_succ_iff_lt_or_eq.mp h9).elim (fun q => hi s9 q hb9) (fun q => by subst q; exact c44))
          · skip
            refine g_iload_n 3 dX6_knowsAny_47 rfl rfl ?_
            refine g_if_ne_b (tgt := 55) dX6_knowsAny_48 (by decide) (fun c48 => ?_) (fun c48 => ?_)
            · skip
              refine g_iconst (v := nI 0) dX6_knowsAny_55 (by decide +kernel) ?_
              exact g_zret (b := false) () dX6_knowsAny_56 (Nat.le_refl _) (Nat.le_refl _) (by rw [anyF_hit c9 (sBit_t c18) c44, c48]; rfl) (fun _ h => h)
            · skip
              refine g_iconst (v := nI 1) dX6_knowsAny_51 (by decide +kernel) ?_
              refine g_goto (tgt := 56) dX6_knowsAny_52 (by decide) ?_
              exact g_zret (b := true) () dX6_knowsAny_56 (Nat.le_refl _) (Nat.le_refl _) (by rw [anyF_hit c9 (sBit_t c18) c44, c48]; rfl) (fun _ h => h)
        · skip
          refine g_goto (tgt := 57) dX6_knowsAny_21 (by decide) ?_
          refine g_iinc_n (b := 1) (L' := [(0, _), (1, _), (2, _), (3, _), (4, _)]) dX6_knowsAny_57 rfl rfl (by decide) rfl rfl ?_
          refine g_goto (tgt := 3) dX6_knowsAny_60 (by decide) ?_
          exact ih3 (s + 1) (by omega) (by omega) (fun s9 h9 hb9 => (Nat.lt_succ_iff_lt_or_eq.mp h9).elim (fun q => hi s9 q hb9) (fun q => by subst q; rw [sBit_f c18] at hb9; exact absurd hb9 (by decide)))
  exact loop3 (tNS T + 1) 0 (by omega) (by omega) (fun s9 h9 => absurd h9 (Nat.not_lt_zero _))
set_option maxHeartbeats 4000000 in
/-- all that are wanted know -/
theorem ctX6_isEnd {xa ca cb ra ta : Nat → Nat} {T : Talk} {bL : Bool} {tk : Option Nat} {many : Nat} {xs ys heaps : Nat → Nat} {slips : Nat → Nat → Nat} {rows : Nat → Nat → Int64} {taped fk : Nat} {fa : Int32} {an nx : Nat} {images : Nat → Option Nat} {tape : Nat → Int32} {W : va_W} {mny wd : Nat} {wan hid : Int32} {rw bs : Nat → Nat} (lv : Nat) (f : Nat → Bool) (hT : TalkL Y T ta W) (hok : TOK T) (hC : LdC T many xs ys slips rows) (hwd : wd < many) (hlv : lv < 6) (hf : isRow (rows (142 + lv)) (fun w => decide (w < many) && f w)) : CT l D clX (tyX Y) yX6_isEnd cX6_isEnd 2 (some .boolean) ({ frames := 3, cells := 0, slots := 0, locals := 70 } : Room) [.ref (xa 5), .int (nI lv)] (HW D clX A (CoL Y ca ra 0 tk many 0 (-1) xs ys heaps slips rows (XoL Y xa ca cb ra (ta 0) bL taped fk fa an nx images tape (soL Y xa ra (some (ca 0)) mny wd wan hid rw bs W)))) (Qi (fun (v : Int32) (u : Unit) => v = bI (snFin T wan wd f)) (fun (u : Unit) => HW D clX A (CoL Y ca ra 0 tk many 0 (-1) xs ys heaps slips rows (XoL Y xa ca cb ra (ta 0) bL taped fk fa an nx images tape (soL Y xa ra (some (ca 0)) mny wd wan hid rw bs W)))) A) A := by
  refine CT.of (L := [(0, .ref (xa 5)), (1, .int (nI lv))]) rfl (by decide +kernel) rfl (Nat.le_of_ble_eq_true rfl) ?_
  refine g_aload_n 0 dX6_isEnd_0 rfl rfl ?_
  refine g_aload_n 0 dX6_isEnd_1 rfl rfl ?_
  refine g_getf (C := RX6) (T := TX6) (N := 10) 7 in_X6 rfl (by decide) q340 rfl dX6_isEnd_2 ((hw_mem (co_tl (xo_tl List.mem_cons_self)))) rfl ?_
  refine g_iload_n 1 dX6_isEnd_5 rfl rfl ?_
  refine g_iconst (v := bI true) dX6_isEnd_6 (by decide +kernel) ?_
  refine h_cVi (ctX6_knowsAny wan lv true f hT hok hC hwd hlv hf) (lw_V q1599 q1601 qs40 q114 q1602) ⟨rfl, hy_X6_knowsAny⟩ rfl ⟨Nat.le_of_ble_eq_true rfl, Nat.le_of_ble_eq_true rfl⟩ ⟨Nat.le_of_ble_eq_true rfl, Nat.le_of_ble_eq_true rfl⟩ rfl (Nat.le_of_ble_eq_true rfl) dX6_isEnd_7 so_rec (fun r u hp => ?_)
  obtain rfl := hp
  exact g_zret () dX6_isEnd_10 (Nat.le_refl _) (Nat.le_refl _) (rfl) (fun _ h => h)
set_option maxHeartbeats 4000000 in
/-- none of the hidden know -/
theorem ctX6_isGood {xa ca cb ra ta : Nat → Nat} {T : Talk} {bL : Bool} {tk : Option Nat} {many : Nat} {xs ys heaps : Nat → Nat} {slips : Nat → Nat → Nat} {rows : Nat → Nat → Int64} {taped fk : Nat} {fa : Int32} {an nx : Nat} {images : Nat → Option Nat} {tape : Nat → Int32} {W : va_W} {mny wd : Nat} {wan hid : Int32} {rw bs : Nat → Nat} (lv : Nat) (f : Nat → Bool) (hT : TalkL Y T ta W) (hok : TOK T) (hC : LdC T many xs ys slips rows) (hwd : wd < many) (hlv : lv < 6) (hf : isRow (rows (142 + lv)) (fun w => decide (w < many) && f w)) : CT l D clX (tyX Y) yX6_isGood cX6_isGood 2 (some .boolean) ({ frames := 3, cells := 0, slots := 0, locals := 70 } : Room) [.ref (xa 5), .int (nI lv)] (HW D clX A (CoL Y ca ra 0 tk many 0 (-1) xs ys heaps slips rows (XoL Y xa ca cb ra (ta 0) bL taped fk fa an nx images tape (soL Y xa ra (some (ca 0)) mny wd wan hid rw bs W)))) (Qi (fun (v : Int32) (u : Unit) => v = bI (snGood T hid wd f)) (fun (u : Unit) => HW D clX A (CoL Y ca ra 0 tk many 0 (-1) xs ys heaps slips rows (XoL Y xa ca cb ra (ta 0) bL taped fk fa an nx images tape (soL Y xa ra (some (ca 0)) mny wd wan hid rw bs W)))) A) A := by
  refine CT.of (L := [(0, .ref (xa 5)), (1, .int (nI lv))]) rfl (by decide +kernel) rfl (Nat.le_of_ble_eq_true rfl) ?_
  refine g_aload_n 0 dX6_isGood_0 rfl rfl ?_
  refine g_aload_n 0 dX6_isGood_1 rfl rfl ?_
  refine g_getf (C := RX6) (T := TX6) (N := 10) 8 in_X6 rfl (by decide) q342 rfl dX6_isGood_2 ((hw_mem (co_tl (xo_tl List.mem_cons_self)))) rfl ?_
  refine g_iload_n 1 dX6_isGood_5 rfl rfl ?_
  refine g_iconst (v := bI false) dX6_isGood_6 (by decide +kernel) ?_
  refine h_cVi (ctX6_knowsAny hid lv false f hT hok hC hwd hlv hf) (lw_V q1599 q1601 qs40 q114 q1602) ⟨rfl, hy_X6_knowsAny⟩ rfl ⟨Nat.le_of_ble_eq_true rfl, Nat.le_of_ble_eq_true rfl⟩ ⟨Nat.le_of_ble_eq_true rfl, Nat.le_of_ble_eq_true rfl⟩ rfl (Nat.le_of_ble_eq_true rfl) dX6_isGood_7 so_rec (fun r u hp => ?_)
  obtain rfl := hp
  refine g_if_ne_b (tgt := 17) dX6_isGood_10 (by decide) (fun c10 => ?_) (fun c10 => ?_)
  · skip
    refine g_iconst (v := nI 0) dX6_isGood_17 (by decide +kernel) ?_
    exact g_zret (b := false) () dX6_isGood_18 (Nat.le_refl _) (Nat.le_refl _) (by have h9 : (!snGood T hid wd f) = true := c10; rw [show snGood T hid wd f = false by rw [← Bool.not_not (snGood T hid wd f), h9]; rfl]) (fun _ h => h)
  · skip
    refine g_iconst (v := nI 1) dX6_isGood_13 (by decide +kernel) ?_
    refine g_goto (tgt := 18) dX6_isGood_14 (by decide) ?_
    exact g_zret (b := true) () dX6_isGood_18 (Nat.le_refl _) (Nat.le_refl _) (by have h9 : (!snGood T hid wd f) = false := c10; rw [show snGood T hid wd f = true by rw [← Bool.not_not (snGood T hid wd f), h9]; rfl]) (fun _ h => h)
set_option maxHeartbeats 4000000 in
/-- an answer that one gives -/
theorem ctX6_answers {xa ca cb ra ta : Nat → Nat} {T : Talk} {bL : Bool} {tk : Option Nat} {many : Nat} {xs ys heaps : Nat → Nat} {slips : Nat → Nat → Nat} {rows : Nat → Nat → Int64} {taped fk : Nat} {fa : Int32} {an nx : Nat} {images : Nat → Option Nat} {tape : Nat → Int32} {W : va_W} {mny wd : Nat} {wan hid : Int32} {rw bs : Nat → Nat} (s0 r0 r1 : Nat) (hok : TOK T) (hC : LdC T many xs ys slips rows) (hwd : wd < many) (hs : s0 < tNS T) (hr : r0 < 156) (hr1 : r1 < 156) (hne : ¬ r0 = r1) : CT l D clX (tyX Y) yX6_answers cX6_answers 4 none ({ frames := 4, cells := 0, slots := 0, locals := 95 } : Room) [.ref (xa 5), .int (nI s0), .ref (ra r0), .ref (ra r1)] (HW D clX A (CoL Y ca ra 0 tk many 0 (-1) xs ys heaps slips rows (XoL Y xa ca cb ra (ta 0) bL taped fk fa an nx images tape (soL Y xa ra (some (ca 0)) mny wd wan hid rw bs W)))) (Qv (fun (u : (Nat → Nat) × (Nat → Nat → Int64)) => RT rows u.2 r1 (fun w => lbt (rows r0) w && decide ((decide (w < many) && knowF many (slips s0) (lbt (rows r0)) w) = knowF many (slips s0) (lbt (rows r0)) wd))) (fun (u : (Nat → Nat) × (Nat → Nat → Int64)) => HW D clX A (CoL Y ca ra 0 tk many 0 (-1) xs ys u.1 slips u.2 (XoL Y xa ca cb ra (ta 0) bL taped fk fa an nx images tape (soL Y xa ra (some (ca 0)) mny wd wan hid rw bs W)))) A) A := by
  refine CT.of (L := [(0, .ref (xa 5)), (1, .int (nI s0)), (2, .ref (ra r0)), (3, .ref (ra r1))]) rfl (by decide +kernel) rfl (Nat.le_of_ble_eq_true rfl) ?_
  refine g_aload_n 0 dX6_answers_0 rfl rfl ?_
  refine g_getfU (C := RX6) (T := TX6) (N := 10) 3 in_X6 rfl (by decide) q357 q358 dX6_answers_1 ((hw_mem (co_tl (xo_tl List.mem_cons_self)))) rfl ?_
  refine g_iload_n 1 dX6_answers_4 rfl rfl ?_
  refine g_aload_n 0 dX6_answers_5 rfl rfl ?_
  refine g_getfU (C := RX6) (T := TX6) (N := 10) 3 in_X6 rfl (by decide) q357 q358 dX6_answers_6 ((hw_mem (co_tl (xo_tl List.mem_cons_self)))) rfl ?_
  refine g_iload_n 1 dX6_answers_9 rfl rfl ?_
  refine g_aload_n 0 dX6_answers_10 rfl rfl ?_
  refine g_getf (C := RX6) (T := TX6) (N := 10) 6 in_X6 rfl (by decide) q338 rfl dX6_answers_11 ((hw_mem (co_tl (xo_tl List.mem_cons_self)))) rfl ?_
  refine g_aload_n 2 dX6_answers_14 rfl rfl ?_
  refine h_cVi (ctX3_knowsIn s0 wd r0 (tNS T) (hC.ok hok) hs hok.2.2.2.2.2.1 hr hwd) (lw_V q1608 q1489 q1490 q111 q1491) ⟨rfl, hy_X3_knowsIn⟩ rfl ⟨Nat.le_of_ble_eq_true rfl, Nat.le_of_ble_eq_true rfl⟩ ⟨Nat.le_of_ble_eq_true rfl, Nat.le_of_ble_eq_true rfl⟩ rfl (Nat.le_of_ble_eq_true rfl) dX6_answers_15 co_rec (fun r u hp => ?_)
  obtain rfl := hp
  refine g_aload_n 2 dX6_answers_18 rfl rfl ?_
  refine g_aload_n 3 dX6_answers_19 rfl rfl ?_
  refine h_cVv (ctX3_answers s0 r0 r1 (tNS T) _ (hC.ok hok) hs hok.2.2.2.2.2.1 hr hr1 hne) (lw_V q1636 q1552 q1553 q111 q1554) ⟨rfl, hy_X3_answers⟩ rfl ⟨Nat.le_of_ble_eq_true rfl, Nat.le_of_ble_eq_true rfl⟩ ⟨Nat.le_of_ble_eq_true rfl, Nat.le_of_ble_eq_true rfl⟩ rfl (Nat.le_of_ble_eq_true rfl) dX6_answers_20 co_rec (fun u9 hp9 => ?_)
  obtain ⟨heaps2, rows2⟩ := u9
  exact g_vret (heaps2, rows2) dX6_answers_23 (Nat.le_refl _) (Nat.le_refl _) (hp9) (fun _ h => h)
def GoS (l : Launch) (D : va_G) (Y : Nat → ClassId) (A : Nat → Prop) (T : Talk) (wd : Nat) (wan hid : Int32) (d : Nat) : Prop := ∀ {xa ca cb ra ta : Nat → Nat} {bL : Bool} {tk : Option Nat} {many : Nat} {xs ys heaps : Nat → Nat} {slips : Nat → Nat → Nat} {rows : Nat → Nat → Int64} {taped fk : Nat} {fa : Int32} {an nx : Nat} {images : Nat → Option Nat} {tape : Nat → Int32} {W : va_W} {mny : Nat} {rw bs : Nat → Nat} (lv mo : Nat) (f : Nat → Bool), (TalkL Y T ta W) → (TOK T) → (LdC T many xs ys slips rows) → (wd < many) → (mo = lv + d) → (lv + d ≤ 5) → (isRow (rows (142 + lv)) (fun w => decide (w < many) && f w)) → CT l D clX (tyX Y) yX5_goes cX5_goes 4 (some .boolean) ({ frames := 6 + d, cells := 0, slots := 0, locals := 250 + 40 * d } : Room) [.ref (xa 5), .int (nI lv), .int (nI mo)] (HW D clX A (CoL Y ca ra 0 tk many 0 (-1) xs ys heaps slips rows (XoL Y xa ca cb ra (ta 0) bL taped fk fa an nx images tape (soL Y xa ra (some (ca 0)) mny wd wan hid rw bs W)))) (Qi (fun (v : Int32) (u : (Nat → Nat) × (Nat → Nat → Int64) × (Nat → Nat)) => v = bI (snF T wan hid wd d f).isSome ∧ GoW 142 lv d many (snF T wan hid wd d f) rows u.2.1 rw u.2.2) (fun (u : (Nat → Nat) × (Nat → Nat → Int64) × (Nat → Nat)) => HW D clX A (CoL Y ca ra 0 tk many 0 (-1) xs ys u.1 slips u.2.1 (XoL Y xa ca cb ra (ta 0) bL taped fk fa an nx images tape (soL Y xa ra (some (ca 0)) mny wd wan hid u.2.2 bs W)))) A) A
set_option maxHeartbeats 4000000 in
/-- all rows of answers -/
theorem ctX5_goesS {xa ca cb ra ta : Nat → Nat} {T : Talk} {bL : Bool} {tk : Option Nat} {many : Nat} {xs ys heaps : Nat → Nat} {slips : Nat → Nat → Nat} {rows : Nat → Nat → Int64} {taped fk : Nat} {fa : Int32} {an nx : Nat} {images : Nat → Option Nat} {tape : Nat → Int32} {W : va_W} {mny wd : Nat} {wan hid : Int32} {rw bs : Nat → Nat} (lv mo : Nat) (f : Nat → Bool) (d : Nat) (ih : ∀ d9, d = d9 + 1 → GoS l D Y A T wd wan hid d9) (hT : TalkL Y T ta W) (hok : TOK T) (hC : LdC T many xs ys slips rows) (hwd : wd < many) (hmo : mo = lv + d) (hlv : lv + d ≤ 5) (hf : isRow (rows (142 + lv)) (fun w => decide (w < many) && f w)) : CT l D clX (tyX Y) yX5_goes cX5_goes 4 (some .boolean) ({ frames := 6 + d, cells := 0, slots := 0, locals := 250 + 40 * d } : Room) [.ref (xa 5), .int (nI lv), .int (nI mo)] (HW D clX A (CoL Y ca ra 0 tk many 0 (-1) xs ys heaps slips rows (XoL Y xa ca cb ra (ta 0) bL taped fk fa an nx images tape (soL Y xa ra (some (ca 0)) mny wd wan hid rw bs W)))) (Qi (fun (v : Int32) (u : (Nat → Nat) × (Nat → Nat → Int64) × (Nat → Nat)) => v = bI (snF T wan hid wd d f).isSome ∧ GoW 142 lv d many (snF T wan hid wd d f) rows u.2.1 rw u.2.2) (fun (u : (Nat → Nat) × (Nat → Nat → Int64) × (Nat → Nat)) => HW D clX A (CoL Y ca ra 0 tk many 0 (-1) xs ys u.1 slips u.2.1 (XoL Y xa ca cb ra (ta 0) bL taped fk fa an nx images tape (soL Y xa ra (some (ca 0)) mny wd wan hid u.2.2 bs W)))) A) A := by
  have hn6 := hok.2.2.2.2.2.1
  refine CT.of (L := [(0, .ref (xa 5)), (1, .int (nI lv)), (2, .int (nI mo))]) rfl (by decide +kernel) rfl (Nat.le_of_ble_eq_true rfl) ?_
  refine g_aload_n 0 dX5_goes_0 rfl rfl ?_
  refine g_iload_n 1 dX5_goes_1 rfl rfl ?_
  refine h_cAi (ctX6_isGood lv f hT hok hC hwd (by omega) hf) (lw_U q1589 q1591 q1596 q1597 q114 q1598) q1590 hyx_TwoSlips_Rows_isGood__I_Z rfl ⟨by dsimp only; omega, by dsimp only; omega⟩ ⟨Nat.zero_le _, Nat.zero_le _⟩ rfl (Nat.le_of_ble_eq_true rfl) dX5_goes_2 so_rec (fun r u hp => ?_)
  obtain rfl := hp
  refine g_if_ne_b (tgt := 10) dX5_goes_5 (by decide) (fun c5 => ?_) (fun c5 => ?_)
  · skip
    refine g_iload_n 1 dX5_goes_10 rfl rfl ?_
    refine g_iload_n 2 dX5_goes_11 rfl rfl ?_
    refine g_icmp_ne_n (tgt := 21) dX5_goes_12 (by decide) (by omega) (by omega) (fun c12 => ?_) (fun c12 => ?_)
    · skip
      obtain ⟨d9, rfl⟩ : ∃ d9, d = d9 + 1 := ⟨d - 1, by omega⟩
      refine g_iconst (v := nI 0) dX5_goes_21 (by decide +kernel) ?_
      refine g_istore_n (L' := [(0, _), (1, _), (2, _), (3, _)]) 3 dX5_goes_22 rfl (by decide) rfl rfl ?_
      have loop23 : ∀ (q23 : Nat) (s : Nat) (heapsL : Nat → Nat) (rowsL : Nat → Nat → Int64) (rwL : Nat → Nat), tNS T - s < q23 → (s ≤ tNS T) → (srchF (fun k9 => snF T wan hid wd d9 (snStep T wd k9 f)) s = none) → (∀ r, ¬ (142 + lv < r ∧ r ≤ 142 + 5) → rowsL r = rows r) → (∀ j, j < lv → rwL j = rw j) → GG l D clX (tyX Y) cX5_goes 4 (some .boolean) RX5 ({ frames := 6 + (d9 + 1), cells := 0, slots := 0, locals := 250 + 40 * (d9 + 1) } : Room) A MT (QM (Qi (fun (v : Int32) (u : (Nat → Nat) × (Nat → Nat → Int64) × (Nat → Nat)) => v = bI (snF T wan hid wd (d9 + 1) f).isSome ∧ GoW 142 lv (d9 + 1) many (snF T wan hid wd (d9 + 1) f) rows u.2.1 rw u.2.2) (fun (u : (Nat → Nat) × (Nat → Nat → Int64) × (Nat → Nat)) => HW D clX A (CoL Y ca ra 0 tk many 0 (-1) xs ys u.1 slips u.2.1 (XoL Y xa ca cb ra (ta 0) bL taped fk fa an nx images tape (soL Y xa ra (some (ca 0)) mny wd wan hid u.2.2 bs W)))) A) 0 0 A) (HW D clX A (CoL Y ca ra 0 tk many 0 (-1) xs ys heapsL slips rowsL (XoL Y xa ca cb ra (ta 0) bL taped fk fa an nx images tape (soL Y xa ra (some (ca 0)) mny wd wan hid rwL bs W)))) 0 0 23 [(0, .ref (xa 5)), (1, .int (nI lv)), (2, .int (nI mo)), (3, .int (nI s))] [] := by
        intro q23
        induction q23 with
        | zero => intro s heapsL rowsL rwL hq23; exact absurd hq23 (Nat.not_lt_zero _)
        | succ q23 ih23 =>
          intro s heapsL rowsL rwL hq23 hs hno hk1 hk2
          have hCL : LdC T many xs ys slips rowsL := hC.keep hok (fun r hr => hk1 r (by omega))
          have hfL : isRow (rowsL (142 + lv)) (fun w => decide (w < many) && f w) := by rw [hk1 _ (by omega)]; exact hf
          refine g_iload_n 3 dX5_goes_23 rfl rfl ?_
          refine g_aload_n 0 dX5_goes_24 rfl rfl ?_
          refine h_cAi (ctX6_choices hT) (lw_U q1618 q1620 q1625 q1604 q114 q1606) q1619 hyx_TwoSlips_Rows_choices___I rfl ⟨by dsimp only; omega, by dsimp only; omega⟩ ⟨Nat.zero_le _, Nat.zero_le _⟩ rfl (Nat.le_of_ble_eq_true rfl) dX5_goes_25 so_rec (fun r u hp => ?_)
          obtain rfl := hp
          refine g_icmp_ge_n (tgt := 76) dX5_goes_28 (by decide) (by omega) (by omega) (fun c28 => ?_) (fun c28 => ?_)
          · skip
            refine g_iconst (v := nI 0) dX5_goes_76 (by decide +kernel) ?_
            exact g_zret (b := false) (heapsL, rowsL, rwL) dX5_goes_77 (Nat.le_refl _) (Nat.le_refl _) (by rw [show snF T wan hid wd (d9 + 1) f = srchF (fun k9 => snF T wan hid wd d9 (snStep T wd k9 f)) (tNS T) from (by show (if (snGood T hid wd f) = true then _ else none) = _; rw [if_pos c5]; rfl), ← show s = tNS T by omega, hno]; exact ⟨rfl, GoW.none hk1 hk2⟩) (fun _ h => h)
          · skip
            refine g_aload_n 0 dX5_goes_31 rfl rfl ?_
            refine g_iload_n 3 dX5_goes_32 rfl rfl ?_
            refine g_aload_n 0 dX5_goes_33 rfl rfl ?_
            refine g_getf (C := RX6) (T := TX6) (N := 10) 0 in_X6 rfl (by decide) q345 rfl dX5_goes_34 ((hw_mem (co_tl (xo_tl List.mem_cons_self)))) rfl ?_
            refine g_iload_n 1 dX5_goes_37 rfl rfl ?_
            refine so_ld_sets (by omega) dX5_goes_38 ?_
            refine g_aload_n 0 dX5_goes_39 rfl rfl ?_
            refine g_getf (C := RX6) (T := TX6) (N := 10) 0 in_X6 rfl (by decide) q345 rfl dX5_goes_40 ((hw_mem (co_tl (xo_tl List.mem_cons_self)))) rfl ?_
            refine g_iload_n 1 dX5_goes_43 rfl rfl ?_
            refine g_iconst (v := nI 1) dX5_goes_44 (by decide +kernel) ?_
            refine g_iadd_n dX5_goes_45 ?_
            refine so_ld_sets (by omega) dX5_goes_46 ?_
            refine h_cAv (ctX6_answers s (142 + lv) (142 + (lv + 1)) hok hCL hwd c28 (by omega) (by omega) (by omega)) (lw_U q1626 q1628 q1633 q1634 q114 q1635) q1627 hyx_TwoSlips_Rows_answers__I_J_J_V rfl ⟨by dsimp only; omega, by dsimp only; omega⟩ ⟨Nat.zero_le _, Nat.zero_le _⟩ rfl (Nat.le_of_ble_eq_true rfl) dX5_goes_47 so_rec (fun u9 hR4 => ?_)
            obtain ⟨heaps4, rows4⟩ := u9
            have hP2 := tP_le hok
            have hR4 : RT rowsL rows4 (142 + (lv + 1)) _ := hR4
            have hf4 : isRow (rows4 (142 + (lv + 1))) (fun w => decide (w < many) && snStep T wd s f w) := ans_row (s := s) hCL.mny (fun v hv => hCL.sl c28 hv) hP2 hfL (by have h9 := hR4.1; rw [so_kn hCL hok c28 hwd hfL] at h9; exact h9)
            have hC4 : LdC T many xs ys slips rows4 := hCL.row hok (by omega) hR4
            refine g_aload_n 0 dX5_goes_50 rfl rfl ?_
            refine g_getf (C := RX6) (T := TX6) (N := 10) 1 in_X6 rfl (by decide) q351 rfl dX5_goes_51 ((hw_mem (co_tl (xo_tl List.mem_cons_self)))) rfl ?_
            refine g_iload_n 1 dX5_goes_54 rfl rfl ?_
            refine g_iload_n 3 dX5_goes_55 rfl rfl ?_
            refine so_st_row (by omega) dX5_goes_56 ?_
            refine g_aload_n 0 dX5_goes_57 rfl rfl ?_
            refine g_iload_n 1 dX5_goes_58 rfl rfl ?_
            refine g_iconst (v := nI 1) dX5_goes_59 (by decide +kernel) ?_
            refine g_iadd_n dX5_goes_60 ?_
            refine g_iload_n 2 dX5_goes_61 rfl rfl ?_
            refine h_cQi (ci := 6) (ih d9 rfl (lv + 1) mo (snStep T wd s f) hT hok hC4 hwd (by omega) (by omega) hf4) q1588 q1585 q2422 q1586 q113 q1587 rfl hy_X5_goes rfl ⟨by dsimp only; omega, by dsimp only; omega⟩ ⟨Nat.zero_le _, Nat.zero_le _⟩ rfl (Nat.le_of_ble_eq_true rfl) dX5_goes_62 so_rec (fun r u9 hp9 => ?_)
            obtain ⟨heaps5, rows5, rw5⟩ := u9
            obtain ⟨hr5, hW5⟩ := hp9
            obtain rfl := hr5
            refine g_if_eq_b (tgt := 70) dX5_goes_65 (by decide) (fun c65 => ?_) (fun c65 => ?_)
            · skip
              refine g_iinc_n (b := 1) (L' := [(0, _), (1, _), (2, _), (3, _)]) dX5_goes_70 rfl rfl (by decide) rfl rfl ?_
              refine g_goto (tgt := 23) dX5_goes_73 (by decide) ?_
              obtain ⟨g1, g2⟩ := hW5.step hk1 hk2 hR4 (by omega)
              exact ih23 (s + 1) heaps5 rows5 rw5 (by omega) (by omega) (srchF_none hno (by cases h9 : snF T wan hid wd d9 (snStep T wd s f) with | none => rfl | some q9 => rw [h9] at c65; exact absurd (show true = false from c65) (by decide))) g1 g2
            · skip
              refine g_iconst (v := nI 1) dX5_goes_68 (by decide +kernel) ?_
              obtain ⟨⟨p9, S9⟩, hq9⟩ := Option.isSome_iff_exists.mp c65
              exact g_zret (b := true) (heaps5, rows5, rw5) dX5_goes_69 (Nat.le_refl _) (Nat.le_refl _) (by rw [show snF T wan hid wd (d9 + 1) f = srchF (fun k9 => snF T wan hid wd d9 (snStep T wd k9 f)) (tNS T) from (by show (if (snGood T hid wd f) = true then _ else none) = _; rw [if_pos c5]; rfl), srchF_some hno hq9 c28]; exact ⟨rfl, GoW.cons hk1 hk2 hR4 (by omega) hW5 hq9⟩) (fun _ h => h)
      exact loop23 (tNS T + 1) 0 heaps rows rw (by omega) (by omega) rfl (fun _ _ => rfl) (fun _ _ => rfl)
    · skip
      obtain rfl : d = 0 := by omega
      refine g_aload_n 0 dX5_goes_15 rfl rfl ?_
      refine g_iload_n 1 dX5_goes_16 rfl rfl ?_
      refine h_cAi (ctX6_isEnd lv f hT hok hC hwd (by omega) hf) (lw_U q1609 q1611 q1615 q1616 q114 q1617) q1610 hyx_TwoSlips_Rows_isEnd__I_Z rfl ⟨by dsimp only; omega, by dsimp only; omega⟩ ⟨Nat.zero_le _, Nat.zero_le _⟩ rfl (Nat.le_of_ble_eq_true rfl) dX5_goes_17 so_rec (fun r u hp => ?_)
      obtain rfl := hp
      have h9 : snF T wan hid wd 0 f = if (snFin T wan wd f) = true then some ([], f) else none := by show (if ((snGood T hid wd f) && (snFin T wan wd f)) = true then _ else none) = _; rw [c5, Bool.true_and]
      exact g_zret (heaps, rows, rw) dX5_goes_20 (Nat.le_refl _) (Nat.le_refl _) (by rw [h9]; cases hq : (snFin T wan wd f) with | true => exact ⟨rfl, fun _ _ => rfl, fun _ _ => rfl, fun p S h => by cases h; exact ⟨rfl, fun i hi => absurd hi (Nat.not_lt_zero _), hf⟩⟩ | false => exact ⟨rfl, GoW.none (fun _ _ => rfl) (fun _ _ => rfl)⟩) (fun _ h => h)
  · skip
    refine g_iconst (v := nI 0) dX5_goes_8 (by decide +kernel) ?_
    exact g_zret (b := false) (heaps, rows, rw) dX5_goes_9 (Nat.le_refl _) (Nat.le_refl _) (by rw [show snF T wan hid wd d f = none from (by cases d with | zero => (show (if ((snGood T hid wd f) && _) = true then _ else none) = none; rw [c5]; rfl) | succ d9 => (show (if (snGood T hid wd f) = true then _ else none) = none; rw [c5]; rfl))]; exact ⟨rfl, GoW.none (fun _ _ => rfl) (fun _ _ => rfl)⟩) (fun _ h => h)
theorem goS_all (T : Talk) (wd : Nat) (wan hid : Int32) : ∀ d, GoS l D Y A T wd wan hid d
  | 0 => fun lv mo f hT hok hC hwd hmo hlv hf => ctX5_goesS lv mo f 0 (fun d9 h => absurd h (by omega)) hT hok hC hwd hmo hlv hf
  | d + 1 => fun lv mo f hT hok hC hwd hmo hlv hf => ctX5_goesS lv mo f (d + 1) (fun d9 h => by cases h; exact goS_all T wd wan hid d) hT hok hC hwd hmo hlv hf
set_option maxHeartbeats 4000000 in
/-- the first row of answers -/
theorem ctX5_findsS {xa ca cb ra ta : Nat → Nat} {T : Talk} {bL : Bool} {tk : Option Nat} {many : Nat} {xs ys heaps : Nat → Nat} {slips : Nat → Nat → Nat} {rows : Nat → Nat → Int64} {taped fk : Nat} {fa : Int32} {an nx : Nat} {images : Nat → Option Nat} {tape : Nat → Int32} {W : va_W} {inn : Option Nat} {mny wd : Nat} {wan hid : Int32} {rw bs : Nat → Nat} (m0 : Nat) (hT : TalkL Y T ta W) (hok : TOK T) (hL : bL = true → tk = some (ta 0) ∧ LdC T many xs ys slips rows) (hm0 : m0 ≤ 5) (hwd : wd < tP T) : CT l D clX (tyX Y) yX5_finds cX5_finds 2 (some .boolean) ({ frames := 1816, cells := 0, slots := 0, locals := 54543 } : Room) [.ref (xa 5), .int (nI m0)] (HW D clX A (CoL Y ca ra 0 tk many 0 (-1) xs ys heaps slips rows (XoL Y xa ca cb ra (ta 0) bL taped fk fa an nx images tape (soL Y xa ra inn mny wd wan hid rw bs W)))) (Qi (fun (v : Int32) (u : (Nat × (Nat → Nat) × (Nat → Nat) × (Nat → Nat) × (Nat → Nat → Nat) × (Nat → Nat → Int64)) × Nat × (Nat → Nat)) => LdC T u.1.1 u.1.2.1 u.1.2.2.1 u.1.2.2.2.2.1 u.1.2.2.2.2.2 ∧ v = bI (firstG (fun l9 => snF T wan hid wd l9 allT) (m0 + 1)).isSome ∧ ∀ n9 p9, firstG (fun l9 => snF T wan hid wd l9 allT) (m0 + 1) = some (n9, p9) → u.2.1 = n9 ∧ n9 ≤ m0 ∧ (∀ i, i < n9 → u.2.2 i = p9.1.getD i 0) ∧ isRow (u.1.2.2.2.2.2 (142 + n9)) (fun w => decide (w < u.1.1) && p9.2 w)) (fun (u : (Nat × (Nat → Nat) × (Nat → Nat) × (Nat → Nat) × (Nat → Nat → Nat) × (Nat → Nat → Int64)) × Nat × (Nat → Nat)) => HW D clX A (CoL Y ca ra 0 (some (ta 0)) u.1.1 0 (-1) u.1.2.1 u.1.2.2.1 u.1.2.2.2.1 u.1.2.2.2.2.1 u.1.2.2.2.2.2 (XoL Y xa ca cb ra (ta 0) true taped fk fa an nx images tape (soL Y xa ra (some (ca 0)) u.2.1 wd wan hid u.2.2 bs W)))) A) A := by
  refine CT.of (L := [(0, .ref (xa 5)), (1, .int (nI m0))]) rfl (by decide +kernel) rfl (Nat.le_of_ble_eq_true rfl) ?_
  refine g_aload_n 0 dX5_finds_0 rfl rfl ?_
  refine g_aload_n 0 dX5_finds_1 rfl rfl ?_
  refine g_getf (C := RX6) (T := TX6) (N := 10) 5 in_X6 rfl (by decide) q368 rfl dX5_finds_2 ((hw_mem (co_tl (xo_tl List.mem_cons_self)))) rfl ?_
  refine h_cNo (ctX1_laid (so_up hT) hok hL) q513 q1583 q106 q512 qs1 hy_X1_laid rfl ⟨Nat.le_of_ble_eq_true rfl, Nat.le_of_ble_eq_true rfl⟩ ⟨Nat.le_of_ble_eq_true rfl, Nat.le_of_ble_eq_true rfl⟩ rfl (Nat.le_of_ble_eq_true rfl) dX5_finds_5 x_rec (fun u9 hC1 => ?_)
  obtain ⟨many1, xs1, ys1, heaps1, slips1, rows1⟩ := u9
  have hC1 : LdC T many1 xs1 ys1 slips1 rows1 := hC1
  have hP1 := hC1.mny
  have hP2 := tP_le hok
  refine so_put_in q361 dX5_finds_8 ?_
  refine g_aload_n 0 dX5_finds_11 rfl rfl ?_
  refine g_getf (C := RX6) (T := TX6) (N := 10) 3 in_X6 rfl (by decide) q361 rfl dX5_finds_12 ((hw_mem (co_tl (xo_tl List.mem_cons_self)))) rfl ?_
  refine co_get_allN q266 dX5_finds_15 ?_
  refine g_iconst (v := nI 0) dX5_finds_18 (by decide +kernel) ?_
  refine g_aload_n 0 dX5_finds_19 rfl rfl ?_
  refine g_getf (C := RX6) (T := TX6) (N := 10) 0 in_X6 rfl (by decide) q345 rfl dX5_finds_20 ((hw_mem (co_tl (xo_tl List.mem_cons_self)))) rfl ?_
  refine g_iconst (v := nI 0) dX5_finds_23 (by decide +kernel) ?_
  refine so_ld_sets (by omega) dX5_finds_24 ?_
  refine g_iconst (v := nI 0) dX5_finds_25 (by decide +kernel) ?_
  refine g_bipush (v := nI 29) dX5_finds_26 (by decide +kernel) ?_
  refine g_copyl (m := 29) (sp := 0) (dp := 0) (a0 := ra (0 + 69)) (a := ra (142 + 0)) q1584 q579 q578 q142 (0 + 69 + 13) (142 + 0 + 13) 1 rfl (CoL_row (r := 0 + 69) (by omega)) (CoL_row (r := 142 + 0) (by omega)) (by decide) (by decide) (by decide) (by decide) (CoL_setrow (r := 142 + 0) (by omega) _) (Nat.le_of_ble_eq_true rfl) (Nat.le_of_ble_eq_true rfl) dX5_finds_28 ?_
  refine g_aload_n 0 dX5_finds_31 rfl rfl ?_
  refine g_iconst (v := nI 0) dX5_finds_32 (by decide +kernel) ?_
  refine so_put_many q363 dX5_finds_33 ?_
  have loop36 : ∀ (q36 : Nat) (n0 : Nat) (heapsL : Nat → Nat) (rowsL : Nat → Nat → Int64) (rwL : Nat → Nat), m0 + 1 - n0 < q36 → (n0 ≤ m0 + 1) → (firstG (fun l9 => snF T wan hid wd l9 allT) n0 = none) → (LdC T many1 xs1 ys1 slips1 rowsL) → (isRow (rowsL (142 + 0)) (fun w => decide (w < many1) && allT w)) → GG l D clX (tyX Y) cX5_finds 2 (some .boolean) RX5 ({ frames := 1816, cells := 0, slots := 0, locals := 54543 } : Room) A MT (QM (Qi (fun (v : Int32) (u : (Nat × (Nat → Nat) × (Nat → Nat) × (Nat → Nat) × (Nat → Nat → Nat) × (Nat → Nat → Int64)) × Nat × (Nat → Nat)) => LdC T u.1.1 u.1.2.1 u.1.2.2.1 u.1.2.2.2.2.1 u.1.2.2.2.2.2 ∧ v = bI (firstG (fun l9 => snF T wan hid wd l9 allT) (m0 + 1)).isSome ∧ ∀ n9 p9, firstG (fun l9 => snF T wan hid wd l9 allT) (m0 + 1) = some (n9, p9) → u.2.1 = n9 ∧ n9 ≤ m0 ∧ (∀ i, i < n9 → u.2.2 i = p9.1.getD i 0) ∧ isRow (u.1.2.2.2.2.2 (142 + n9)) (fun w => decide (w < u.1.1) && p9.2 w)) (fun (u : (Nat × (Nat → Nat) × (Nat → Nat) × (Nat → Nat) × (Nat → Nat → Nat) × (Nat → Nat → Int64)) × Nat × (Nat → Nat)) => HW D clX A (CoL Y ca ra 0 (some (ta 0)) u.1.1 0 (-1) u.1.2.1 u.1.2.2.1 u.1.2.2.2.1 u.1.2.2.2.2.1 u.1.2.2.2.2.2 (XoL Y xa ca cb ra (ta 0) true taped fk fa an nx images tape (soL Y xa ra (some (ca 0)) u.2.1 wd wan hid u.2.2 bs W)))) A) 0 0 A) (HW D clX A (CoL Y ca ra 0 (some (ta 0)) many1 0 (-1) xs1 ys1 heapsL slips1 rowsL (XoL Y xa ca cb ra (ta 0) true taped fk fa an nx images tape (soL Y xa ra (some (ca 0)) n0 wd wan hid rwL bs W)))) 0 0 36 [(0, .ref (xa 5)), (1, .int (nI m0))] [] := by
    intro q36
    induction q36 with
    | zero => intro n0 heapsL rowsL rwL hq36; exact absurd hq36 (Nat.not_lt_zero _)
    | succ q36 ih36 =>
      intro n0 heapsL rowsL rwL hq36 hn0 hno hCL hfL
      have hwd1 : wd < many1 := by omega
      refine g_aload_n 0 dX5_finds_36 rfl rfl ?_
      refine g_getf (C := RX6) (T := TX6) (N := 10) 4 in_X6 rfl (by decide) q363 rfl dX5_finds_37 ((hw_mem (co_tl (xo_tl List.mem_cons_self)))) rfl ?_
      refine g_iload_n 1 dX5_finds_40 rfl rfl ?_
      refine g_icmp_gt_n (tgt := 71) dX5_finds_41 (by decide) (by omega) (by omega) (fun c41 => ?_) (fun c41 => ?_)
      · skip
        refine g_iconst (v := nI 0) dX5_finds_71 (by decide +kernel) ?_
        have hg : firstG (fun l9 => snF T wan hid wd l9 allT) (m0 + 1) = none := by rw [show m0 + 1 = n0 by omega]; exact hno
        exact g_zret (b := false) ((many1, xs1, ys1, heapsL, slips1, rowsL), n0, rwL) dX5_finds_72 (Nat.le_refl _) (Nat.le_refl _) (⟨hCL, by rw [hg]; rfl, fun n9 q9 h9 => by rw [hg] at h9; cases h9⟩) (fun _ h => h)
      · skip
        refine g_aload_n 0 dX5_finds_44 rfl rfl ?_
        refine g_iconst (v := nI 0) dX5_finds_45 (by decide +kernel) ?_
        refine g_aload_n 0 dX5_finds_46 rfl rfl ?_
        refine g_getf (C := RX6) (T := TX6) (N := 10) 4 in_X6 rfl (by decide) q363 rfl dX5_finds_47 ((hw_mem (co_tl (xo_tl List.mem_cons_self)))) rfl ?_
        refine h_cQi (ci := 6) (goS_all T wd wan hid n0 0 n0 allT hT hok hCL hwd1 (by omega) (by omega) hfL) q1588 q1585 q2422 q1586 q113 q1587 rfl hy_X5_goes rfl ⟨by dsimp only; omega, by dsimp only; omega⟩ ⟨Nat.zero_le _, Nat.zero_le _⟩ rfl (Nat.le_of_ble_eq_true rfl) dX5_finds_50 so_rec (fun r u9 hp9 => ?_)
        obtain ⟨heaps5, rows5, rw5⟩ := u9
        obtain ⟨hr5, hW5⟩ := hp9
        obtain rfl := hr5
        have hC5 : LdC T many1 xs1 ys1 slips1 rows5 := hCL.keep hok (fun r hr => hW5.1 r (by omega))
        refine g_if_eq_b (tgt := 58) dX5_finds_53 (by decide) (fun c53 => ?_) (fun c53 => ?_)
        · skip
          refine g_aload_n 0 dX5_finds_58 rfl rfl ?_
          refine g_dup dX5_finds_59 rfl ?_
          refine g_getf (C := RX6) (T := TX6) (N := 10) 4 in_X6 rfl (by decide) q363 rfl dX5_finds_60 ((hw_mem (co_tl (xo_tl List.mem_cons_self)))) rfl ?_
          refine g_iconst (v := nI 1) dX5_finds_63 (by decide +kernel) ?_
          refine g_iadd_n dX5_finds_64 ?_
          refine so_put_many q363 dX5_finds_65 ?_
          refine g_goto (tgt := 36) dX5_finds_68 (by decide) ?_
          exact ih36 (n0 + 1) heaps5 rows5 rw5 (by omega) (by omega) (firstG_none hno (by cases h9 : snF T wan hid wd n0 allT with | none => rfl | some q9 => rw [h9] at c53; exact absurd (show true = false from c53) (by decide))) hC5 (by rw [show rows5 (142 + 0) = rowsL (142 + 0) from hW5.1 _ (by omega)]; exact hfL)
        · skip
          refine g_iconst (v := nI 1) dX5_finds_56 (by decide +kernel) ?_
          obtain ⟨⟨p9, S9⟩, hq9⟩ := Option.isSome_iff_exists.mp c53
          obtain ⟨g1, g2, g3⟩ := hW5.2.2 p9 S9 hq9
          have hg := firstG_some hno hq9 (m := m0 + 1) (by omega)
          exact g_zret (b := true) ((many1, xs1, ys1, heaps5, slips1, rows5), n0, rw5) dX5_finds_57 (Nat.le_refl _) (Nat.le_refl _) (⟨hC5, by rw [hg]; rfl, fun n9 q9 h9 => by rw [hg] at h9; cases h9; exact ⟨rfl, by omega, fun i hi => by have h8 := g2 i hi; rw [Nat.zero_add] at h8; exact h8, by rw [show 142 + n0 = 142 + 0 + n0 by omega]; exact g3⟩⟩) (fun _ h => h)
  exact loop36 (m0 + 2) 0 heaps1 _ rw (by omega) (by omega) rfl (hC1.up hok (by omega)) (hC1.all (fun _ => rfl))
set_option maxHeartbeats 4000000 in
/-- twice the speakers -/
theorem ctX7_choices {xa ca cb ra ta : Nat → Nat} {T : Talk} {bL : Bool} {tk : Option Nat} {many : Nat} {xs ys heaps : Nat → Nat} {slips : Nat → Nat → Nat} {rows : Nat → Nat → Int64} {taped fk : Nat} {fa : Int32} {an nx : Nat} {images : Nat → Option Nat} {tape : Nat → Int32} {W : va_W} {mny : Nat} {rw bs : Nat → Nat}  (hT : TalkL Y T ta W) : CT l D clX (tyX Y) yX7_choices cX7_choices 1 (some .int) ({ frames := 1, cells := 0, slots := 0, locals := 20 } : Room) [.ref (xa 9)] (HW D clX A (CoL Y ca ra 0 tk many 0 (-1) xs ys heaps slips rows (XoL Y xa ca cb ra (ta 0) bL taped fk fa an nx images tape (brL Y xa ra (some (ca 0)) mny rw bs W)))) (Qi (fun (v : Int32) (u : Unit) => v = nI (2 * tNS T)) (fun (u : Unit) => HW D clX A (CoL Y ca ra 0 tk many 0 (-1) xs ys heaps slips rows (XoL Y xa ca cb ra (ta 0) bL taped fk fa an nx images tape (brL Y xa ra (some (ca 0)) mny rw bs W)))) A) A := by
  obtain ⟨ea1, na1, mc1, hL1⟩ := hT.2.1
  refine CT.of (L := [(0, .ref (xa 9))]) rfl (by decide +kernel) rfl (Nat.le_of_ble_eq_true rfl) ?_
  refine g_iconst (v := nI 2) dX7_choices_0 (by decide +kernel) ?_
  refine g_aload_n 0 dX7_choices_1 rfl rfl ?_
  refine g_getf (C := RX7) (T := TX7) (N := 7) 6 in_X7 rfl (by decide) q396 rfl dX7_choices_2 ((hw_mem (co_tl (xo_tl List.mem_cons_self)))) rfl ?_
  refine x_get_talkN q442 dX7_choices_5 ?_
  refine g_getfN (C := RX2) (T := TX2) (N := 7) 0 in_X2 rfl (by decide) q203 rfl dX7_choices_8 (co_has _ (xo_tl (br_tl hT.1))) rfl ?_
  refine h_cVi (ctJ2_size (co_has _ (xo_tl (br_tl hL1.1)))) (lw_V q1624 q522 q523 q110 q524) ⟨rfl, hy_J2_size⟩ rfl ⟨Nat.le_of_ble_eq_true rfl, Nat.le_of_ble_eq_true rfl⟩ ⟨Nat.le_of_ble_eq_true rfl, Nat.le_of_ble_eq_true rfl⟩ rfl (Nat.le_of_ble_eq_true rfl) dX7_choices_11 (fun s H hK hP => va_recv hK (co_has _ (xo_tl (br_tl hL1.1)) H hP) (ci := 33) rfl (q0 := 0) rfl) (fun r u hp => ?_)
  obtain rfl := hp
  refine g_imul_n dX7_choices_14 ?_
  exact g_iret () dX7_choices_15 (Nat.le_refl _) (Nat.le_refl _) (rfl) (fun _ h => h)
set_option maxHeartbeats 4000000 in
/-- isEnd -/
theorem ctX7_isEnd {xa ca cb ra ta : Nat → Nat} {T : Talk} {bL : Bool} {tk : Option Nat} {many : Nat} {xs ys heaps : Nat → Nat} {slips : Nat → Nat → Nat} {rows : Nat → Nat → Int64} {taped fk : Nat} {fa : Int32} {an nx : Nat} {images : Nat → Option Nat} {tape : Nat → Int32} {W : va_W} {mny : Nat} {rw bs : Nat → Nat} (lv : Nat) (f : Nat → Bool) (hT : TalkL Y T ta W) (hok : TOK T) (hC : LdC T many xs ys slips rows) (hlv : lv < 6) (hf : isRow (rows (148 + lv)) (fun w => decide (w < many) && f w)) : CT l D clX (tyX Y) yX7_isEnd cX7_isEnd 2 (some .boolean) ({ frames := 2, cells := 0, slots := 0, locals := 43 } : Room) [.ref (xa 9), .int (nI lv)] (HW D clX A (CoL Y ca ra 0 tk many 0 (-1) xs ys heaps slips rows (XoL Y xa ca cb ra (ta 0) bL taped fk fa an nx images tape (brL Y xa ra (some (ca 0)) mny rw bs W)))) (Qi (fun (v : Int32) (u : Unit) => v = bI (shFin T f)) (fun (u : Unit) => HW D clX A (CoL Y ca ra 0 tk many 0 (-1) xs ys heaps slips rows (XoL Y xa ca cb ra (ta 0) bL taped fk fa an nx images tape (brL Y xa ra (some (ca 0)) mny rw bs W)))) A) A := by
  have hc9 : cnt f (tP T) < 2 ^ 31 := by have h1 := cnt_le f (tP T); have h2 := tP_le hok; omega
  refine CT.of (L := [(0, .ref (xa 9)), (1, .int (nI lv))]) rfl (by decide +kernel) rfl (Nat.le_of_ble_eq_true rfl) ?_
  refine g_aload_n 0 dX7_isEnd_0 rfl rfl ?_
  refine g_getfU (C := RX7) (T := TX7) (N := 7) 0 in_X7 rfl (by decide) q346 q347 dX7_isEnd_1 ((hw_mem (co_tl (xo_tl List.mem_cons_self)))) rfl ?_
  refine g_iload_n 1 dX7_isEnd_4 rfl rfl ?_
  refine br_ld_sets (by omega) dX7_isEnd_5 ?_
  refine h_cMi (ctX1_count (f := rows (148 + lv)) (hw_ix (CoL_row (r := 148 + lv) (by omega)))) q699 q1595 q106 q698 hy_X1_count rfl ⟨Nat.le_of_ble_eq_true rfl, Nat.le_of_ble_eq_true rfl⟩ ⟨Nat.le_of_ble_eq_true rfl, Nat.le_of_ble_eq_true rfl⟩ rfl (Nat.le_of_ble_eq_true rfl) dX7_isEnd_6 (fun r u hp => ?_)
  obtain rfl := hp
  rw [row_cnt hf (by have h1 := hC.mny; have h2 := tP_le hok; omega), hC.mny]
  refine g_iconst (v := nI 1) dX7_isEnd_9 (by decide +kernel) ?_
  refine g_icmp_ne_n (tgt := 17) dX7_isEnd_10 (by decide) (by omega) (by omega) (fun c10 => ?_) (fun c10 => ?_)
  · skip
    refine g_iconst (v := nI 0) dX7_isEnd_17 (by decide +kernel) ?_
    exact g_zret (b := false) () dX7_isEnd_18 (Nat.le_refl _) (Nat.le_refl _) (by unfold shFin; rw [decide_eq_false (by omega)]) (fun _ h => h)
  · skip
    refine g_iconst (v := nI 1) dX7_isEnd_13 (by decide +kernel) ?_
    refine g_goto (tgt := 18) dX7_isEnd_14 (by decide) ?_
    exact g_zret (b := true) () dX7_isEnd_18 (Nat.le_refl _) (Nat.le_refl _) (by unfold shFin; rw [decide_eq_true (by omega)]) (fun _ h => h)
set_option maxHeartbeats 4000000 in
/-- isGood -/
theorem ctX7_isGood {xa ca cb ra ta : Nat → Nat} {T : Talk} {bL : Bool} {tk : Option Nat} {many : Nat} {xs ys heaps : Nat → Nat} {slips : Nat → Nat → Nat} {rows : Nat → Nat → Int64} {taped fk : Nat} {fa : Int32} {an nx : Nat} {images : Nat → Option Nat} {tape : Nat → Int32} {W : va_W} {mny : Nat} {rw bs : Nat → Nat} (lv : Nat) (f : Nat → Bool) (hT : TalkL Y T ta W) (hok : TOK T) (hC : LdC T many xs ys slips rows) (hlv : lv < 6) (hf : isRow (rows (148 + lv)) (fun w => decide (w < many) && f w)) : CT l D clX (tyX Y) yX7_isGood cX7_isGood 2 (some .boolean) ({ frames := 2, cells := 0, slots := 0, locals := 43 } : Room) [.ref (xa 9), .int (nI lv)] (HW D clX A (CoL Y ca ra 0 tk many 0 (-1) xs ys heaps slips rows (XoL Y xa ca cb ra (ta 0) bL taped fk fa an nx images tape (brL Y xa ra (some (ca 0)) mny rw bs W)))) (Qi (fun (v : Int32) (u : Unit) => v = bI (shGood T f)) (fun (u : Unit) => HW D clX A (CoL Y ca ra 0 tk many 0 (-1) xs ys heaps slips rows (XoL Y xa ca cb ra (ta 0) bL taped fk fa an nx images tape (brL Y xa ra (some (ca 0)) mny rw bs W)))) A) A := by
  have hc9 : cnt f (tP T) < 2 ^ 31 := by have h1 := cnt_le f (tP T); have h2 := tP_le hok; omega
  refine CT.of (L := [(0, .ref (xa 9)), (1, .int (nI lv))]) rfl (by decide +kernel) rfl (Nat.le_of_ble_eq_true rfl) ?_
  refine g_aload_n 0 dX7_isGood_0 rfl rfl ?_
  refine g_getfU (C := RX7) (T := TX7) (N := 7) 0 in_X7 rfl (by decide) q346 q347 dX7_isGood_1 ((hw_mem (co_tl (xo_tl List.mem_cons_self)))) rfl ?_
  refine g_iload_n 1 dX7_isGood_4 rfl rfl ?_
  refine br_ld_sets (by omega) dX7_isGood_5 ?_
  refine h_cMi (ctX1_count (f := rows (148 + lv)) (hw_ix (CoL_row (r := 148 + lv) (by omega)))) q699 q1595 q106 q698 hy_X1_count rfl ⟨Nat.le_of_ble_eq_true rfl, Nat.le_of_ble_eq_true rfl⟩ ⟨Nat.le_of_ble_eq_true rfl, Nat.le_of_ble_eq_true rfl⟩ rfl (Nat.le_of_ble_eq_true rfl) dX7_isGood_6 (fun r u hp => ?_)
  obtain rfl := hp
  rw [row_cnt hf (by have h1 := hC.mny; have h2 := tP_le hok; omega), hC.mny]
  refine g_if_le_n (tgt := 16) dX7_isGood_9 (by decide) (by omega) (fun c9 => ?_) (fun c9 => ?_)
  · skip
    refine g_iconst (v := nI 0) dX7_isGood_16 (by decide +kernel) ?_
    exact g_zret (b := false) () dX7_isGood_17 (Nat.le_refl _) (Nat.le_refl _) (by unfold shGood; rw [decide_eq_false (by omega)]) (fun _ h => h)
  · skip
    refine g_iconst (v := nI 1) dX7_isGood_12 (by decide +kernel) ?_
    refine g_goto (tgt := 17) dX7_isGood_13 (by decide) ?_
    exact g_zret (b := true) () dX7_isGood_17 (Nat.le_refl _) (Nat.le_refl _) (by unfold shGood; rw [decide_eq_true (by omega)]) (fun _ h => h)
set_option maxHeartbeats 4000000 in
/-- an answer -/
theorem ctX7_answers {xa ca cb ra ta : Nat → Nat} {T : Talk} {bL : Bool} {tk : Option Nat} {many : Nat} {xs ys heaps : Nat → Nat} {slips : Nat → Nat → Nat} {rows : Nat → Nat → Int64} {taped fk : Nat} {fa : Int32} {an nx : Nat} {images : Nat → Option Nat} {tape : Nat → Int32} {W : va_W} {mny : Nat} {rw bs : Nat → Nat} (v0 r0 r1 : Nat) (hok : TOK T) (hC : LdC T many xs ys slips rows) (hs : v0 < 2 * tNS T) (hr : r0 < 156) (hr1 : r1 < 156) (hne : ¬ r0 = r1) : CT l D clX (tyX Y) yX7_answers cX7_answers 4 none ({ frames := 4, cells := 0, slots := 0, locals := 95 } : Room) [.ref (xa 9), .int (nI v0), .ref (ra r0), .ref (ra r1)] (HW D clX A (CoL Y ca ra 0 tk many 0 (-1) xs ys heaps slips rows (XoL Y xa ca cb ra (ta 0) bL taped fk fa an nx images tape (brL Y xa ra (some (ca 0)) mny rw bs W)))) (Qv (fun (u : (Nat → Nat) × (Nat → Nat → Int64)) => RT rows u.2 r1 (fun w => lbt (rows r0) w && decide ((decide (w < many) && knowF many (slips (v0 / 2)) (lbt (rows r0)) w) = decide (v0 % 2 = 1)))) (fun (u : (Nat → Nat) × (Nat → Nat → Int64)) => HW D clX A (CoL Y ca ra 0 tk many 0 (-1) xs ys u.1 slips u.2 (XoL Y xa ca cb ra (ta 0) bL taped fk fa an nx images tape (brL Y xa ra (some (ca 0)) mny rw bs W)))) A) A := by
  have hn6 := hok.2.2.2.2.2.1
  refine CT.of (L := [(0, .ref (xa 9)), (1, .int (nI v0)), (2, .ref (ra r0)), (3, .ref (ra r1))]) rfl (by decide +kernel) rfl (Nat.le_of_ble_eq_true rfl) ?_
  refine g_aload_n 0 dX7_answers_0 rfl rfl ?_
  refine g_getfU (C := RX7) (T := TX7) (N := 7) 3 in_X7 rfl (by decide) q359 q360 dX7_answers_1 ((hw_mem (co_tl (xo_tl List.mem_cons_self)))) rfl ?_
  refine g_iload_n 1 dX7_answers_4 rfl rfl ?_
  refine g_iconst (v := nI 2) dX7_answers_5 (by decide +kernel) ?_
  refine g_idiv_n dX7_answers_6 (by omega) (by decide) (by decide) ?_
  refine g_iload_n 1 dX7_answers_7 rfl rfl ?_
  refine g_iconst (v := nI 2) dX7_answers_8 (by decide +kernel) ?_
  refine g_irem_n dX7_answers_9 (by omega) (by decide) (by decide) ?_
  refine g_iconst (v := nI 1) dX7_answers_10 (by decide +kernel) ?_
  refine g_icmp_ne_n (tgt := 18) dX7_answers_11 (by decide) (by omega) (by omega) (fun c11 => ?_) (fun c11 => ?_)
  · skip
    refine g_iconst (v := bI false) dX7_answers_18 (by decide +kernel) ?_
    refine g_aload_n 2 dX7_answers_19 rfl rfl ?_
    refine g_aload_n 3 dX7_answers_20 rfl rfl ?_
    refine h_cVv (ctX3_answers (v0 / 2) r0 r1 (tNS T) false (hC.ok hok) (by omega) hok.2.2.2.2.2.1 hr hr1 hne) (lw_V q1632 q1552 q1553 q111 q1554) ⟨rfl, hy_X3_answers⟩ rfl ⟨Nat.le_of_ble_eq_true rfl, Nat.le_of_ble_eq_true rfl⟩ ⟨Nat.le_of_ble_eq_true rfl, Nat.le_of_ble_eq_true rfl⟩ rfl (Nat.le_of_ble_eq_true rfl) dX7_answers_21 co_rec (fun u9 hp9 => ?_)
    obtain ⟨heaps2, rows2⟩ := u9
    exact g_vret (heaps2, rows2) dX7_answers_24 (Nat.le_refl _) (Nat.le_refl _) (by first | (rw [decide_eq_true c11]; exact hp9) | (rw [decide_eq_false c11]; exact hp9)) (fun _ h => h)
  · skip
    refine g_iconst (v := bI true) dX7_answers_14 (by decide +kernel) ?_
    refine g_goto (tgt := 19) dX7_answers_15 (by decide) ?_
    refine g_aload_n 2 dX7_answers_19 rfl rfl ?_
    refine g_aload_n 3 dX7_answers_20 rfl rfl ?_
    refine h_cVv (ctX3_answers (v0 / 2) r0 r1 (tNS T) true (hC.ok hok) (by omega) hok.2.2.2.2.2.1 hr hr1 hne) (lw_V q1632 q1552 q1553 q111 q1554) ⟨rfl, hy_X3_answers⟩ rfl ⟨Nat.le_of_ble_eq_true rfl, Nat.le_of_ble_eq_true rfl⟩ ⟨Nat.le_of_ble_eq_true rfl, Nat.le_of_ble_eq_true rfl⟩ rfl (Nat.le_of_ble_eq_true rfl) dX7_answers_21 co_rec (fun u9 hp9 => ?_)
    obtain ⟨heaps2, rows2⟩ := u9
    exact g_vret (heaps2, rows2) dX7_answers_24 (Nat.le_refl _) (Nat.le_refl _) (by first | (rw [decide_eq_true c11]; exact hp9) | (rw [decide_eq_false c11]; exact hp9)) (fun _ h => h)
def GoB (l : Launch) (D : va_G) (Y : Nat → ClassId) (A : Nat → Prop) (T : Talk) (d : Nat) : Prop := ∀ {xa ca cb ra ta : Nat → Nat} {bL : Bool} {tk : Option Nat} {many : Nat} {xs ys heaps : Nat → Nat} {slips : Nat → Nat → Nat} {rows : Nat → Nat → Int64} {taped fk : Nat} {fa : Int32} {an nx : Nat} {images : Nat → Option Nat} {tape : Nat → Int32} {W : va_W} {mny : Nat} {rw bs : Nat → Nat} (lv mo : Nat) (f : Nat → Bool), (TalkL Y T ta W) → (TOK T) → (LdC T many xs ys slips rows) → (mo = lv + d) → (lv + d ≤ 5) → (isRow (rows (148 + lv)) (fun w => decide (w < many) && f w)) → CT l D clX (tyX Y) yX5_goes cX5_goes 4 (some .boolean) ({ frames := 6 + d, cells := 0, slots := 0, locals := 250 + 40 * d } : Room) [.ref (xa 9), .int (nI lv), .int (nI mo)] (HW D clX A (CoL Y ca ra 0 tk many 0 (-1) xs ys heaps slips rows (XoL Y xa ca cb ra (ta 0) bL taped fk fa an nx images tape (brL Y xa ra (some (ca 0)) mny rw bs W)))) (Qi (fun (v : Int32) (u : (Nat → Nat) × (Nat → Nat → Int64) × (Nat → Nat)) => v = bI (shF T d f).isSome ∧ GoW 148 lv d many (shF T d f) rows u.2.1 rw u.2.2) (fun (u : (Nat → Nat) × (Nat → Nat → Int64) × (Nat → Nat)) => HW D clX A (CoL Y ca ra 0 tk many 0 (-1) xs ys u.1 slips u.2.1 (XoL Y xa ca cb ra (ta 0) bL taped fk fa an nx images tape (brL Y xa ra (some (ca 0)) mny u.2.2 bs W)))) A) A
set_option maxHeartbeats 4000000 in
/-- all rows of answers -/
theorem ctX5_goesB {xa ca cb ra ta : Nat → Nat} {T : Talk} {bL : Bool} {tk : Option Nat} {many : Nat} {xs ys heaps : Nat → Nat} {slips : Nat → Nat → Nat} {rows : Nat → Nat → Int64} {taped fk : Nat} {fa : Int32} {an nx : Nat} {images : Nat → Option Nat} {tape : Nat → Int32} {W : va_W} {mny : Nat} {rw bs : Nat → Nat} (lv mo : Nat) (f : Nat → Bool) (d : Nat) (ih : ∀ d9, d = d9 + 1 → GoB l D Y A T d9) (hT : TalkL Y T ta W) (hok : TOK T) (hC : LdC T many xs ys slips rows) (hmo : mo = lv + d) (hlv : lv + d ≤ 5) (hf : isRow (rows (148 + lv)) (fun w => decide (w < many) && f w)) : CT l D clX (tyX Y) yX5_goes cX5_goes 4 (some .boolean) ({ frames := 6 + d, cells := 0, slots := 0, locals := 250 + 40 * d } : Room) [.ref (xa 9), .int (nI lv), .int (nI mo)] (HW D clX A (CoL Y ca ra 0 tk many 0 (-1) xs ys heaps slips rows (XoL Y xa ca cb ra (ta 0) bL taped fk fa an nx images tape (brL Y xa ra (some (ca 0)) mny rw bs W)))) (Qi (fun (v : Int32) (u : (Nat → Nat) × (Nat → Nat → Int64) × (Nat → Nat)) => v = bI (shF T d f).isSome ∧ GoW 148 lv d many (shF T d f) rows u.2.1 rw u.2.2) (fun (u : (Nat → Nat) × (Nat → Nat → Int64) × (Nat → Nat)) => HW D clX A (CoL Y ca ra 0 tk many 0 (-1) xs ys u.1 slips u.2.1 (XoL Y xa ca cb ra (ta 0) bL taped fk fa an nx images tape (brL Y xa ra (some (ca 0)) mny u.2.2 bs W)))) A) A := by
  have hn6 := hok.2.2.2.2.2.1
  refine CT.of (L := [(0, .ref (xa 9)), (1, .int (nI lv)), (2, .int (nI mo))]) rfl (by decide +kernel) rfl (Nat.le_of_ble_eq_true rfl) ?_
  refine g_aload_n 0 dX5_goes_0 rfl rfl ?_
  refine g_iload_n 1 dX5_goes_1 rfl rfl ?_
  refine h_cAi (ctX7_isGood lv f hT hok hC (by omega) hf) (lw_U q1589 q1591 q1592 q1593 q115 q1594) q1590 hyx_TwoSlips_Rows_isGood__I_Z rfl ⟨by dsimp only; omega, by dsimp only; omega⟩ ⟨Nat.zero_le _, Nat.zero_le _⟩ rfl (Nat.le_of_ble_eq_true rfl) dX5_goes_2 br_rec (fun r u hp => ?_)
  obtain rfl := hp
  refine g_if_ne_b (tgt := 10) dX5_goes_5 (by decide) (fun c5 => ?_) (fun c5 => ?_)
  · skip
    refine g_iload_n 1 dX5_goes_10 rfl rfl ?_
    refine g_iload_n 2 dX5_goes_11 rfl rfl ?_
    refine g_icmp_ne_n (tgt := 21) dX5_goes_12 (by decide) (by omega) (by omega) (fun c12 => ?_) (fun c12 => ?_)
    · skip
      obtain ⟨d9, rfl⟩ : ∃ d9, d = d9 + 1 := ⟨d - 1, by omega⟩
      refine g_iconst (v := nI 0) dX5_goes_21 (by decide +kernel) ?_
      refine g_istore_n (L' := [(0, _), (1, _), (2, _), (3, _)]) 3 dX5_goes_22 rfl (by decide) rfl rfl ?_
      have loop23 : ∀ (q23 : Nat) (s : Nat) (heapsL : Nat → Nat) (rowsL : Nat → Nat → Int64) (rwL : Nat → Nat), 2 * tNS T - s < q23 → (s ≤ 2 * tNS T) → (srchF (fun k9 => shF T d9 (shStep T k9 f)) s = none) → (∀ r, ¬ (148 + lv < r ∧ r ≤ 148 + 5) → rowsL r = rows r) → (∀ j, j < lv → rwL j = rw j) → GG l D clX (tyX Y) cX5_goes 4 (some .boolean) RX5 ({ frames := 6 + (d9 + 1), cells := 0, slots := 0, locals := 250 + 40 * (d9 + 1) } : Room) A MT (QM (Qi (fun (v : Int32) (u : (Nat → Nat) × (Nat → Nat → Int64) × (Nat → Nat)) => v = bI (shF T (d9 + 1) f).isSome ∧ GoW 148 lv (d9 + 1) many (shF T (d9 + 1) f) rows u.2.1 rw u.2.2) (fun (u : (Nat → Nat) × (Nat → Nat → Int64) × (Nat → Nat)) => HW D clX A (CoL Y ca ra 0 tk many 0 (-1) xs ys u.1 slips u.2.1 (XoL Y xa ca cb ra (ta 0) bL taped fk fa an nx images tape (brL Y xa ra (some (ca 0)) mny u.2.2 bs W)))) A) 0 0 A) (HW D clX A (CoL Y ca ra 0 tk many 0 (-1) xs ys heapsL slips rowsL (XoL Y xa ca cb ra (ta 0) bL taped fk fa an nx images tape (brL Y xa ra (some (ca 0)) mny rwL bs W)))) 0 0 23 [(0, .ref (xa 9)), (1, .int (nI lv)), (2, .int (nI mo)), (3, .int (nI s))] [] := by
        intro q23
        induction q23 with
        | zero => intro s heapsL rowsL rwL hq23; exact absurd hq23 (Nat.not_lt_zero _)
        | succ q23 ih23 =>
          intro s heapsL rowsL rwL hq23 hs hno hk1 hk2
          have hCL : LdC T many xs ys slips rowsL := hC.keep hok (fun r hr => hk1 r (by omega))
          have hfL : isRow (rowsL (148 + lv)) (fun w => decide (w < many) && f w) := by rw [hk1 _ (by omega)]; exact hf
          refine g_iload_n 3 dX5_goes_23 rfl rfl ?_
          refine g_aload_n 0 dX5_goes_24 rfl rfl ?_
          refine h_cAi (ctX7_choices hT) (lw_U q1618 q1620 q1621 q1622 q115 q1623) q1619 hyx_TwoSlips_Rows_choices___I rfl ⟨by dsimp only; omega, by dsimp only; omega⟩ ⟨Nat.zero_le _, Nat.zero_le _⟩ rfl (Nat.le_of_ble_eq_true rfl) dX5_goes_25 br_rec (fun r u hp => ?_)
          obtain rfl := hp
          refine g_icmp_ge_n (tgt := 76) dX5_goes_28 (by decide) (by omega) (by omega) (fun c28 => ?_) (fun c28 => ?_)
          · skip
            refine g_iconst (v := nI 0) dX5_goes_76 (by decide +kernel) ?_
            exact g_zret (b := false) (heapsL, rowsL, rwL) dX5_goes_77 (Nat.le_refl _) (Nat.le_refl _) (by rw [show shF T (d9 + 1) f = srchF (fun k9 => shF T d9 (shStep T k9 f)) (2 * tNS T) from (by show (if (shGood T f) = true then _ else none) = _; rw [if_pos c5]; rfl), ← show s = 2 * tNS T by omega, hno]; exact ⟨rfl, GoW.none hk1 hk2⟩) (fun _ h => h)
          · skip
            refine g_aload_n 0 dX5_goes_31 rfl rfl ?_
            refine g_iload_n 3 dX5_goes_32 rfl rfl ?_
            refine g_aload_n 0 dX5_goes_33 rfl rfl ?_
            refine g_getf (C := RX7) (T := TX7) (N := 7) 0 in_X7 rfl (by decide) q345 rfl dX5_goes_34 ((hw_mem (co_tl (xo_tl List.mem_cons_self)))) rfl ?_
            refine g_iload_n 1 dX5_goes_37 rfl rfl ?_
            refine br_ld_sets (by omega) dX5_goes_38 ?_
            refine g_aload_n 0 dX5_goes_39 rfl rfl ?_
            refine g_getf (C := RX7) (T := TX7) (N := 7) 0 in_X7 rfl (by decide) q345 rfl dX5_goes_40 ((hw_mem (co_tl (xo_tl List.mem_cons_self)))) rfl ?_
            refine g_iload_n 1 dX5_goes_43 rfl rfl ?_
            refine g_iconst (v := nI 1) dX5_goes_44 (by decide +kernel) ?_
            refine g_iadd_n dX5_goes_45 ?_
            refine br_ld_sets (by omega) dX5_goes_46 ?_
            refine h_cAv (ctX7_answers s (148 + lv) (148 + (lv + 1)) hok hCL c28 (by omega) (by omega) (by omega)) (lw_U q1626 q1628 q1629 q1630 q115 q1631) q1627 hyx_TwoSlips_Rows_answers__I_J_J_V rfl ⟨by dsimp only; omega, by dsimp only; omega⟩ ⟨Nat.zero_le _, Nat.zero_le _⟩ rfl (Nat.le_of_ble_eq_true rfl) dX5_goes_47 br_rec (fun u9 hR4 => ?_)
            obtain ⟨heaps4, rows4⟩ := u9
            have hP2 := tP_le hok
            have hR4 : RT rowsL rows4 (148 + (lv + 1)) _ := hR4
            have hf4 : isRow (rows4 (148 + (lv + 1))) (fun w => decide (w < many) && shStep T s f w) := ans_row (s := s / 2) hCL.mny (fun v hv => hCL.sl (by omega) hv) hP2 hfL hR4.1
            have hC4 : LdC T many xs ys slips rows4 := hCL.row hok (by omega) hR4
            refine g_aload_n 0 dX5_goes_50 rfl rfl ?_
            refine g_getf (C := RX7) (T := TX7) (N := 7) 1 in_X7 rfl (by decide) q351 rfl dX5_goes_51 ((hw_mem (co_tl (xo_tl List.mem_cons_self)))) rfl ?_
            refine g_iload_n 1 dX5_goes_54 rfl rfl ?_
            refine g_iload_n 3 dX5_goes_55 rfl rfl ?_
            refine br_st_row (by omega) dX5_goes_56 ?_
            refine g_aload_n 0 dX5_goes_57 rfl rfl ?_
            refine g_iload_n 1 dX5_goes_58 rfl rfl ?_
            refine g_iconst (v := nI 1) dX5_goes_59 (by decide +kernel) ?_
            refine g_iadd_n dX5_goes_60 ?_
            refine g_iload_n 2 dX5_goes_61 rfl rfl ?_
            refine h_cQi (ci := 7) (ih d9 rfl (lv + 1) mo (shStep T s f) hT hok hC4 (by omega) (by omega) hf4) q1588 q1585 q2422 q1586 q113 q1587 rfl hy_X5_goes rfl ⟨by dsimp only; omega, by dsimp only; omega⟩ ⟨Nat.zero_le _, Nat.zero_le _⟩ rfl (Nat.le_of_ble_eq_true rfl) dX5_goes_62 br_rec (fun r u9 hp9 => ?_)
            obtain ⟨heaps5, rows5, rw5⟩ := u9
            obtain ⟨hr5, hW5⟩ := hp9
            obtain rfl := hr5
            refine g_if_eq_b (tgt := 70) dX5_goes_65 (by decide) (fun c65 => ?_) (fun c65 => ?_)
            · skip
              refine g_iinc_n (b := 1) (L' := [(0, _), (1, _), (2, _), (3, _)]) dX5_goes_70 rfl rfl (by decide) rfl rfl ?_
              refine g_goto (tgt := 23) dX5_goes_73 (by decide) ?_
              obtain ⟨g1, g2⟩ := hW5.step hk1 hk2 hR4 (by omega)
              exact ih23 (s + 1) heaps5 rows5 rw5 (by omega) (by omega) (srchF_none hno (by cases h9 : shF T d9 (shStep T s f) with | none => rfl | some q9 => rw [h9] at c65; exact absurd (show true = false from c65) (by decide))) g1 g2
            · skip
              refine g_iconst (v := nI 1) dX5_goes_68 (by decide +kernel) ?_
              obtain ⟨⟨p9, S9⟩, hq9⟩ := Option.isSome_iff_exists.mp c65
              exact g_zret (b := true) (heaps5, rows5, rw5) dX5_goes_69 (Nat.le_refl _) (Nat.le_refl _) (by rw [show shF T (d9 + 1) f = srchF (fun k9 => shF T d9 (shStep T k9 f)) (2 * tNS T) from (by show (if (shGood T f) = true then _ else none) = _; rw [if_pos c5]; rfl), srchF_some hno hq9 c28]; exact ⟨rfl, GoW.cons hk1 hk2 hR4 (by omega) hW5 hq9⟩) (fun _ h => h)
      exact loop23 (2 * tNS T + 1) 0 heaps rows rw (by omega) (by omega) rfl (fun _ _ => rfl) (fun _ _ => rfl)
    · skip
      obtain rfl : d = 0 := by omega
      refine g_aload_n 0 dX5_goes_15 rfl rfl ?_
      refine g_iload_n 1 dX5_goes_16 rfl rfl ?_
      refine h_cAi (ctX7_isEnd lv f hT hok hC (by omega) hf) (lw_U q1609 q1611 q1612 q1613 q115 q1614) q1610 hyx_TwoSlips_Rows_isEnd__I_Z rfl ⟨by dsimp only; omega, by dsimp only; omega⟩ ⟨Nat.zero_le _, Nat.zero_le _⟩ rfl (Nat.le_of_ble_eq_true rfl) dX5_goes_17 br_rec (fun r u hp => ?_)
      obtain rfl := hp
      have h9 : shF T 0 f = if (shFin T f) = true then some ([], f) else none := by show (if ((shGood T f) && (shFin T f)) = true then _ else none) = _; rw [c5, Bool.true_and]
      exact g_zret (heaps, rows, rw) dX5_goes_20 (Nat.le_refl _) (Nat.le_refl _) (by rw [h9]; cases hq : (shFin T f) with | true => exact ⟨rfl, fun _ _ => rfl, fun _ _ => rfl, fun p S h => by cases h; exact ⟨rfl, fun i hi => absurd hi (Nat.not_lt_zero _), hf⟩⟩ | false => exact ⟨rfl, GoW.none (fun _ _ => rfl) (fun _ _ => rfl)⟩) (fun _ h => h)
  · skip
    refine g_iconst (v := nI 0) dX5_goes_8 (by decide +kernel) ?_
    exact g_zret (b := false) (heaps, rows, rw) dX5_goes_9 (Nat.le_refl _) (Nat.le_refl _) (by rw [show shF T d f = none from (by cases d with | zero => (show (if ((shGood T f) && _) = true then _ else none) = none; rw [c5]; rfl) | succ d9 => (show (if (shGood T f) = true then _ else none) = none; rw [c5]; rfl))]; exact ⟨rfl, GoW.none (fun _ _ => rfl) (fun _ _ => rfl)⟩) (fun _ h => h)
theorem goB_all (T : Talk) : ∀ d, GoB l D Y A T d
  | 0 => fun lv mo f hT hok hC hmo hlv hf => ctX5_goesB lv mo f 0 (fun d9 h => absurd h (by omega)) hT hok hC hmo hlv hf
  | d + 1 => fun lv mo f hT hok hC hmo hlv hf => ctX5_goesB lv mo f (d + 1) (fun d9 h => by cases h; exact goB_all T d) hT hok hC hmo hlv hf
set_option maxHeartbeats 4000000 in
/-- the first row of answers -/
theorem ctX5_findsB {xa ca cb ra ta : Nat → Nat} {T : Talk} {bL : Bool} {tk : Option Nat} {many : Nat} {xs ys heaps : Nat → Nat} {slips : Nat → Nat → Nat} {rows : Nat → Nat → Int64} {taped fk : Nat} {fa : Int32} {an nx : Nat} {images : Nat → Option Nat} {tape : Nat → Int32} {W : va_W} {inn : Option Nat} {mny : Nat} {rw bs : Nat → Nat} (m0 : Nat) (hT : TalkL Y T ta W) (hok : TOK T) (hL : bL = true → tk = some (ta 0) ∧ LdC T many xs ys slips rows) (hm0 : m0 ≤ 5) : CT l D clX (tyX Y) yX5_finds cX5_finds 2 (some .boolean) ({ frames := 1816, cells := 0, slots := 0, locals := 54543 } : Room) [.ref (xa 9), .int (nI m0)] (HW D clX A (CoL Y ca ra 0 tk many 0 (-1) xs ys heaps slips rows (XoL Y xa ca cb ra (ta 0) bL taped fk fa an nx images tape (brL Y xa ra inn mny rw bs W)))) (Qi (fun (v : Int32) (u : (Nat × (Nat → Nat) × (Nat → Nat) × (Nat → Nat) × (Nat → Nat → Nat) × (Nat → Nat → Int64)) × Nat × (Nat → Nat)) => LdC T u.1.1 u.1.2.1 u.1.2.2.1 u.1.2.2.2.2.1 u.1.2.2.2.2.2 ∧ v = bI (firstG (fun l9 => shF T l9 allT) (m0 + 1)).isSome ∧ ∀ n9 p9, firstG (fun l9 => shF T l9 allT) (m0 + 1) = some (n9, p9) → u.2.1 = n9 ∧ n9 ≤ m0 ∧ (∀ i, i < n9 → u.2.2 i = p9.1.getD i 0) ∧ isRow (u.1.2.2.2.2.2 (148 + n9)) (fun w => decide (w < u.1.1) && p9.2 w)) (fun (u : (Nat × (Nat → Nat) × (Nat → Nat) × (Nat → Nat) × (Nat → Nat → Nat) × (Nat → Nat → Int64)) × Nat × (Nat → Nat)) => HW D clX A (CoL Y ca ra 0 (some (ta 0)) u.1.1 0 (-1) u.1.2.1 u.1.2.2.1 u.1.2.2.2.1 u.1.2.2.2.2.1 u.1.2.2.2.2.2 (XoL Y xa ca cb ra (ta 0) true taped fk fa an nx images tape (brL Y xa ra (some (ca 0)) u.2.1 u.2.2 bs W)))) A) A := by
  refine CT.of (L := [(0, .ref (xa 9)), (1, .int (nI m0))]) rfl (by decide +kernel) rfl (Nat.le_of_ble_eq_true rfl) ?_
  refine g_aload_n 0 dX5_finds_0 rfl rfl ?_
  refine g_aload_n 0 dX5_finds_1 rfl rfl ?_
  refine g_getf (C := RX7) (T := TX7) (N := 7) 5 in_X7 rfl (by decide) q368 rfl dX5_finds_2 ((hw_mem (co_tl (xo_tl List.mem_cons_self)))) rfl ?_
  refine h_cNo (ctX1_laid (br_up hT) hok hL) q513 q1583 q106 q512 qs1 hy_X1_laid rfl ⟨Nat.le_of_ble_eq_true rfl, Nat.le_of_ble_eq_true rfl⟩ ⟨Nat.le_of_ble_eq_true rfl, Nat.le_of_ble_eq_true rfl⟩ rfl (Nat.le_of_ble_eq_true rfl) dX5_finds_5 x_rec (fun u9 hC1 => ?_)
  obtain ⟨many1, xs1, ys1, heaps1, slips1, rows1⟩ := u9
  have hC1 : LdC T many1 xs1 ys1 slips1 rows1 := hC1
  have hP1 := hC1.mny
  have hP2 := tP_le hok
  refine br_put_in q361 dX5_finds_8 ?_
  refine g_aload_n 0 dX5_finds_11 rfl rfl ?_
  refine g_getf (C := RX7) (T := TX7) (N := 7) 3 in_X7 rfl (by decide) q361 rfl dX5_finds_12 ((hw_mem (co_tl (xo_tl List.mem_cons_self)))) rfl ?_
  refine co_get_allN q266 dX5_finds_15 ?_
  refine g_iconst (v := nI 0) dX5_finds_18 (by decide +kernel) ?_
  refine g_aload_n 0 dX5_finds_19 rfl rfl ?_
  refine g_getf (C := RX7) (T := TX7) (N := 7) 0 in_X7 rfl (by decide) q345 rfl dX5_finds_20 ((hw_mem (co_tl (xo_tl List.mem_cons_self)))) rfl ?_
  refine g_iconst (v := nI 0) dX5_finds_23 (by decide +kernel) ?_
  refine br_ld_sets (by omega) dX5_finds_24 ?_
  refine g_iconst (v := nI 0) dX5_finds_25 (by decide +kernel) ?_
  refine g_bipush (v := nI 29) dX5_finds_26 (by decide +kernel) ?_
  refine g_copyl (m := 29) (sp := 0) (dp := 0) (a0 := ra (0 + 69)) (a := ra (148 + 0)) q1584 q579 q578 q142 (0 + 69 + 13) (148 + 0 + 13) 1 rfl (CoL_row (r := 0 + 69) (by omega)) (CoL_row (r := 148 + 0) (by omega)) (by decide) (by decide) (by decide) (by decide) (CoL_setrow (r := 148 + 0) (by omega) _) (Nat.le_of_ble_eq_true rfl) (Nat.le_of_ble_eq_true rfl) dX5_finds_28 ?_
  refine g_aload_n 0 dX5_finds_31 rfl rfl ?_
  refine g_iconst (v := nI 0) dX5_finds_32 (by decide +kernel) ?_
  refine br_put_many q363 dX5_finds_33 ?_
  have loop36 : ∀ (q36 : Nat) (n0 : Nat) (heapsL : Nat → Nat) (rowsL : Nat → Nat → Int64) (rwL : Nat → Nat), m0 + 1 - n0 < q36 → (n0 ≤ m0 + 1) → (firstG (fun l9 => shF T l9 allT) n0 = none) → (LdC T many1 xs1 ys1 slips1 rowsL) → (isRow (rowsL (148 + 0)) (fun w => decide (w < many1) && allT w)) → GG l D clX (tyX Y) cX5_finds 2 (some .boolean) RX5 ({ frames := 1816, cells := 0, slots := 0, locals := 54543 } : Room) A MT (QM (Qi (fun (v : Int32) (u : (Nat × (Nat → Nat) × (Nat → Nat) × (Nat → Nat) × (Nat → Nat → Nat) × (Nat → Nat → Int64)) × Nat × (Nat → Nat)) => LdC T u.1.1 u.1.2.1 u.1.2.2.1 u.1.2.2.2.2.1 u.1.2.2.2.2.2 ∧ v = bI (firstG (fun l9 => shF T l9 allT) (m0 + 1)).isSome ∧ ∀ n9 p9, firstG (fun l9 => shF T l9 allT) (m0 + 1) = some (n9, p9) → u.2.1 = n9 ∧ n9 ≤ m0 ∧ (∀ i, i < n9 → u.2.2 i = p9.1.getD i 0) ∧ isRow (u.1.2.2.2.2.2 (148 + n9)) (fun w => decide (w < u.1.1) && p9.2 w)) (fun (u : (Nat × (Nat → Nat) × (Nat → Nat) × (Nat → Nat) × (Nat → Nat → Nat) × (Nat → Nat → Int64)) × Nat × (Nat → Nat)) => HW D clX A (CoL Y ca ra 0 (some (ta 0)) u.1.1 0 (-1) u.1.2.1 u.1.2.2.1 u.1.2.2.2.1 u.1.2.2.2.2.1 u.1.2.2.2.2.2 (XoL Y xa ca cb ra (ta 0) true taped fk fa an nx images tape (brL Y xa ra (some (ca 0)) u.2.1 u.2.2 bs W)))) A) 0 0 A) (HW D clX A (CoL Y ca ra 0 (some (ta 0)) many1 0 (-1) xs1 ys1 heapsL slips1 rowsL (XoL Y xa ca cb ra (ta 0) true taped fk fa an nx images tape (brL Y xa ra (some (ca 0)) n0 rwL bs W)))) 0 0 36 [(0, .ref (xa 9)), (1, .int (nI m0))] [] := by
    intro q36
    induction q36 with
    | zero => intro n0 heapsL rowsL rwL hq36; exact absurd hq36 (Nat.not_lt_zero _)
    | succ q36 ih36 =>
      intro n0 heapsL rowsL rwL hq36 hn0 hno hCL hfL
      refine g_aload_n 0 dX5_finds_36 rfl rfl ?_
      refine g_getf (C := RX7) (T := TX7) (N := 7) 4 in_X7 rfl (by decide) q363 rfl dX5_finds_37 ((hw_mem (co_tl (xo_tl List.mem_cons_self)))) rfl ?_
      refine g_iload_n 1 dX5_finds_40 rfl rfl ?_
      refine g_icmp_gt_n (tgt := 71) dX5_finds_41 (by decide) (by omega) (by omega) (fun c41 => ?_) (fun c41 => ?_)
      · skip
        refine g_iconst (v := nI 0) dX5_finds_71 (by decide +kernel) ?_
        have hg : firstG (fun l9 => shF T l9 allT) (m0 + 1) = none := by rw [show m0 + 1 = n0 by omega]; exact hno
        exact g_zret (b := false) ((many1, xs1, ys1, heapsL, slips1, rowsL), n0, rwL) dX5_finds_72 (Nat.le_refl _) (Nat.le_refl _) (⟨hCL, by rw [hg]; rfl, fun n9 q9 h9 => by rw [hg] at h9; cases h9⟩) (fun _ h => h)
      · skip
        refine g_aload_n 0 dX5_finds_44 rfl rfl ?_
        refine g_iconst (v := nI 0) dX5_finds_45 (by decide +kernel) ?_
        refine g_aload_n 0 dX5_finds_46 rfl rfl ?_
        refine g_getf (C := RX7) (T := TX7) (N := 7) 4 in_X7 rfl (by decide) q363 rfl dX5_finds_47 ((hw_mem (co_tl (xo_tl List.mem_cons_self)))) rfl ?_
        refine h_cQi (ci := 7) (goB_all T n0 0 n0 allT hT hok hCL (by omega) (by omega) hfL) q1588 q1585 q2422 q1586 q113 q1587 rfl hy_X5_goes rfl ⟨by dsimp only; omega, by dsimp only; omega⟩ ⟨Nat.zero_le _, Nat.zero_le _⟩ rfl (Nat.le_of_ble_eq_true rfl) dX5_finds_50 br_rec (fun r u9 hp9 => ?_)
        obtain ⟨heaps5, rows5, rw5⟩ := u9
        obtain ⟨hr5, hW5⟩ := hp9
        obtain rfl := hr5
        have hC5 : LdC T many1 xs1 ys1 slips1 rows5 := hCL.keep hok (fun r hr => hW5.1 r (by omega))
        refine g_if_eq_b (tgt := 58) dX5_finds_53 (by decide) (fun c53 => ?_) (fun c53 => ?_)
        · skip
          refine g_aload_n 0 dX5_finds_58 rfl rfl ?_
          refine g_dup dX5_finds_59 rfl ?_
          refine g_getf (C := RX7) (T := TX7) (N := 7) 4 in_X7 rfl (by decide) q363 rfl dX5_finds_60 ((hw_mem (co_tl (xo_tl List.mem_cons_self)))) rfl ?_
          refine g_iconst (v := nI 1) dX5_finds_63 (by decide +kernel) ?_
          refine g_iadd_n dX5_finds_64 ?_
          refine br_put_many q363 dX5_finds_65 ?_
          refine g_goto (tgt := 36) dX5_finds_68 (by decide) ?_
          exact ih36 (n0 + 1) heaps5 rows5 rw5 (by omega) (by omega) (firstG_none hno (by cases h9 : shF T n0 allT with | none => rfl | some q9 => rw [h9] at c53; exact absurd (show true = false from c53) (by decide))) hC5 (by rw [show rows5 (148 + 0) = rowsL (148 + 0) from hW5.1 _ (by omega)]; exact hfL)
        · skip
          refine g_iconst (v := nI 1) dX5_finds_56 (by decide +kernel) ?_
          obtain ⟨⟨p9, S9⟩, hq9⟩ := Option.isSome_iff_exists.mp c53
          obtain ⟨g1, g2, g3⟩ := hW5.2.2 p9 S9 hq9
          have hg := firstG_some hno hq9 (m := m0 + 1) (by omega)
          exact g_zret (b := true) ((many1, xs1, ys1, heaps5, slips1, rows5), n0, rw5) dX5_finds_57 (Nat.le_refl _) (Nat.le_refl _) (⟨hC5, by rw [hg]; rfl, fun n9 q9 h9 => by rw [hg] at h9; cases h9; exact ⟨rfl, by omega, fun i hi => by have h8 := g2 i hi; rw [Nat.zero_add] at h8; exact h8, by rw [show 148 + n0 = 148 + 0 + n0 by omega]; exact g3⟩⟩) (fun _ h => h)
  exact loop36 (m0 + 2) 0 heaps1 _ rw (by omega) (by omega) rfl (hC1.up hok (by omega)) (hC1.all (fun _ => rfl))
end
