/-! EXCEPTIONS over GG: words of a throw; contracts that return or throw; rows -/
set_option maxRecDepth 100000
theorem vw_thr : ∀ w ∈ Bundle.throwableAtoms, vx_no w = true → w ∈ lw_tbl := by
  intro w hw hn
  simp only [Bundle.throwableAtoms, List.mem_cons, List.not_mem_nil, or_false] at hw
  rcases hw with e | e | e | e | e | e | e | e | e | e | e | e | e | e | e | e | e | e | e | e | e | e | e | e
  · rw [e]; exact (lw_all_tbl q119)
  · rw [e]; exact (lw_all_tbl q765)
  · rw [e]; exact (lw_all_tbl q774)
  · rw [e]; exact (lw_all_tbl q795)
  · rw [e]; exact (lw_all_tbl q798)
  · rw [e]; exact (lw_all_tbl q800)
  · rw [e]; exact (lw_all_tbl q766)
  · rw [e]; exact (lw_all_tbl q767)
  · rw [e]; exact (lw_all_tbl q168)
  · rw [e]; exact (lw_all_tbl q169)
  · rw [e]; exact (lw_all_tbl q768)
  · rw [e]; exact (lw_all_tbl q773)
  · rw [e]; exact (lw_all_tbl q796)
  · rw [e]; exact (lw_all_tbl q814)
  · rw [e]; exact (lw_all_tbl q755)
  · rw [e]; exact (lw_all_tbl q815)
  · rw [e]; exact (lw_all_tbl q757)
  · rw [e]; exact (lw_all_tbl q816)
  · rw [e]; exact (lw_all_tbl q759)
  · rw [e]; exact (lw_all_tbl q769)
  · rw [e] at hn; exact absurd hn (by decide +kernel)
  · rw [e]; exact (lw_all_tbl q771)
  · rw [e] at hn; exact absurd hn (by decide +kernel)
  · rw [e]; exact (lw_all_tbl q761)
theorem vw_ch_IAE : ∀ w ∈ Bundle.chain0Atoms "java/lang/IllegalArgumentException" ["java/lang/RuntimeException", "java/lang/Exception"], w ∈ lw_tbl := by
  intro w hw
  simp only [Bundle.chain0Atoms, Bundle.passAtoms, List.cons_append, List.nil_append, List.mem_cons, List.not_mem_nil, or_false] at hw
  rcases hw with e | e | e | e | e | e | e | e | e | e | e | e | e | e | e
  · rw [e]; exact (lw_all_tbl q803)
  · rw [e]; exact (lw_all_tbl q804)
  · rw [e]; exact (lw_all_tbl q805)
  · rw [e]; exact (lw_all_tbl q806)
  · rw [e]; exact q746
  · rw [e]; exact (lw_all_tbl q806)
  · rw [e]; exact (lw_all_tbl q807)
  · rw [e]; exact (lw_all_tbl q808)
  · rw [e]; exact (lw_all_tbl q809)
  · rw [e]; exact q748
  · rw [e]; exact (lw_all_tbl q809)
  · rw [e]; exact (lw_all_tbl q810)
  · rw [e]; exact (lw_all_tbl q811)
  · rw [e]; exact (lw_all_tbl q766)
  · rw [e]; exact q750
theorem vw_at_IAE_3 : ∀ w ∈ vx_at0 "TwoSlips" 3 "java/lang/IllegalArgumentException" ["java/lang/RuntimeException", "java/lang/Exception"], w ∈ lw_tbl := by
  intro w hw
  obtain ⟨h1, hn⟩ := List.mem_filter.mp hw
  rcases List.mem_append.mp h1 with h1 | hw
  · rcases List.mem_append.mp h1 with h1 | h1
    · exact vw_thr w h1 hn
    · exact vw_ch_IAE w h1
  simp only [List.mem_cons, List.not_mem_nil, or_false] at hw
  rcases hw with e | e | e | e | e | e | e | e | e | e | e | e | e | e
  · rw [e]; exact (lw_all_tbl q802)
  · rw [e]; exact (lw_all_tbl q744)
  · rw [e]; exact q745
  · rw [e]; exact (lw_all_tbl q752)
  · rw [e]; exact (lw_all_tbl q753)
  · rw [e]; exact (lw_all_tbl q754)
  · rw [e]; exact (lw_all_tbl q756)
  · rw [e]; exact (lw_all_tbl q758)
  · rw [e]; exact (lw_all_tbl q760)
  · rw [e] at hn; exact absurd hn (by decide +kernel)
  · rw [e] at hn; exact absurd hn (by decide +kernel)
  · rw [e]; exact (lw_all_tbl q812)
  · rw [e]; exact (lw_all_tbl q763)
  · rw [e]; exact (lw_all_tbl q762)
theorem vw_ok_IAE_3 : (Cond.classLink "TwoSlips" 1 "java/lang/IllegalArgumentException" :: Cond.initialized "java/lang/IllegalArgumentException" :: vx_at0 "TwoSlips" 3 "java/lang/IllegalArgumentException" ["java/lang/RuntimeException", "java/lang/Exception"]).all (fun w => vx_ot w && (goodWord w || (nestW w && w.onTables))) = true := by decide +kernel
theorem vw_ch_ISE : ∀ w ∈ Bundle.chain0Atoms "java/lang/IllegalStateException" ["java/lang/RuntimeException", "java/lang/Exception"], w ∈ lw_tbl := by
  intro w hw
  simp only [Bundle.chain0Atoms, Bundle.passAtoms, List.cons_append, List.nil_append, List.mem_cons, List.not_mem_nil, or_false] at hw
  rcases hw with e | e | e | e | e | e | e | e | e | e | e | e | e | e | e
  · rw [e]; exact (lw_all_tbl q1713)
  · rw [e]; exact (lw_all_tbl q1714)
  · rw [e]; exact (lw_all_tbl q1715)
  · rw [e]; exact (lw_all_tbl q806)
  · rw [e]; exact q746
  · rw [e]; exact (lw_all_tbl q806)
  · rw [e]; exact (lw_all_tbl q807)
  · rw [e]; exact (lw_all_tbl q808)
  · rw [e]; exact (lw_all_tbl q809)
  · rw [e]; exact q748
  · rw [e]; exact (lw_all_tbl q809)
  · rw [e]; exact (lw_all_tbl q810)
  · rw [e]; exact (lw_all_tbl q811)
  · rw [e]; exact (lw_all_tbl q766)
  · rw [e]; exact q750
theorem vw_at_ISE_9 : ∀ w ∈ vx_at0 "TwoSlips" 9 "java/lang/IllegalStateException" ["java/lang/RuntimeException", "java/lang/Exception"], w ∈ lw_tbl := by
  intro w hw
  obtain ⟨h1, hn⟩ := List.mem_filter.mp hw
  rcases List.mem_append.mp h1 with h1 | hw
  · rcases List.mem_append.mp h1 with h1 | h1
    · exact vw_thr w h1 hn
    · exact vw_ch_ISE w h1
  simp only [List.mem_cons, List.not_mem_nil, or_false] at hw
  rcases hw with e | e | e | e | e | e | e | e | e | e | e | e | e | e
  · rw [e]; exact (lw_all_tbl q1712)
  · rw [e]; exact (lw_all_tbl q1704)
  · rw [e]; exact q1705
  · rw [e]; exact (lw_all_tbl q1706)
  · rw [e]; exact (lw_all_tbl q778)
  · rw [e]; exact (lw_all_tbl q1707)
  · rw [e]; exact (lw_all_tbl q1708)
  · rw [e]; exact (lw_all_tbl q1709)
  · rw [e]; exact (lw_all_tbl q1710)
  · rw [e] at hn; exact absurd hn (by decide +kernel)
  · rw [e] at hn; exact absurd hn (by decide +kernel)
  · rw [e]; exact (lw_all_tbl q812)
  · rw [e]; exact (lw_all_tbl q763)
  · rw [e]; exact (lw_all_tbl q1711)
theorem vw_ok_ISE_9 : (Cond.classLink "TwoSlips" 7 "java/lang/IllegalStateException" :: Cond.initialized "java/lang/IllegalStateException" :: vx_at0 "TwoSlips" 9 "java/lang/IllegalStateException" ["java/lang/RuntimeException", "java/lang/Exception"]).all (fun w => vx_ot w && (goodWord w || (nestW w && w.onTables))) = true := by decide +kernel
theorem vw_ch_NSE : ∀ w ∈ Bundle.chain0Atoms "java/util/NoSuchElementException" ["java/lang/RuntimeException", "java/lang/Exception"], w ∈ lw_tbl := by
  intro w hw
  simp only [Bundle.chain0Atoms, Bundle.passAtoms, List.cons_append, List.nil_append, List.mem_cons, List.not_mem_nil, or_false] at hw
  rcases hw with e | e | e | e | e | e | e | e | e | e | e | e | e | e | e
  · rw [e]; exact (lw_all_tbl q1387)
  · rw [e]; exact (lw_all_tbl q1388)
  · rw [e]; exact (lw_all_tbl q1389)
  · rw [e]; exact (lw_all_tbl q806)
  · rw [e]; exact q746
  · rw [e]; exact (lw_all_tbl q806)
  · rw [e]; exact (lw_all_tbl q807)
  · rw [e]; exact (lw_all_tbl q808)
  · rw [e]; exact (lw_all_tbl q809)
  · rw [e]; exact q748
  · rw [e]; exact (lw_all_tbl q809)
  · rw [e]; exact (lw_all_tbl q810)
  · rw [e]; exact (lw_all_tbl q811)
  · rw [e]; exact (lw_all_tbl q766)
  · rw [e]; exact q750
theorem vw_at_NSE_12 : ∀ w ∈ vx_at0 "TwoSlips" 12 "java/util/NoSuchElementException" ["java/lang/RuntimeException", "java/lang/Exception"], w ∈ lw_tbl := by
  intro w hw
  obtain ⟨h1, hn⟩ := List.mem_filter.mp hw
  rcases List.mem_append.mp h1 with h1 | hw
  · rcases List.mem_append.mp h1 with h1 | h1
    · exact vw_thr w h1 hn
    · exact vw_ch_NSE w h1
  simp only [List.mem_cons, List.not_mem_nil, or_false] at hw
  rcases hw with e | e | e | e | e | e | e | e | e | e | e | e | e | e
  · rw [e]; exact (lw_all_tbl q1386)
  · rw [e]; exact (lw_all_tbl q1378)
  · rw [e]; exact q1379
  · rw [e]; exact (lw_all_tbl q1380)
  · rw [e]; exact (lw_all_tbl q801)
  · rw [e]; exact (lw_all_tbl q1381)
  · rw [e]; exact (lw_all_tbl q1382)
  · rw [e]; exact (lw_all_tbl q1383)
  · rw [e]; exact (lw_all_tbl q1384)
  · rw [e] at hn; exact absurd hn (by decide +kernel)
  · rw [e] at hn; exact absurd hn (by decide +kernel)
  · rw [e]; exact (lw_all_tbl q812)
  · rw [e]; exact (lw_all_tbl q763)
  · rw [e]; exact (lw_all_tbl q1385)
theorem vw_ok_NSE_12 : (Cond.classLink "TwoSlips" 10 "java/util/NoSuchElementException" :: Cond.initialized "java/util/NoSuchElementException" :: vx_at0 "TwoSlips" 12 "java/util/NoSuchElementException" ["java/lang/RuntimeException", "java/lang/Exception"]).all (fun w => vx_ot w && (goodWord w || (nestW w && w.onTables))) = true := by decide +kernel
theorem vw_ch_IOE : ∀ w ∈ Bundle.chain0Atoms "java/lang/IndexOutOfBoundsException" ["java/lang/RuntimeException", "java/lang/Exception"], w ∈ lw_tbl := by
  intro w hw
  simp only [Bundle.chain0Atoms, Bundle.passAtoms, List.cons_append, List.nil_append, List.mem_cons, List.not_mem_nil, or_false] at hw
  rcases hw with e | e | e | e | e | e | e | e | e | e | e | e | e | e | e
  · rw [e]; exact (lw_all_tbl q1835)
  · rw [e]; exact (lw_all_tbl q1836)
  · rw [e]; exact (lw_all_tbl q1837)
  · rw [e]; exact (lw_all_tbl q806)
  · rw [e]; exact q746
  · rw [e]; exact (lw_all_tbl q806)
  · rw [e]; exact (lw_all_tbl q807)
  · rw [e]; exact (lw_all_tbl q808)
  · rw [e]; exact (lw_all_tbl q809)
  · rw [e]; exact q748
  · rw [e]; exact (lw_all_tbl q809)
  · rw [e]; exact (lw_all_tbl q810)
  · rw [e]; exact (lw_all_tbl q811)
  · rw [e]; exact (lw_all_tbl q766)
  · rw [e]; exact q750
theorem vw_at_IOE_431 : ∀ w ∈ vx_at0 "TwoSlips" 431 "java/lang/IndexOutOfBoundsException" ["java/lang/RuntimeException", "java/lang/Exception"], w ∈ lw_tbl := by
  intro w hw
  obtain ⟨h1, hn⟩ := List.mem_filter.mp hw
  rcases List.mem_append.mp h1 with h1 | hw
  · rcases List.mem_append.mp h1 with h1 | h1
    · exact vw_thr w h1 hn
    · exact vw_ch_IOE w h1
  simp only [List.mem_cons, List.not_mem_nil, or_false] at hw
  rcases hw with e | e | e | e | e | e | e | e | e | e | e | e | e | e
  · rw [e]; exact (lw_all_tbl q1834)
  · rw [e]; exact (lw_all_tbl q1826)
  · rw [e]; exact q1827
  · rw [e]; exact (lw_all_tbl q1828)
  · rw [e]; exact (lw_all_tbl q779)
  · rw [e]; exact (lw_all_tbl q1829)
  · rw [e]; exact (lw_all_tbl q1830)
  · rw [e]; exact (lw_all_tbl q1831)
  · rw [e]; exact (lw_all_tbl q1832)
  · rw [e] at hn; exact absurd hn (by decide +kernel)
  · rw [e] at hn; exact absurd hn (by decide +kernel)
  · rw [e]; exact (lw_all_tbl q812)
  · rw [e]; exact (lw_all_tbl q763)
  · rw [e]; exact (lw_all_tbl q1833)
theorem vw_ok_IOE_431 : (Cond.classLink "TwoSlips" 429 "java/lang/IndexOutOfBoundsException" :: Cond.initialized "java/lang/IndexOutOfBoundsException" :: vx_at0 "TwoSlips" 431 "java/lang/IndexOutOfBoundsException" ["java/lang/RuntimeException", "java/lang/Exception"]).all (fun w => vx_ot w && (goodWord w || (nestW w && w.onTables))) = true := by decide +kernel
theorem tbl_word {args : Array Value} {s : State} (hg : ∀ w ∈ lw_all, w.before args s = true) (hn : ∀ w ∈ lw_tbl, nestW w = true → va_Nw w s) {w : Cond} (h : w ∈ lw_tbl) (hk : (goodWord w || (nestW w && w.onTables)) = true) : w.before args s = true := by
  cases hgw : goodWord w with
  | true => exact hg w (List.mem_filter.mpr ⟨h, hgw⟩)
  | false => rw [hgw, Bool.false_or, Bool.and_eq_true] at hk; exact va_Nw.use hk.2 (hn w h hk.1)
/-- a contract that returns or throws -/
abbrev CTB (l : Launch) (D : va_G) (cl : List vw_C) (tys : List (ClassId × FieldType)) (y : MethodName) (cc : ByteArray) (nL : Nat) (rt : Option FieldType) (rm : Room) (as : List Value) (HP0 : Heap → Prop) (Qc : Array Value → State → Outcome → State → Prop) {SX : Type} (px : SX → Prop) (EX : SX → String) (HX : SX → Nat → Heap → Prop) (A : Nat → Prop) : Prop :=
  vx_Met l y (ws_ y cc nL rt) rm (va_Pc as (fun U => HP0 U.heap ∧ va_K D cl tys U ∧ VX D A U U.heap ∧ NEW A U.heap)) Qc (vx_X px (fun q E u t => E = EX u ∧ HX u q t.heap) A) rm.cells rm.slots A
/-- .. of a method with handlers -/
abbrev CTW (l : Launch) (D : va_G) (cl : List vw_C) (tys : List (ClassId × FieldType)) (y : MethodName) (cc : ByteArray) (nL : Nat) (rt : Option FieldType) (hh : List (Nat × Nat × Nat × Nat)) (rm : Room) (as : List Value) (HP0 : Heap → Prop) (Qc : Array Value → State → Outcome → State → Prop) {SX : Type} (px : SX → Prop) (EX : SX → String) (HX : SX → Nat → Heap → Prop) (A : Nat → Prop) : Prop :=
  vx_Met l y (wsW_ y cc nL rt hh) rm (va_Pc as (fun U => HP0 U.heap ∧ va_K D cl tys U ∧ VX D A U U.heap ∧ NEW A U.heap)) Qc (vx_X px (fun q E u t => E = EX u ∧ HX u q t.heap) A) rm.cells rm.slots A
abbrev QB (Qc : Array Value → State → Outcome → State → Prop) {SX : Type} (px : SX → Prop) (EX : SX → String) (HX : SX → Nat → Heap → Prop) (mc ms : Nat) (A : Nat → Prop) : List Frame → Array Value → State → State → Prop := fun below args s => vx_MQ below Qc (vx_X px (fun q E u t => E = EX u ∧ HX u q t.heap) A) args s mc ms A
def MXN (A : Nat → Prop) : Heap → Method → Code → Prop := fun H _ c => NEW A H ∧ ∀ x ∈ c.exceptionTable.toList, False
def MXW (A : Nat → Prop) (hh : List (Nat × Nat × Nat × Nat)) : Heap → Method → Code → Prop := fun H _ c => NEW A H ∧ c.exceptionTable.toList = tableOf hh
/-- the frame at pc with q of class E thrown over it -/
def XG (l : Launch) (D : va_G) (cl : List vw_C) (tys : List (ClassId × FieldType)) (cc : ByteArray) (nL : Nat) (rt : Option FieldType) (own : String) (R : Room) (A : Nat → Prop) (MX : Heap → Method → Code → Prop) (QF : List Frame → Array Value → State → State → Prop) (HP : Heap → Prop) (k n : Nat) (pc : Nat) (L : List (Nat × Value)) (rest : List Value) (E : String) (q : Nat) : Prop :=
  ∀ (p : Program) (e : Env) (s : State) (m : MethodId) (args : Array Value) (below : List Frame) (meth : Method) (c : Code) (H : Heap) (locs : List Loc) (ls : Array Slot),
    Bs D cl tys cc nL rt own A MX p s m args meth c → HP H → va_S A s.heap H locs → lv_has ls nL L → (∃ ce : Cell, H[q]? = some ce ∧ ce.vm = .none ∧ s.vm.findClass E = some ce.cls) →
    vx_W p l e R s m args below meth c H locs k n (QF below args s) (F0 m pc ls rest) q
theorem HW.keep {D : va_G} {cl : List vw_C} {A : Nat → Prop} {ws : va_W} {H H1 : Heap} (h : HW D cl A ws H) (hk : ∀ q : Nat, q < H.size → H1[q]? = H[q]?) : HW D cl A ws H1 :=
  ⟨h.1.kept (fun k x hx => hk x.1 ((h.1 k x hx).lt)), h.2⟩
section VXrows
variable {l : Launch} {D : va_G} {cl : List vw_C} {tys : List (ClassId × FieldType)} {cc : ByteArray} {nL : Nat} {rt : Option FieldType} {own : String} {R : Room} {A : Nat → Prop} {MX : Heap → Method → Code → Prop} {QF : List Frame → Array Value → State → State → Prop} {HP : Heap → Prop} {k n pc mc ms : Nat} {L L' : List (Nat × Value)} {st : List Value}
variable {SX : Type} {px : SX → Prop} {EX : SX → String} {HX : SX → Nat → Heap → Prop} {Qc : Array Value → State → Outcome → State → Prop}
theorem XG.mono {HP' : Heap → Prop} {E : String} {q : Nat} (K : XG l D cl tys cc nL rt own R A MX QF HP' k n pc L st E q) (h : ∀ H, HP H → HP' H) : XG l D cl tys cc nL rt own R A MX QF HP k n pc L st E q :=
  fun p e s m args below meth c H locs ls B hP hS hl hq => K p e s m args below meth c H locs ls B (h H hP) hS hl hq
theorem CTB.of {y : MethodName} {rm : Room} {as : List Value} {HP0 : Heap → Prop} (ho : y.cls = own) (hy : plainName y.cls = true) (hL : lv_args 0 as = L) (hlen : (lg_sl as).length ≤ nL)
    (K : GG l D cl tys cc nL rt own rm A (MXN A) (QB Qc px EX HX rm.cells rm.slots A) HP0 0 0 0 L []) : CTB l D cl tys y cc nL rt rm as HP0 Qc px EX HX A := by
  subst ho
  refine vx_ofW (cc := cc) (maxL := nL) (ret := rt) hy rfl ?_
  intro p e s m args below meth c s₁ B hml ht hv
  obtain ⟨rfl, hP, hK, hX, hN⟩ := hv
  have hts0 := atoms_spec (ws := ws_ y cc nL rt) B.pre
  have hts : ∀ w ∈ lw_all, w.before _ s = true := fun w h => hts0 w (List.mem_cons_of_mem _ h)
  have hl := lv_entry as (n := nL) hlen
  rw [lg_entry_eq]
  rw [hL] at hl
  exact K p e s m _ below meth c s.heap [] _ ⟨B.exec, B.bytes, hml, B.returns, B.notSynchronized, findClass_of_methodNamed B.named, hts, hK, ⟨hN, ht⟩, hX⟩ hP va_S.rf hl
theorem CTW.of {y : MethodName} {hh : List (Nat × Nat × Nat × Nat)} {rm : Room} {as : List Value} {HP0 : Heap → Prop} (ho : y.cls = own) (hy : plainName y.cls = true) (hL : lv_args 0 as = L) (hlen : (lg_sl as).length ≤ nL)
    (K : GG l D cl tys cc nL rt own rm A (MXW A hh) (QB Qc px EX HX rm.cells rm.slots A) HP0 0 0 0 L []) : CTW l D cl tys y cc nL rt hh rm as HP0 Qc px EX HX A := by
  subst ho
  refine vx_ofWH (cc := cc) (maxL := nL) (ret := rt) (hh := hh) hy rfl ?_
  intro p e s m args below meth c s₁ B hml hv
  obtain ⟨rfl, hP, hK, hX, hN⟩ := hv
  have hts0 := atoms_spec (ws := wsW_ y cc nL rt hh) B.pre
  have hts : ∀ w ∈ lw_all, w.before _ s = true := fun w h => hts0 w (List.mem_cons_of_mem _ h)
  have hl := lv_entry as (n := nL) hlen
  rw [lg_entry_eq]
  rw [hL] at hl
  exact K p e s m _ below meth c s.heap [] _ ⟨B.exec, B.bytes, hml, B.returns, B.notSynchronized, findClass_of_methodNamed B.named, hts, hK, ⟨hN, vx_table (x := y) B (hts0 _ List.mem_cons_self)⟩, hX⟩ hP va_S.rf hl
/-- it returns -/
theorem GG.ret (K : GG l D cl tys cc nL rt own R A MX (QM Qc mc ms A) HP k n pc L st) : GG l D cl tys cc nL rt own R A MX (QB Qc px EX HX mc ms A) HP k n pc L st :=
  fun p e s m args below meth c H locs ls B hP hS hl => vx_ret (K p e s m args below meth c H locs ls B hP hS hl)
/-- it goes out, past no row or past rows that name other classes -/
theorem xg_out {E : String} {q : Nat} (u : SX) (hk : k ≤ mc) (hn : n ≤ ms) (hp : px u) (hE : E = EX u) (hH : ∀ H, HP H → HX u q H) : XG l D cl tys cc nL rt own R A (MXN A) (QB Qc px EX HX mc ms A) HP k n pc L st E q :=
  fun p e s m args below meth c H locs ls B hP hS hl hq => hq.elim fun ce h => vx_out (fun x hx => (B.2.2.2.2.2.2.2.2.1.2 x hx).elim) B.2.2.2.2.1 h.1 h.2.1 h.2.2 (fun t ht hW => ⟨u, hp, ⟨hE, by rw [ht]; exact hH _ hP⟩, hS.F ht⟩) hS.2.2 hk hn
theorem xg_outP {hh : List (Nat × Nat × Nat × Nat)} {E : String} {q : Nat} (u : SX) (hk : k ≤ mc) (hn : n ≤ ms) (hp : px u) (hE : E = EX u) (hH : ∀ H, HP H → HX u q H) (hpass : ∀ z ∈ tableOf hh, covers z pc = false ∨ (z.catchType ≠ 0 ∧ ∃ nm : String, Cond.classLink own z.catchType nm ∈ lw_all ∧ (E, nm) ∈ ncT)) : XG l D cl tys cc nL rt own R A (MXW A hh) (QB Qc px EX HX mc ms A) HP k n pc L st E q :=
  fun p e s m args below meth c H locs ls B hP hS hl hq => hq.elim fun ce h => vx_outP B.2.2.2.2.2.1 B.2.2.2.2.1 (fun z hz => (hpass z (by rw [← B.2.2.2.2.2.2.2.2.1.2]; exact hz)).elim Or.inl (fun h => Or.inr ⟨h.1, h.2.elim fun nm hn => ⟨nm, B.2.2.2.2.2.2.1 _ hn.1, B.2.2.2.2.2.2.2.2.2.2.2.2.2.1 _ hn.2⟩⟩)) h.1 h.2.1 h.2.2 (fun t ht hW => ⟨u, hp, ⟨hE, by rw [ht]; exact hH _ hP⟩, hS.F ht⟩) hS.2.2 hk hn
/-- a handler catches it -/
theorem xg_catch {hh : List (Nat × Nat × Nat × Nat)} {E name : String} {q : Nat} (pre : List ExceptionTableEntry) (x : ExceptionTableEntry) (suf : List ExceptionTableEntry) (hsplit : tableOf hh = pre ++ x :: suf)
    (hpass : ∀ z ∈ pre, covers z pc = false ∨ (z.catchType ≠ 0 ∧ ∃ nm : String, Cond.classLink own z.catchType nm ∈ lw_all ∧ (E, nm) ∈ ncT)) (hx : covers x pc = true) (h0 : x.catchType ≠ 0) (hlink : Cond.classLink own x.catchType name ∈ lw_all) (hcast : Cond.castable E name ∈ lw_tbl)
    (K : GG l D cl tys cc nL rt own R A (MXW A hh) QF HP k n x.handlerPc L [.ref q]) : XG l D cl tys cc nL rt own R A (MXW A hh) QF HP k n pc L st E q :=
  fun p e s m args below meth c H locs ls B hP hS hl hq => hq.elim fun ce h => vx_catch B.2.2.2.2.2.1 pre x suf (B.2.2.2.2.2.2.2.2.1.2.trans hsplit) (fun z hz => (hpass z hz).elim Or.inl (fun h => Or.inr ⟨h.1, h.2.elim fun nm hn => ⟨nm, B.2.2.2.2.2.2.1 _ hn.1, B.2.2.2.2.2.2.2.2.2.2.2.2.2.1 _ hn.2⟩⟩)) hx h0 (B.2.2.2.2.2.2.1 _ hlink) (va_Nw.use rfl (B.2.2.2.2.2.2.2.2.2.1 _ hcast rfl)) h.1 h.2.1 h.2.2 (K p e s m args below meth c H locs ls B hP hS hl)
/-- throw x -/
theorem g_athrow {E : String} {q ci : Nat} {r : vw_C} {fs : List Value} (hc : cl[ci]? = some r) (hE : r.1 = E) (hd : decode cc pc = .ok (.athrow, 1)) (hcell : ∀ H, HP H → va_P D cl [(q, .inr (ci, fs))] H) (K : XG l D cl tys cc nL rt own R A MX QF HP k n pc L st E q) : GG l D cl tys cc nL rt own R A MX QF HP k n pc L (.ref q :: st) :=
  fun p e s m args below meth c H locs ls B hP hS hl => vx_athrow B.1 B.2.1 hd (K p e s m args below meth c H locs ls B hP hS hl (by
    obtain ⟨r9, h0, ce, h1, h2, h3, -⟩ := hcell H hP 0 _ rfl
    refine ⟨ce, h1, h3, ?_⟩
    rw [← hE, h2]
    cases h0.symm.trans hc
    exact (B.2.2.2.2.2.2.2.1.1 ci _ hc).2.1))
/-- throw new E() -/
theorem g_throw0 {cls : String} {names : List String} {ik ic : Nat} (hl9 : l.stackTraces = false) (hcls : Bundle.fit cls = true) (hnames : ∀ n ∈ names, Bundle.fit n = true) (hk : Cond.classLink own ik cls ∈ lw_tbl) (hini : Cond.initialized cls ∈ lw_tbl) (hat : ∀ w ∈ vx_at0 own ic cls names, w ∈ lw_tbl) (hok : (Cond.classLink own ik cls :: Cond.initialized cls :: vx_at0 own ic cls names).all (fun w => vx_ot w && (goodWord w || (nestW w && w.onTables))) = true)
    (d0 : decode cc pc = .ok (.new ik, 3)) (d3 : decode cc (pc + 3) = .ok (.dup, 1)) (d4 : decode cc (pc + 4) = .ok (.invokespecial ic, 3)) (d7 : decode cc (pc + 7) = .ok (.athrow, 1)) (hout : ∀ H m c, MX H m c → ∀ x ∈ c.exceptionTable.toList, covers x (pc + 7) = false)
    (hRf : names.length + 3 < R.frames) (hRl : (st.map fun v => v.category).sum + (13 * (names.length + 1) + 42) ≤ R.locals) (hRc : k + 1 ≤ R.cells) (hRs : n + 6 ≤ R.slots) (u : SX) (hp : px u) (hE : cls = EX u) (hH : ∀ (H H1 : Heap) (q : Nat), HP H → H.size ≤ H1.size → (∀ q : Nat, q < H.size → H1[q]? = H[q]?) → HX u q H1) (hc : k + 1 ≤ mc) (hs : n + 6 ≤ ms) :
    GG l D cl tys cc nL rt own R A MX (QB Qc px EX HX mc ms A) HP k n pc L st := by
  intro p e s m args below meth c H locs ls B hP hS hl
  have hok' := List.all_eq_true.mp hok
  have hw : ∀ w ∈ Cond.classLink own ik cls :: Cond.initialized cls :: vx_at0 own ic cls names, w.before args s = true := fun w hw => by
    have h1 : w ∈ lw_tbl := by
      rcases List.mem_cons.mp hw with e | hw
      · rw [e]; exact hk
      · rcases List.mem_cons.mp hw with e | hw
        · rw [e]; exact hini
        · exact hat w hw
    have h2 := hok' w hw
    rw [Bool.and_eq_true] at h2
    exact tbl_word B.2.2.2.2.2.2.1 B.2.2.2.2.2.2.2.2.2.1 h1 h2.2
  refine vx_throw0 B.1 B.2.1 hl9 B.2.2.2.2.2.1 hcls hnames (hw _ List.mem_cons_self) (hw _ (List.mem_cons_of_mem _ List.mem_cons_self)) (fun w h => hw w (List.mem_cons_of_mem _ (List.mem_cons_of_mem _ h))) (fun w h => by
    have h2 := hok' w h
    rw [Bool.and_eq_true] at h2
    exact h2.1) (B.2.2.2.2.2.2.2.2.2.2.2.2.1 1 _ rfl) (B.2.2.2.2.2.2.2.2.2.2.2.2.1 2 _ rfl) hS (hl.1.trans B.2.2.1.symm) d0 d3 d4 d7 (hout _ _ _ B.2.2.2.2.2.2.2.2.1) hRf hRl hRc hRs B.2.2.2.2.1 (fun t hvm hz hkept q => ?_) hS.2.2 hc hs
  exact ⟨u, hp, ⟨hE, hH H t.heap q hP hz hkept⟩, Nat.le_trans hS.1 hz, fun q9 h1 h2 => (hkept q9 (Nat.lt_of_lt_of_le h1 hS.1)).trans (hS.2.1 q9 h1 h2)⟩
theorem vx_callr {p : Program} {e : Env} {s : State} {m : MethodId} {args : Array Value} {below : List Frame} {meth : Method} {c : Code} {H : Heap} {locs : List Loc} {cells slots : Nat} {Q : State → Prop} {free : Addr → Prop} {A0 A1 : Nat → Prop} {H0 : Heap} {a : Array Value} {ls : Array Slot} {st0 rest : List Value} {S SX : Type} {post : S → Prop} {px : SX → Prop} {B : S → Nat → State → Prop} {BX : Addr → String → SX → State → Prop} {AX : Nat → Prop} (hr : vx_Run p l e R s m args below meth c H locs cells slots mc ms (F0 m pc ls st0) rest (va_Qr post B A1 a) (vx_X px BX AX) free) (hS : va_S A0 H0 H locs) (hA : ∀ q, q < H.size → A1 q → A0 q) (hf : ∀ q, free q → A0 q) (hAX : ∀ q, q < H.size → AX q → A0 q)
    (kx : ∀ (E : String) (ce : Cell) (q9 : Addr) (u : SX) (t : State) (H1 : Heap) (locs1 : List Loc), t.heap = H1 → s.vm.Alike t.vm → px u → BX q9 E u t → H.size ≤ H1.size → (∀ q : Nat, q < H.size → ¬ AX q → H1[q]? = H[q]?) → va_S A0 H0 H1 locs1 → H1[q9]? = some ce → ce.vm = .none → s.vm.findClass E = some ce.cls → vx_W p l e R s m args below meth c H1 locs1 (cells + mc) (slots + ms) Q (F0 m pc ls rest) q9)
    (kk : ∀ (u : S) (ra : Nat) (t : State) (H1 : Heap) (locs1 : List Loc), t.heap = H1 → s.vm.Alike t.vm → post u → B u ra t → H.size ≤ H1.size → (∀ q : Nat, q < H.size → ¬ A1 q → H1[q]? = H[q]?) → va_S A0 H0 H1 locs1 → W p l e R s m args below meth c H1 locs1 (cells + mc) (slots + ms) Q (F0 m (pc + 3) ls (.ref ra :: rest))) : W p l e R s m args below meth c H locs cells slots Q (F0 m pc ls st0) := by
  intro T hT X
  rcases hr T hT X with ⟨v, st₀, t, T', L, h0, X', hL, e1, e2, ⟨⟨u, ra, hv, hp, hb⟩, hF⟩, st⟩ | ⟨q, st₀, t, T', L, E, ce, h0, X', hL, e1, e2, ⟨u, hp, hb, hF⟩, hce, hcv, hcl, st⟩
  · cases hv
    obtain ⟨k1, k2, k3⟩ := vx_keep h0 e1 hS hA hf hL hF
    obtain ⟨t2, a1, b1⟩ := kk u ra t T'.heap (locs ++ L) e1.symm (by rw [← e2]; exact X'.warmed.alike) hp hb k1 k2 k3 T' rfl X'
    exact ⟨t2, st t2 a1, b1⟩
  · obtain ⟨k1, k2, k3⟩ := vx_keep h0 e1 hS hAX hf hL hF
    obtain ⟨t2, a1, b1⟩ := kx E ce q u t T'.heap (locs ++ L) e1.symm (by rw [← e2]; exact X'.warmed.alike) hp hb k1 k2 k3 (by rw [e1]; exact hce) hcv hcl T' rfl X'
    exact ⟨t2, st.trans a1, b1⟩
theorem x_cVi {S SY : Type} {post : Int32 → S → Prop} {HPu : S → Heap → Prop} {py : SY → Prop} {EY : SY → String} {HY : SY → Nat → Heap → Prop} {y : MethodName} {cc1 : ByteArray} {nL1 : Nat} {rt1 : Option FieldType} {rm1 : Room} {idx n9 : Nat} {b : Addr} {As rest : List Value} (hM : CTB l D cl tys y cc1 nL1 rt1 rm1 (.ref b :: As) HP (Qi post HPu A) py EY HY A) (hT : GoodIn lw_all (wsV own idx y.cls y (ws_ y cc1 nL1 rt1))) (hy : y.cls = y.cls ∧ y.cls ≠ "java/lang/invoke/MethodHandle" ∧ y.cls ≠ "java/lang/invoke/VarHandle" ∧ (parseMethodDescriptor y.desc).map (fun d => d.parameters.length) = some n9) (hn : As.length = n9) (hR : rm1.frames + 1 ≤ R.frames ∧ 8 + (nL1 + 11) + rm1.locals ≤ R.locals) (hf : k + rm1.cells ≤ R.cells ∧ n + rm1.slots ≤ R.slots) (hst : st = As.reverse ++ .ref b :: rest) (hcat : (rest.map fun v => v.category).sum ≤ 8) (hd : decode cc pc = .ok (.invokevirtual idx, 3)) (hNW : ∀ H m c, MX H m c → NEW A H) (hrecv : ∀ (s : State) (H : Heap), va_K D cl tys s → HP H → ∃ cell : Cell, H[b]? = some cell ∧ cell.vm.isStatics = false ∧ s.vm.findClass y.cls = some cell.cls) 
    (KX : ∀ (u : SY) (q : Nat), py u → XG l D cl tys cc nL rt own R A MX QF (HY u q) (k + rm1.cells) (n + rm1.slots) pc L rest (EY u) q)
    (K : ∀ (r : Int32) (u : S), post r u → GG l D cl tys cc nL rt own R A MX QF (HPu u) (k + rm1.cells) (n + rm1.slots) (pc + 3) L (.int r :: rest)) : GG l D cl tys cc nL rt own R A MX QF HP k n pc L st := by
  subst hst
  intro p e s m args below meth c H locs ls B hP hS hl
  refine vx_calli (vx_runV (As := As) (rest := rest) (b := b) ⟨B.1, B.2.1, B.2.2.1, B.2.2.2.2.2.1, B.2.2.2.2.2.2.1⟩ hM (cwV n9 B.2.2.2.2.2.2.1 hT rfl rfl rfl hy hR) ⟨fun a U g mk q => ⟨q.1, q.2.1, va_K.moved (u := U) (U := U.calling g mk a) (Vm.Alike.refl U.vm) q.2.2.1, VX.same (u := U) (U := U.calling g mk a) rfl q.2.2.2.1, q.2.2.2.2⟩, hrecv s H B.2.2.2.2.2.2.2.1 hP, fun U hU hW => ⟨rfl, by rw [hU]; exact hP, va_K.moved hW.alike B.2.2.2.2.2.2.2.1, B.2.2.2.2.2.2.2.2.2.go hS (fun _ h => h) hU hW, by rw [hU]; exact fun q hq => hNW _ _ _ B.2.2.2.2.2.2.2.2.1 q (Nat.le_trans hS.1 hq)⟩⟩ rfl hn hl.1 rfl (lv_room hcat) hd hf) hS (fun q _ h => h) (fun _ h => h) (fun q _ h => h) (fun E ce q9 u t H1 locs1 ht hvm hp hb hz hk1 hS1 hce hcv hcl => ?_) (fun r u t H1 locs1 ht hvm hp hb hz hk1 hS1 => K r u hp p e s m args below meth c H1 locs1 ls B ?_ hS1 hl)
  · obtain ⟨e9, hb⟩ := hb
    subst e9
    exact KX u q9 hp p e s m args below meth c H1 locs1 ls B (by rw [← ht]; exact hb) hS1 hl ⟨ce, hce, hcv, hcl⟩
  · rw [← ht]; exact hb
theorem x_cVl {S SY : Type} {post : Int64 → S → Prop} {HPu : S → Heap → Prop} {py : SY → Prop} {EY : SY → String} {HY : SY → Nat → Heap → Prop} {y : MethodName} {cc1 : ByteArray} {nL1 : Nat} {rt1 : Option FieldType} {rm1 : Room} {idx n9 : Nat} {b : Addr} {As rest : List Value} (hM : CTB l D cl tys y cc1 nL1 rt1 rm1 (.ref b :: As) HP (Ql post HPu A) py EY HY A) (hT : GoodIn lw_all (wsV own idx y.cls y (ws_ y cc1 nL1 rt1))) (hy : y.cls = y.cls ∧ y.cls ≠ "java/lang/invoke/MethodHandle" ∧ y.cls ≠ "java/lang/invoke/VarHandle" ∧ (parseMethodDescriptor y.desc).map (fun d => d.parameters.length) = some n9) (hn : As.length = n9) (hR : rm1.frames + 1 ≤ R.frames ∧ 8 + (nL1 + 11) + rm1.locals ≤ R.locals) (hf : k + rm1.cells ≤ R.cells ∧ n + rm1.slots ≤ R.slots) (hst : st = As.reverse ++ .ref b :: rest) (hcat : (rest.map fun v => v.category).sum ≤ 8) (hd : decode cc pc = .ok (.invokevirtual idx, 3)) (hNW : ∀ H m c, MX H m c → NEW A H) (hrecv : ∀ (s : State) (H : Heap), va_K D cl tys s → HP H → ∃ cell : Cell, H[b]? = some cell ∧ cell.vm.isStatics = false ∧ s.vm.findClass y.cls = some cell.cls) 
    (KX : ∀ (u : SY) (q : Nat), py u → XG l D cl tys cc nL rt own R A MX QF (HY u q) (k + rm1.cells) (n + rm1.slots) pc L rest (EY u) q)
    (K : ∀ (r : Int64) (u : S), post r u → GG l D cl tys cc nL rt own R A MX QF (HPu u) (k + rm1.cells) (n + rm1.slots) (pc + 3) L (.long r :: rest)) : GG l D cl tys cc nL rt own R A MX QF HP k n pc L st := by
  subst hst
  intro p e s m args below meth c H locs ls B hP hS hl
  refine vx_calll (vx_runV (As := As) (rest := rest) (b := b) ⟨B.1, B.2.1, B.2.2.1, B.2.2.2.2.2.1, B.2.2.2.2.2.2.1⟩ hM (cwV n9 B.2.2.2.2.2.2.1 hT rfl rfl rfl hy hR) ⟨fun a U g mk q => ⟨q.1, q.2.1, va_K.moved (u := U) (U := U.calling g mk a) (Vm.Alike.refl U.vm) q.2.2.1, VX.same (u := U) (U := U.calling g mk a) rfl q.2.2.2.1, q.2.2.2.2⟩, hrecv s H B.2.2.2.2.2.2.2.1 hP, fun U hU hW => ⟨rfl, by rw [hU]; exact hP, va_K.moved hW.alike B.2.2.2.2.2.2.2.1, B.2.2.2.2.2.2.2.2.2.go hS (fun _ h => h) hU hW, by rw [hU]; exact fun q hq => hNW _ _ _ B.2.2.2.2.2.2.2.2.1 q (Nat.le_trans hS.1 hq)⟩⟩ rfl hn hl.1 rfl (lv_room hcat) hd hf) hS (fun q _ h => h) (fun _ h => h) (fun q _ h => h) (fun E ce q9 u t H1 locs1 ht hvm hp hb hz hk1 hS1 hce hcv hcl => ?_) (fun r u t H1 locs1 ht hvm hp hb hz hk1 hS1 => K r u hp p e s m args below meth c H1 locs1 ls B ?_ hS1 hl)
  · obtain ⟨e9, hb⟩ := hb
    subst e9
    exact KX u q9 hp p e s m args below meth c H1 locs1 ls B (by rw [← ht]; exact hb) hS1 hl ⟨ce, hce, hcv, hcl⟩
  · rw [← ht]; exact hb
theorem x_cVv {S SY : Type} {post : S → Prop} {HPu : S → Heap → Prop} {py : SY → Prop} {EY : SY → String} {HY : SY → Nat → Heap → Prop} {y : MethodName} {cc1 : ByteArray} {nL1 : Nat} {rt1 : Option FieldType} {rm1 : Room} {idx n9 : Nat} {b : Addr} {As rest : List Value} (hM : CTB l D cl tys y cc1 nL1 rt1 rm1 (.ref b :: As) HP (Qv post HPu A) py EY HY A) (hT : GoodIn lw_all (wsV own idx y.cls y (ws_ y cc1 nL1 rt1))) (hy : y.cls = y.cls ∧ y.cls ≠ "java/lang/invoke/MethodHandle" ∧ y.cls ≠ "java/lang/invoke/VarHandle" ∧ (parseMethodDescriptor y.desc).map (fun d => d.parameters.length) = some n9) (hn : As.length = n9) (hR : rm1.frames + 1 ≤ R.frames ∧ 8 + (nL1 + 11) + rm1.locals ≤ R.locals) (hf : k + rm1.cells ≤ R.cells ∧ n + rm1.slots ≤ R.slots) (hst : st = As.reverse ++ .ref b :: rest) (hcat : (rest.map fun v => v.category).sum ≤ 8) (hd : decode cc pc = .ok (.invokevirtual idx, 3)) (hNW : ∀ H m c, MX H m c → NEW A H) (hrecv : ∀ (s : State) (H : Heap), va_K D cl tys s → HP H → ∃ cell : Cell, H[b]? = some cell ∧ cell.vm.isStatics = false ∧ s.vm.findClass y.cls = some cell.cls) 
    (KX : ∀ (u : SY) (q : Nat), py u → XG l D cl tys cc nL rt own R A MX QF (HY u q) (k + rm1.cells) (n + rm1.slots) pc L rest (EY u) q)
    (K : ∀ (u : S), post u → GG l D cl tys cc nL rt own R A MX QF (HPu u) (k + rm1.cells) (n + rm1.slots) (pc + 3) L (rest)) : GG l D cl tys cc nL rt own R A MX QF HP k n pc L st := by
  subst hst
  intro p e s m args below meth c H locs ls B hP hS hl
  refine vx_callv (vx_runV (As := As) (rest := rest) (b := b) ⟨B.1, B.2.1, B.2.2.1, B.2.2.2.2.2.1, B.2.2.2.2.2.2.1⟩ hM (cwV n9 B.2.2.2.2.2.2.1 hT rfl rfl rfl hy hR) ⟨fun a U g mk q => ⟨q.1, q.2.1, va_K.moved (u := U) (U := U.calling g mk a) (Vm.Alike.refl U.vm) q.2.2.1, VX.same (u := U) (U := U.calling g mk a) rfl q.2.2.2.1, q.2.2.2.2⟩, hrecv s H B.2.2.2.2.2.2.2.1 hP, fun U hU hW => ⟨rfl, by rw [hU]; exact hP, va_K.moved hW.alike B.2.2.2.2.2.2.2.1, B.2.2.2.2.2.2.2.2.2.go hS (fun _ h => h) hU hW, by rw [hU]; exact fun q hq => hNW _ _ _ B.2.2.2.2.2.2.2.2.1 q (Nat.le_trans hS.1 hq)⟩⟩ rfl hn hl.1 rfl (lv_room hcat) hd hf) hS (fun q _ h => h) (fun _ h => h) (fun q _ h => h) (fun E ce q9 u t H1 locs1 ht hvm hp hb hz hk1 hS1 hce hcv hcl => ?_) (fun u t H1 locs1 ht hvm hp hb hz hk1 hS1 => K u hp p e s m args below meth c H1 locs1 ls B ?_ hS1 hl)
  · obtain ⟨e9, hb⟩ := hb
    subst e9
    exact KX u q9 hp p e s m args below meth c H1 locs1 ls B (by rw [← ht]; exact hb) hS1 hl ⟨ce, hce, hcv, hcl⟩
  · rw [← ht]; exact hb
theorem x_cVr {S SY : Type} {post : S → Prop} {HPu : S → Nat → Heap → Prop} {py : SY → Prop} {EY : SY → String} {HY : SY → Nat → Heap → Prop} {y : MethodName} {cc1 : ByteArray} {nL1 : Nat} {rt1 : Option FieldType} {rm1 : Room} {idx n9 : Nat} {b : Addr} {As rest : List Value} (hM : CTB l D cl tys y cc1 nL1 rt1 rm1 (.ref b :: As) HP (Qr post HPu A) py EY HY A) (hT : GoodIn lw_all (wsV own idx y.cls y (ws_ y cc1 nL1 rt1))) (hy : y.cls = y.cls ∧ y.cls ≠ "java/lang/invoke/MethodHandle" ∧ y.cls ≠ "java/lang/invoke/VarHandle" ∧ (parseMethodDescriptor y.desc).map (fun d => d.parameters.length) = some n9) (hn : As.length = n9) (hR : rm1.frames + 1 ≤ R.frames ∧ 8 + (nL1 + 11) + rm1.locals ≤ R.locals) (hf : k + rm1.cells ≤ R.cells ∧ n + rm1.slots ≤ R.slots) (hst : st = As.reverse ++ .ref b :: rest) (hcat : (rest.map fun v => v.category).sum ≤ 8) (hd : decode cc pc = .ok (.invokevirtual idx, 3)) (hNW : ∀ H m c, MX H m c → NEW A H) (hrecv : ∀ (s : State) (H : Heap), va_K D cl tys s → HP H → ∃ cell : Cell, H[b]? = some cell ∧ cell.vm.isStatics = false ∧ s.vm.findClass y.cls = some cell.cls) 
    (KX : ∀ (u : SY) (q : Nat), py u → XG l D cl tys cc nL rt own R A MX QF (HY u q) (k + rm1.cells) (n + rm1.slots) pc L rest (EY u) q)
    (K : ∀ (u : S) (ra : Nat), post u → GG l D cl tys cc nL rt own R A MX QF (HPu u ra) (k + rm1.cells) (n + rm1.slots) (pc + 3) L (.ref ra :: rest)) : GG l D cl tys cc nL rt own R A MX QF HP k n pc L st := by
  subst hst
  intro p e s m args below meth c H locs ls B hP hS hl
  refine vx_callr (vx_runV (As := As) (rest := rest) (b := b) ⟨B.1, B.2.1, B.2.2.1, B.2.2.2.2.2.1, B.2.2.2.2.2.2.1⟩ hM (cwV n9 B.2.2.2.2.2.2.1 hT rfl rfl rfl hy hR) ⟨fun a U g mk q => ⟨q.1, q.2.1, va_K.moved (u := U) (U := U.calling g mk a) (Vm.Alike.refl U.vm) q.2.2.1, VX.same (u := U) (U := U.calling g mk a) rfl q.2.2.2.1, q.2.2.2.2⟩, hrecv s H B.2.2.2.2.2.2.2.1 hP, fun U hU hW => ⟨rfl, by rw [hU]; exact hP, va_K.moved hW.alike B.2.2.2.2.2.2.2.1, B.2.2.2.2.2.2.2.2.2.go hS (fun _ h => h) hU hW, by rw [hU]; exact fun q hq => hNW _ _ _ B.2.2.2.2.2.2.2.2.1 q (Nat.le_trans hS.1 hq)⟩⟩ rfl hn hl.1 rfl (lv_room hcat) hd hf) hS (fun q _ h => h) (fun _ h => h) (fun q _ h => h) (fun E ce q9 u t H1 locs1 ht hvm hp hb hz hk1 hS1 hce hcv hcl => ?_) (fun u ra t H1 locs1 ht hvm hp hb hz hk1 hS1 => K u ra hp p e s m args below meth c H1 locs1 ls B ?_ hS1 hl)
  · obtain ⟨e9, hb⟩ := hb
    subst e9
    exact KX u q9 hp p e s m args below meth c H1 locs1 ls B (by rw [← ht]; exact hb) hS1 hl ⟨ce, hce, hcv, hcl⟩
  · rw [← ht]; exact hb
theorem x_cSi {S SY : Type} {post : Int32 → S → Prop} {HPu : S → Heap → Prop} {py : SY → Prop} {EY : SY → String} {HY : SY → Nat → Heap → Prop} {y : MethodName} {cc1 : ByteArray} {nL1 : Nat} {rt1 : Option FieldType} {rm1 : Room} {idx n9 : Nat} {As rest : List Value} (hM : CTB l D cl tys y cc1 nL1 rt1 rm1 (As) HP (Qi post HPu A) py EY HY A) (hT : GoodIn lw_all (va_wsS own idx y (ws_ y cc1 nL1 rt1))) (hy : y.cls ≠ "java/lang/invoke/MethodHandle" ∧ y.cls ≠ "java/lang/invoke/VarHandle" ∧ (parseMethodDescriptor y.desc).map (fun d => d.parameters.length) = some n9) (hn : As.length = n9) (hR : rm1.frames + 1 ≤ R.frames ∧ 8 + (nL1 + 11) + rm1.locals ≤ R.locals) (hf : k + rm1.cells ≤ R.cells ∧ n + rm1.slots ≤ R.slots) (hst : st = As.reverse ++ rest) (hcat : (rest.map fun v => v.category).sum ≤ 8) (hd : decode cc pc = .ok (.invokestatic idx, 3)) (hNW : ∀ H m c, MX H m c → NEW A H) 
    (KX : ∀ (u : SY) (q : Nat), py u → XG l D cl tys cc nL rt own R A MX QF (HY u q) (k + rm1.cells) (n + rm1.slots) pc L rest (EY u) q)
    (K : ∀ (r : Int32) (u : S), post r u → GG l D cl tys cc nL rt own R A MX QF (HPu u) (k + rm1.cells) (n + rm1.slots) (pc + 3) L (.int r :: rest)) : GG l D cl tys cc nL rt own R A MX QF HP k n pc L st := by
  subst hst
  intro p e s m args below meth c H locs ls B hP hS hl
  refine vx_calli (vx_runS (As := As) (rest := rest) ⟨B.1, B.2.1, B.2.2.1, B.2.2.2.2.2.1, B.2.2.2.2.2.2.1⟩ hM (va_cwS n9 B.2.2.2.2.2.2.1 hT rfl rfl rfl hy hR) ⟨fun a U g mk q => ⟨q.1, q.2.1, va_K.moved (u := U) (U := U.calling g mk a) (Vm.Alike.refl U.vm) q.2.2.1, VX.same (u := U) (U := U.calling g mk a) rfl q.2.2.2.1, q.2.2.2.2⟩, fun U hU hW => ⟨rfl, by rw [hU]; exact hP, va_K.moved hW.alike B.2.2.2.2.2.2.2.1, B.2.2.2.2.2.2.2.2.2.go hS (fun _ h => h) hU hW, by rw [hU]; exact fun q hq => hNW _ _ _ B.2.2.2.2.2.2.2.2.1 q (Nat.le_trans hS.1 hq)⟩⟩ rfl hn hl.1 rfl (lv_room hcat) hd hf) hS (fun q _ h => h) (fun _ h => h) (fun q _ h => h) (fun E ce q9 u t H1 locs1 ht hvm hp hb hz hk1 hS1 hce hcv hcl => ?_) (fun r u t H1 locs1 ht hvm hp hb hz hk1 hS1 => K r u hp p e s m args below meth c H1 locs1 ls B ?_ hS1 hl)
  · obtain ⟨e9, hb⟩ := hb
    subst e9
    exact KX u q9 hp p e s m args below meth c H1 locs1 ls B (by rw [← ht]; exact hb) hS1 hl ⟨ce, hce, hcv, hcl⟩
  · rw [← ht]; exact hb
theorem x_cSl {S SY : Type} {post : Int64 → S → Prop} {HPu : S → Heap → Prop} {py : SY → Prop} {EY : SY → String} {HY : SY → Nat → Heap → Prop} {y : MethodName} {cc1 : ByteArray} {nL1 : Nat} {rt1 : Option FieldType} {rm1 : Room} {idx n9 : Nat} {As rest : List Value} (hM : CTB l D cl tys y cc1 nL1 rt1 rm1 (As) HP (Ql post HPu A) py EY HY A) (hT : GoodIn lw_all (va_wsS own idx y (ws_ y cc1 nL1 rt1))) (hy : y.cls ≠ "java/lang/invoke/MethodHandle" ∧ y.cls ≠ "java/lang/invoke/VarHandle" ∧ (parseMethodDescriptor y.desc).map (fun d => d.parameters.length) = some n9) (hn : As.length = n9) (hR : rm1.frames + 1 ≤ R.frames ∧ 8 + (nL1 + 11) + rm1.locals ≤ R.locals) (hf : k + rm1.cells ≤ R.cells ∧ n + rm1.slots ≤ R.slots) (hst : st = As.reverse ++ rest) (hcat : (rest.map fun v => v.category).sum ≤ 8) (hd : decode cc pc = .ok (.invokestatic idx, 3)) (hNW : ∀ H m c, MX H m c → NEW A H) 
    (KX : ∀ (u : SY) (q : Nat), py u → XG l D cl tys cc nL rt own R A MX QF (HY u q) (k + rm1.cells) (n + rm1.slots) pc L rest (EY u) q)
    (K : ∀ (r : Int64) (u : S), post r u → GG l D cl tys cc nL rt own R A MX QF (HPu u) (k + rm1.cells) (n + rm1.slots) (pc + 3) L (.long r :: rest)) : GG l D cl tys cc nL rt own R A MX QF HP k n pc L st := by
  subst hst
  intro p e s m args below meth c H locs ls B hP hS hl
  refine vx_calll (vx_runS (As := As) (rest := rest) ⟨B.1, B.2.1, B.2.2.1, B.2.2.2.2.2.1, B.2.2.2.2.2.2.1⟩ hM (va_cwS n9 B.2.2.2.2.2.2.1 hT rfl rfl rfl hy hR) ⟨fun a U g mk q => ⟨q.1, q.2.1, va_K.moved (u := U) (U := U.calling g mk a) (Vm.Alike.refl U.vm) q.2.2.1, VX.same (u := U) (U := U.calling g mk a) rfl q.2.2.2.1, q.2.2.2.2⟩, fun U hU hW => ⟨rfl, by rw [hU]; exact hP, va_K.moved hW.alike B.2.2.2.2.2.2.2.1, B.2.2.2.2.2.2.2.2.2.go hS (fun _ h => h) hU hW, by rw [hU]; exact fun q hq => hNW _ _ _ B.2.2.2.2.2.2.2.2.1 q (Nat.le_trans hS.1 hq)⟩⟩ rfl hn hl.1 rfl (lv_room hcat) hd hf) hS (fun q _ h => h) (fun _ h => h) (fun q _ h => h) (fun E ce q9 u t H1 locs1 ht hvm hp hb hz hk1 hS1 hce hcv hcl => ?_) (fun r u t H1 locs1 ht hvm hp hb hz hk1 hS1 => K r u hp p e s m args below meth c H1 locs1 ls B ?_ hS1 hl)
  · obtain ⟨e9, hb⟩ := hb
    subst e9
    exact KX u q9 hp p e s m args below meth c H1 locs1 ls B (by rw [← ht]; exact hb) hS1 hl ⟨ce, hce, hcv, hcl⟩
  · rw [← ht]; exact hb
theorem x_cSv {S SY : Type} {post : S → Prop} {HPu : S → Heap → Prop} {py : SY → Prop} {EY : SY → String} {HY : SY → Nat → Heap → Prop} {y : MethodName} {cc1 : ByteArray} {nL1 : Nat} {rt1 : Option FieldType} {rm1 : Room} {idx n9 : Nat} {As rest : List Value} (hM : CTB l D cl tys y cc1 nL1 rt1 rm1 (As) HP (Qv post HPu A) py EY HY A) (hT : GoodIn lw_all (va_wsS own idx y (ws_ y cc1 nL1 rt1))) (hy : y.cls ≠ "java/lang/invoke/MethodHandle" ∧ y.cls ≠ "java/lang/invoke/VarHandle" ∧ (parseMethodDescriptor y.desc).map (fun d => d.parameters.length) = some n9) (hn : As.length = n9) (hR : rm1.frames + 1 ≤ R.frames ∧ 8 + (nL1 + 11) + rm1.locals ≤ R.locals) (hf : k + rm1.cells ≤ R.cells ∧ n + rm1.slots ≤ R.slots) (hst : st = As.reverse ++ rest) (hcat : (rest.map fun v => v.category).sum ≤ 8) (hd : decode cc pc = .ok (.invokestatic idx, 3)) (hNW : ∀ H m c, MX H m c → NEW A H) 
    (KX : ∀ (u : SY) (q : Nat), py u → XG l D cl tys cc nL rt own R A MX QF (HY u q) (k + rm1.cells) (n + rm1.slots) pc L rest (EY u) q)
    (K : ∀ (u : S), post u → GG l D cl tys cc nL rt own R A MX QF (HPu u) (k + rm1.cells) (n + rm1.slots) (pc + 3) L (rest)) : GG l D cl tys cc nL rt own R A MX QF HP k n pc L st := by
  subst hst
  intro p e s m args below meth c H locs ls B hP hS hl
  refine vx_callv (vx_runS (As := As) (rest := rest) ⟨B.1, B.2.1, B.2.2.1, B.2.2.2.2.2.1, B.2.2.2.2.2.2.1⟩ hM (va_cwS n9 B.2.2.2.2.2.2.1 hT rfl rfl rfl hy hR) ⟨fun a U g mk q => ⟨q.1, q.2.1, va_K.moved (u := U) (U := U.calling g mk a) (Vm.Alike.refl U.vm) q.2.2.1, VX.same (u := U) (U := U.calling g mk a) rfl q.2.2.2.1, q.2.2.2.2⟩, fun U hU hW => ⟨rfl, by rw [hU]; exact hP, va_K.moved hW.alike B.2.2.2.2.2.2.2.1, B.2.2.2.2.2.2.2.2.2.go hS (fun _ h => h) hU hW, by rw [hU]; exact fun q hq => hNW _ _ _ B.2.2.2.2.2.2.2.2.1 q (Nat.le_trans hS.1 hq)⟩⟩ rfl hn hl.1 rfl (lv_room hcat) hd hf) hS (fun q _ h => h) (fun _ h => h) (fun q _ h => h) (fun E ce q9 u t H1 locs1 ht hvm hp hb hz hk1 hS1 hce hcv hcl => ?_) (fun u t H1 locs1 ht hvm hp hb hz hk1 hS1 => K u hp p e s m args below meth c H1 locs1 ls B ?_ hS1 hl)
  · obtain ⟨e9, hb⟩ := hb
    subst e9
    exact KX u q9 hp p e s m args below meth c H1 locs1 ls B (by rw [← ht]; exact hb) hS1 hl ⟨ce, hce, hcv, hcl⟩
  · rw [← ht]; exact hb
theorem x_cSr {S SY : Type} {post : S → Prop} {HPu : S → Nat → Heap → Prop} {py : SY → Prop} {EY : SY → String} {HY : SY → Nat → Heap → Prop} {y : MethodName} {cc1 : ByteArray} {nL1 : Nat} {rt1 : Option FieldType} {rm1 : Room} {idx n9 : Nat} {As rest : List Value} (hM : CTB l D cl tys y cc1 nL1 rt1 rm1 (As) HP (Qr post HPu A) py EY HY A) (hT : GoodIn lw_all (va_wsS own idx y (ws_ y cc1 nL1 rt1))) (hy : y.cls ≠ "java/lang/invoke/MethodHandle" ∧ y.cls ≠ "java/lang/invoke/VarHandle" ∧ (parseMethodDescriptor y.desc).map (fun d => d.parameters.length) = some n9) (hn : As.length = n9) (hR : rm1.frames + 1 ≤ R.frames ∧ 8 + (nL1 + 11) + rm1.locals ≤ R.locals) (hf : k + rm1.cells ≤ R.cells ∧ n + rm1.slots ≤ R.slots) (hst : st = As.reverse ++ rest) (hcat : (rest.map fun v => v.category).sum ≤ 8) (hd : decode cc pc = .ok (.invokestatic idx, 3)) (hNW : ∀ H m c, MX H m c → NEW A H) 
    (KX : ∀ (u : SY) (q : Nat), py u → XG l D cl tys cc nL rt own R A MX QF (HY u q) (k + rm1.cells) (n + rm1.slots) pc L rest (EY u) q)
    (K : ∀ (u : S) (ra : Nat), post u → GG l D cl tys cc nL rt own R A MX QF (HPu u ra) (k + rm1.cells) (n + rm1.slots) (pc + 3) L (.ref ra :: rest)) : GG l D cl tys cc nL rt own R A MX QF HP k n pc L st := by
  subst hst
  intro p e s m args below meth c H locs ls B hP hS hl
  refine vx_callr (vx_runS (As := As) (rest := rest) ⟨B.1, B.2.1, B.2.2.1, B.2.2.2.2.2.1, B.2.2.2.2.2.2.1⟩ hM (va_cwS n9 B.2.2.2.2.2.2.1 hT rfl rfl rfl hy hR) ⟨fun a U g mk q => ⟨q.1, q.2.1, va_K.moved (u := U) (U := U.calling g mk a) (Vm.Alike.refl U.vm) q.2.2.1, VX.same (u := U) (U := U.calling g mk a) rfl q.2.2.2.1, q.2.2.2.2⟩, fun U hU hW => ⟨rfl, by rw [hU]; exact hP, va_K.moved hW.alike B.2.2.2.2.2.2.2.1, B.2.2.2.2.2.2.2.2.2.go hS (fun _ h => h) hU hW, by rw [hU]; exact fun q hq => hNW _ _ _ B.2.2.2.2.2.2.2.2.1 q (Nat.le_trans hS.1 hq)⟩⟩ rfl hn hl.1 rfl (lv_room hcat) hd hf) hS (fun q _ h => h) (fun _ h => h) (fun q _ h => h) (fun E ce q9 u t H1 locs1 ht hvm hp hb hz hk1 hS1 hce hcv hcl => ?_) (fun u ra t H1 locs1 ht hvm hp hb hz hk1 hS1 => K u ra hp p e s m args below meth c H1 locs1 ls B ?_ hS1 hl)
  · obtain ⟨e9, hb⟩ := hb
    subst e9
    exact KX u q9 hp p e s m args below meth c H1 locs1 ls B (by rw [← ht]; exact hb) hS1 hl ⟨ce, hce, hcv, hcl⟩
  · rw [← ht]; exact hb
theorem x_cWi {S SY : Type} {post : Int32 → S → Prop} {HPu : S → Heap → Prop} {py : SY → Prop} {EY : SY → String} {HY : SY → Nat → Heap → Prop} {y : MethodName} {cc1 : ByteArray} {nL1 : Nat} {rt1 : Option FieldType} {hh : List (Nat × Nat × Nat × Nat)} {rm1 : Room} {idx n9 : Nat} {b : Addr} {As rest : List Value} (hM : CTW l D cl tys y cc1 nL1 rt1 hh rm1 (.ref b :: As) HP (Qi post HPu A) py EY HY A) (hT : GoodIn lw_all (wsV own idx y.cls y (wsW_ y cc1 nL1 rt1 hh))) (hy : y.cls = y.cls ∧ y.cls ≠ "java/lang/invoke/MethodHandle" ∧ y.cls ≠ "java/lang/invoke/VarHandle" ∧ (parseMethodDescriptor y.desc).map (fun d => d.parameters.length) = some n9) (hn : As.length = n9) (hR : rm1.frames + 1 ≤ R.frames ∧ 8 + (nL1 + 11) + rm1.locals ≤ R.locals) (hf : k + rm1.cells ≤ R.cells ∧ n + rm1.slots ≤ R.slots) (hst : st = As.reverse ++ .ref b :: rest) (hcat : (rest.map fun v => v.category).sum ≤ 8) (hd : decode cc pc = .ok (.invokevirtual idx, 3)) (hNW : ∀ H m c, MX H m c → NEW A H) (hrecv : ∀ (s : State) (H : Heap), va_K D cl tys s → HP H → ∃ cell : Cell, H[b]? = some cell ∧ cell.vm.isStatics = false ∧ s.vm.findClass y.cls = some cell.cls) 
    (KX : ∀ (u : SY) (q : Nat), py u → XG l D cl tys cc nL rt own R A MX QF (HY u q) (k + rm1.cells) (n + rm1.slots) pc L rest (EY u) q)
    (K : ∀ (r : Int32) (u : S), post r u → GG l D cl tys cc nL rt own R A MX QF (HPu u) (k + rm1.cells) (n + rm1.slots) (pc + 3) L (.int r :: rest)) : GG l D cl tys cc nL rt own R A MX QF HP k n pc L st := by
  subst hst
  intro p e s m args below meth c H locs ls B hP hS hl
  refine vx_calli (vx_runVX (hh := hh) (As := As) (rest := rest) (b := b) ⟨B.1, B.2.1, B.2.2.1, B.2.2.2.2.2.1, B.2.2.2.2.2.2.1⟩ hM (vx_cwVW n9 B.2.2.2.2.2.2.1 hT rfl rfl rfl hy hR) ⟨fun a U g mk q => ⟨q.1, q.2.1, va_K.moved (u := U) (U := U.calling g mk a) (Vm.Alike.refl U.vm) q.2.2.1, VX.same (u := U) (U := U.calling g mk a) rfl q.2.2.2.1, q.2.2.2.2⟩, hrecv s H B.2.2.2.2.2.2.2.1 hP, fun U hU hW => ⟨rfl, by rw [hU]; exact hP, va_K.moved hW.alike B.2.2.2.2.2.2.2.1, B.2.2.2.2.2.2.2.2.2.go hS (fun _ h => h) hU hW, by rw [hU]; exact fun q hq => hNW _ _ _ B.2.2.2.2.2.2.2.2.1 q (Nat.le_trans hS.1 hq)⟩⟩ rfl hn hl.1 rfl (lv_room hcat) hd hf) hS (fun q _ h => h) (fun _ h => h) (fun q _ h => h) (fun E ce q9 u t H1 locs1 ht hvm hp hb hz hk1 hS1 hce hcv hcl => ?_) (fun r u t H1 locs1 ht hvm hp hb hz hk1 hS1 => K r u hp p e s m args below meth c H1 locs1 ls B ?_ hS1 hl)
  · obtain ⟨e9, hb⟩ := hb
    subst e9
    exact KX u q9 hp p e s m args below meth c H1 locs1 ls B (by rw [← ht]; exact hb) hS1 hl ⟨ce, hce, hcv, hcl⟩
  · rw [← ht]; exact hb
theorem x_cWl {S SY : Type} {post : Int64 → S → Prop} {HPu : S → Heap → Prop} {py : SY → Prop} {EY : SY → String} {HY : SY → Nat → Heap → Prop} {y : MethodName} {cc1 : ByteArray} {nL1 : Nat} {rt1 : Option FieldType} {hh : List (Nat × Nat × Nat × Nat)} {rm1 : Room} {idx n9 : Nat} {b : Addr} {As rest : List Value} (hM : CTW l D cl tys y cc1 nL1 rt1 hh rm1 (.ref b :: As) HP (Ql post HPu A) py EY HY A) (hT : GoodIn lw_all (wsV own idx y.cls y (wsW_ y cc1 nL1 rt1 hh))) (hy : y.cls = y.cls ∧ y.cls ≠ "java/lang/invoke/MethodHandle" ∧ y.cls ≠ "java/lang/invoke/VarHandle" ∧ (parseMethodDescriptor y.desc).map (fun d => d.parameters.length) = some n9) (hn : As.length = n9) (hR : rm1.frames + 1 ≤ R.frames ∧ 8 + (nL1 + 11) + rm1.locals ≤ R.locals) (hf : k + rm1.cells ≤ R.cells ∧ n + rm1.slots ≤ R.slots) (hst : st = As.reverse ++ .ref b :: rest) (hcat : (rest.map fun v => v.category).sum ≤ 8) (hd : decode cc pc = .ok (.invokevirtual idx, 3)) (hNW : ∀ H m c, MX H m c → NEW A H) (hrecv : ∀ (s : State) (H : Heap), va_K D cl tys s → HP H → ∃ cell : Cell, H[b]? = some cell ∧ cell.vm.isStatics = false ∧ s.vm.findClass y.cls = some cell.cls) 
    (KX : ∀ (u : SY) (q : Nat), py u → XG l D cl tys cc nL rt own R A MX QF (HY u q) (k + rm1.cells) (n + rm1.slots) pc L rest (EY u) q)
    (K : ∀ (r : Int64) (u : S), post r u → GG l D cl tys cc nL rt own R A MX QF (HPu u) (k + rm1.cells) (n + rm1.slots) (pc + 3) L (.long r :: rest)) : GG l D cl tys cc nL rt own R A MX QF HP k n pc L st := by
  subst hst
  intro p e s m args below meth c H locs ls B hP hS hl
  refine vx_calll (vx_runVX (hh := hh) (As := As) (rest := rest) (b := b) ⟨B.1, B.2.1, B.2.2.1, B.2.2.2.2.2.1, B.2.2.2.2.2.2.1⟩ hM (vx_cwVW n9 B.2.2.2.2.2.2.1 hT rfl rfl rfl hy hR) ⟨fun a U g mk q => ⟨q.1, q.2.1, va_K.moved (u := U) (U := U.calling g mk a) (Vm.Alike.refl U.vm) q.2.2.1, VX.same (u := U) (U := U.calling g mk a) rfl q.2.2.2.1, q.2.2.2.2⟩, hrecv s H B.2.2.2.2.2.2.2.1 hP, fun U hU hW => ⟨rfl, by rw [hU]; exact hP, va_K.moved hW.alike B.2.2.2.2.2.2.2.1, B.2.2.2.2.2.2.2.2.2.go hS (fun _ h => h) hU hW, by rw [hU]; exact fun q hq => hNW _ _ _ B.2.2.2.2.2.2.2.2.1 q (Nat.le_trans hS.1 hq)⟩⟩ rfl hn hl.1 rfl (lv_room hcat) hd hf) hS (fun q _ h => h) (fun _ h => h) (fun q _ h => h) (fun E ce q9 u t H1 locs1 ht hvm hp hb hz hk1 hS1 hce hcv hcl => ?_) (fun r u t H1 locs1 ht hvm hp hb hz hk1 hS1 => K r u hp p e s m args below meth c H1 locs1 ls B ?_ hS1 hl)
  · obtain ⟨e9, hb⟩ := hb
    subst e9
    exact KX u q9 hp p e s m args below meth c H1 locs1 ls B (by rw [← ht]; exact hb) hS1 hl ⟨ce, hce, hcv, hcl⟩
  · rw [← ht]; exact hb
theorem x_cWv {S SY : Type} {post : S → Prop} {HPu : S → Heap → Prop} {py : SY → Prop} {EY : SY → String} {HY : SY → Nat → Heap → Prop} {y : MethodName} {cc1 : ByteArray} {nL1 : Nat} {rt1 : Option FieldType} {hh : List (Nat × Nat × Nat × Nat)} {rm1 : Room} {idx n9 : Nat} {b : Addr} {As rest : List Value} (hM : CTW l D cl tys y cc1 nL1 rt1 hh rm1 (.ref b :: As) HP (Qv post HPu A) py EY HY A) (hT : GoodIn lw_all (wsV own idx y.cls y (wsW_ y cc1 nL1 rt1 hh))) (hy : y.cls = y.cls ∧ y.cls ≠ "java/lang/invoke/MethodHandle" ∧ y.cls ≠ "java/lang/invoke/VarHandle" ∧ (parseMethodDescriptor y.desc).map (fun d => d.parameters.length) = some n9) (hn : As.length = n9) (hR : rm1.frames + 1 ≤ R.frames ∧ 8 + (nL1 + 11) + rm1.locals ≤ R.locals) (hf : k + rm1.cells ≤ R.cells ∧ n + rm1.slots ≤ R.slots) (hst : st = As.reverse ++ .ref b :: rest) (hcat : (rest.map fun v => v.category).sum ≤ 8) (hd : decode cc pc = .ok (.invokevirtual idx, 3)) (hNW : ∀ H m c, MX H m c → NEW A H) (hrecv : ∀ (s : State) (H : Heap), va_K D cl tys s → HP H → ∃ cell : Cell, H[b]? = some cell ∧ cell.vm.isStatics = false ∧ s.vm.findClass y.cls = some cell.cls) 
    (KX : ∀ (u : SY) (q : Nat), py u → XG l D cl tys cc nL rt own R A MX QF (HY u q) (k + rm1.cells) (n + rm1.slots) pc L rest (EY u) q)
    (K : ∀ (u : S), post u → GG l D cl tys cc nL rt own R A MX QF (HPu u) (k + rm1.cells) (n + rm1.slots) (pc + 3) L (rest)) : GG l D cl tys cc nL rt own R A MX QF HP k n pc L st := by
  subst hst
  intro p e s m args below meth c H locs ls B hP hS hl
  refine vx_callv (vx_runVX (hh := hh) (As := As) (rest := rest) (b := b) ⟨B.1, B.2.1, B.2.2.1, B.2.2.2.2.2.1, B.2.2.2.2.2.2.1⟩ hM (vx_cwVW n9 B.2.2.2.2.2.2.1 hT rfl rfl rfl hy hR) ⟨fun a U g mk q => ⟨q.1, q.2.1, va_K.moved (u := U) (U := U.calling g mk a) (Vm.Alike.refl U.vm) q.2.2.1, VX.same (u := U) (U := U.calling g mk a) rfl q.2.2.2.1, q.2.2.2.2⟩, hrecv s H B.2.2.2.2.2.2.2.1 hP, fun U hU hW => ⟨rfl, by rw [hU]; exact hP, va_K.moved hW.alike B.2.2.2.2.2.2.2.1, B.2.2.2.2.2.2.2.2.2.go hS (fun _ h => h) hU hW, by rw [hU]; exact fun q hq => hNW _ _ _ B.2.2.2.2.2.2.2.2.1 q (Nat.le_trans hS.1 hq)⟩⟩ rfl hn hl.1 rfl (lv_room hcat) hd hf) hS (fun q _ h => h) (fun _ h => h) (fun q _ h => h) (fun E ce q9 u t H1 locs1 ht hvm hp hb hz hk1 hS1 hce hcv hcl => ?_) (fun u t H1 locs1 ht hvm hp hb hz hk1 hS1 => K u hp p e s m args below meth c H1 locs1 ls B ?_ hS1 hl)
  · obtain ⟨e9, hb⟩ := hb
    subst e9
    exact KX u q9 hp p e s m args below meth c H1 locs1 ls B (by rw [← ht]; exact hb) hS1 hl ⟨ce, hce, hcv, hcl⟩
  · rw [← ht]; exact hb
theorem x_cWr {S SY : Type} {post : S → Prop} {HPu : S → Nat → Heap → Prop} {py : SY → Prop} {EY : SY → String} {HY : SY → Nat → Heap → Prop} {y : MethodName} {cc1 : ByteArray} {nL1 : Nat} {rt1 : Option FieldType} {hh : List (Nat × Nat × Nat × Nat)} {rm1 : Room} {idx n9 : Nat} {b : Addr} {As rest : List Value} (hM : CTW l D cl tys y cc1 nL1 rt1 hh rm1 (.ref b :: As) HP (Qr post HPu A) py EY HY A) (hT : GoodIn lw_all (wsV own idx y.cls y (wsW_ y cc1 nL1 rt1 hh))) (hy : y.cls = y.cls ∧ y.cls ≠ "java/lang/invoke/MethodHandle" ∧ y.cls ≠ "java/lang/invoke/VarHandle" ∧ (parseMethodDescriptor y.desc).map (fun d => d.parameters.length) = some n9) (hn : As.length = n9) (hR : rm1.frames + 1 ≤ R.frames ∧ 8 + (nL1 + 11) + rm1.locals ≤ R.locals) (hf : k + rm1.cells ≤ R.cells ∧ n + rm1.slots ≤ R.slots) (hst : st = As.reverse ++ .ref b :: rest) (hcat : (rest.map fun v => v.category).sum ≤ 8) (hd : decode cc pc = .ok (.invokevirtual idx, 3)) (hNW : ∀ H m c, MX H m c → NEW A H) (hrecv : ∀ (s : State) (H : Heap), va_K D cl tys s → HP H → ∃ cell : Cell, H[b]? = some cell ∧ cell.vm.isStatics = false ∧ s.vm.findClass y.cls = some cell.cls) 
    (KX : ∀ (u : SY) (q : Nat), py u → XG l D cl tys cc nL rt own R A MX QF (HY u q) (k + rm1.cells) (n + rm1.slots) pc L rest (EY u) q)
    (K : ∀ (u : S) (ra : Nat), post u → GG l D cl tys cc nL rt own R A MX QF (HPu u ra) (k + rm1.cells) (n + rm1.slots) (pc + 3) L (.ref ra :: rest)) : GG l D cl tys cc nL rt own R A MX QF HP k n pc L st := by
  subst hst
  intro p e s m args below meth c H locs ls B hP hS hl
  refine vx_callr (vx_runVX (hh := hh) (As := As) (rest := rest) (b := b) ⟨B.1, B.2.1, B.2.2.1, B.2.2.2.2.2.1, B.2.2.2.2.2.2.1⟩ hM (vx_cwVW n9 B.2.2.2.2.2.2.1 hT rfl rfl rfl hy hR) ⟨fun a U g mk q => ⟨q.1, q.2.1, va_K.moved (u := U) (U := U.calling g mk a) (Vm.Alike.refl U.vm) q.2.2.1, VX.same (u := U) (U := U.calling g mk a) rfl q.2.2.2.1, q.2.2.2.2⟩, hrecv s H B.2.2.2.2.2.2.2.1 hP, fun U hU hW => ⟨rfl, by rw [hU]; exact hP, va_K.moved hW.alike B.2.2.2.2.2.2.2.1, B.2.2.2.2.2.2.2.2.2.go hS (fun _ h => h) hU hW, by rw [hU]; exact fun q hq => hNW _ _ _ B.2.2.2.2.2.2.2.2.1 q (Nat.le_trans hS.1 hq)⟩⟩ rfl hn hl.1 rfl (lv_room hcat) hd hf) hS (fun q _ h => h) (fun _ h => h) (fun q _ h => h) (fun E ce q9 u t H1 locs1 ht hvm hp hb hz hk1 hS1 hce hcv hcl => ?_) (fun u ra t H1 locs1 ht hvm hp hb hz hk1 hS1 => K u ra hp p e s m args below meth c H1 locs1 ls B ?_ hS1 hl)
  · obtain ⟨e9, hb⟩ := hb
    subst e9
    exact KX u q9 hp p e s m args below meth c H1 locs1 ls B (by rw [← ht]; exact hb) hS1 hl ⟨ce, hce, hcv, hcl⟩
  · rw [← ht]; exact hb
theorem x_cTi {S SY : Type} {post : Int32 → S → Prop} {HPu : S → Heap → Prop} {py : SY → Prop} {EY : SY → String} {HY : SY → Nat → Heap → Prop} {y : MethodName} {cc1 : ByteArray} {nL1 : Nat} {rt1 : Option FieldType} {hh : List (Nat × Nat × Nat × Nat)} {rm1 : Room} {idx n9 : Nat} {As rest : List Value} (hM : CTW l D cl tys y cc1 nL1 rt1 hh rm1 (As) HP (Qi post HPu A) py EY HY A) (hT : GoodIn lw_all (va_wsS own idx y (wsW_ y cc1 nL1 rt1 hh))) (hy : y.cls ≠ "java/lang/invoke/MethodHandle" ∧ y.cls ≠ "java/lang/invoke/VarHandle" ∧ (parseMethodDescriptor y.desc).map (fun d => d.parameters.length) = some n9) (hn : As.length = n9) (hR : rm1.frames + 1 ≤ R.frames ∧ 8 + (nL1 + 11) + rm1.locals ≤ R.locals) (hf : k + rm1.cells ≤ R.cells ∧ n + rm1.slots ≤ R.slots) (hst : st = As.reverse ++ rest) (hcat : (rest.map fun v => v.category).sum ≤ 8) (hd : decode cc pc = .ok (.invokestatic idx, 3)) (hNW : ∀ H m c, MX H m c → NEW A H) 
    (KX : ∀ (u : SY) (q : Nat), py u → XG l D cl tys cc nL rt own R A MX QF (HY u q) (k + rm1.cells) (n + rm1.slots) pc L rest (EY u) q)
    (K : ∀ (r : Int32) (u : S), post r u → GG l D cl tys cc nL rt own R A MX QF (HPu u) (k + rm1.cells) (n + rm1.slots) (pc + 3) L (.int r :: rest)) : GG l D cl tys cc nL rt own R A MX QF HP k n pc L st := by
  subst hst
  intro p e s m args below meth c H locs ls B hP hS hl
  refine vx_calli (vx_runSX (hh := hh) (As := As) (rest := rest) ⟨B.1, B.2.1, B.2.2.1, B.2.2.2.2.2.1, B.2.2.2.2.2.2.1⟩ hM (vx_cwSW n9 B.2.2.2.2.2.2.1 hT rfl rfl rfl hy hR) ⟨fun a U g mk q => ⟨q.1, q.2.1, va_K.moved (u := U) (U := U.calling g mk a) (Vm.Alike.refl U.vm) q.2.2.1, VX.same (u := U) (U := U.calling g mk a) rfl q.2.2.2.1, q.2.2.2.2⟩, fun U hU hW => ⟨rfl, by rw [hU]; exact hP, va_K.moved hW.alike B.2.2.2.2.2.2.2.1, B.2.2.2.2.2.2.2.2.2.go hS (fun _ h => h) hU hW, by rw [hU]; exact fun q hq => hNW _ _ _ B.2.2.2.2.2.2.2.2.1 q (Nat.le_trans hS.1 hq)⟩⟩ rfl hn hl.1 rfl (lv_room hcat) hd hf) hS (fun q _ h => h) (fun _ h => h) (fun q _ h => h) (fun E ce q9 u t H1 locs1 ht hvm hp hb hz hk1 hS1 hce hcv hcl => ?_) (fun r u t H1 locs1 ht hvm hp hb hz hk1 hS1 => K r u hp p e s m args below meth c H1 locs1 ls B ?_ hS1 hl)
  · obtain ⟨e9, hb⟩ := hb
    subst e9
    exact KX u q9 hp p e s m args below meth c H1 locs1 ls B (by rw [← ht]; exact hb) hS1 hl ⟨ce, hce, hcv, hcl⟩
  · rw [← ht]; exact hb
theorem x_cTl {S SY : Type} {post : Int64 → S → Prop} {HPu : S → Heap → Prop} {py : SY → Prop} {EY : SY → String} {HY : SY → Nat → Heap → Prop} {y : MethodName} {cc1 : ByteArray} {nL1 : Nat} {rt1 : Option FieldType} {hh : List (Nat × Nat × Nat × Nat)} {rm1 : Room} {idx n9 : Nat} {As rest : List Value} (hM : CTW l D cl tys y cc1 nL1 rt1 hh rm1 (As) HP (Ql post HPu A) py EY HY A) (hT : GoodIn lw_all (va_wsS own idx y (wsW_ y cc1 nL1 rt1 hh))) (hy : y.cls ≠ "java/lang/invoke/MethodHandle" ∧ y.cls ≠ "java/lang/invoke/VarHandle" ∧ (parseMethodDescriptor y.desc).map (fun d => d.parameters.length) = some n9) (hn : As.length = n9) (hR : rm1.frames + 1 ≤ R.frames ∧ 8 + (nL1 + 11) + rm1.locals ≤ R.locals) (hf : k + rm1.cells ≤ R.cells ∧ n + rm1.slots ≤ R.slots) (hst : st = As.reverse ++ rest) (hcat : (rest.map fun v => v.category).sum ≤ 8) (hd : decode cc pc = .ok (.invokestatic idx, 3)) (hNW : ∀ H m c, MX H m c → NEW A H) 
    (KX : ∀ (u : SY) (q : Nat), py u → XG l D cl tys cc nL rt own R A MX QF (HY u q) (k + rm1.cells) (n + rm1.slots) pc L rest (EY u) q)
    (K : ∀ (r : Int64) (u : S), post r u → GG l D cl tys cc nL rt own R A MX QF (HPu u) (k + rm1.cells) (n + rm1.slots) (pc + 3) L (.long r :: rest)) : GG l D cl tys cc nL rt own R A MX QF HP k n pc L st := by
  subst hst
  intro p e s m args below meth c H locs ls B hP hS hl
  refine vx_calll (vx_runSX (hh := hh) (As := As) (rest := rest) ⟨B.1, B.2.1, B.2.2.1, B.2.2.2.2.2.1, B.2.2.2.2.2.2.1⟩ hM (vx_cwSW n9 B.2.2.2.2.2.2.1 hT rfl rfl rfl hy hR) ⟨fun a U g mk q => ⟨q.1, q.2.1, va_K.moved (u := U) (U := U.calling g mk a) (Vm.Alike.refl U.vm) q.2.2.1, VX.same (u := U) (U := U.calling g mk a) rfl q.2.2.2.1, q.2.2.2.2⟩, fun U hU hW => ⟨rfl, by rw [hU]; exact hP, va_K.moved hW.alike B.2.2.2.2.2.2.2.1, B.2.2.2.2.2.2.2.2.2.go hS (fun _ h => h) hU hW, by rw [hU]; exact fun q hq => hNW _ _ _ B.2.2.2.2.2.2.2.2.1 q (Nat.le_trans hS.1 hq)⟩⟩ rfl hn hl.1 rfl (lv_room hcat) hd hf) hS (fun q _ h => h) (fun _ h => h) (fun q _ h => h) (fun E ce q9 u t H1 locs1 ht hvm hp hb hz hk1 hS1 hce hcv hcl => ?_) (fun r u t H1 locs1 ht hvm hp hb hz hk1 hS1 => K r u hp p e s m args below meth c H1 locs1 ls B ?_ hS1 hl)
  · obtain ⟨e9, hb⟩ := hb
    subst e9
    exact KX u q9 hp p e s m args below meth c H1 locs1 ls B (by rw [← ht]; exact hb) hS1 hl ⟨ce, hce, hcv, hcl⟩
  · rw [← ht]; exact hb
theorem x_cTv {S SY : Type} {post : S → Prop} {HPu : S → Heap → Prop} {py : SY → Prop} {EY : SY → String} {HY : SY → Nat → Heap → Prop} {y : MethodName} {cc1 : ByteArray} {nL1 : Nat} {rt1 : Option FieldType} {hh : List (Nat × Nat × Nat × Nat)} {rm1 : Room} {idx n9 : Nat} {As rest : List Value} (hM : CTW l D cl tys y cc1 nL1 rt1 hh rm1 (As) HP (Qv post HPu A) py EY HY A) (hT : GoodIn lw_all (va_wsS own idx y (wsW_ y cc1 nL1 rt1 hh))) (hy : y.cls ≠ "java/lang/invoke/MethodHandle" ∧ y.cls ≠ "java/lang/invoke/VarHandle" ∧ (parseMethodDescriptor y.desc).map (fun d => d.parameters.length) = some n9) (hn : As.length = n9) (hR : rm1.frames + 1 ≤ R.frames ∧ 8 + (nL1 + 11) + rm1.locals ≤ R.locals) (hf : k + rm1.cells ≤ R.cells ∧ n + rm1.slots ≤ R.slots) (hst : st = As.reverse ++ rest) (hcat : (rest.map fun v => v.category).sum ≤ 8) (hd : decode cc pc = .ok (.invokestatic idx, 3)) (hNW : ∀ H m c, MX H m c → NEW A H) 
    (KX : ∀ (u : SY) (q : Nat), py u → XG l D cl tys cc nL rt own R A MX QF (HY u q) (k + rm1.cells) (n + rm1.slots) pc L rest (EY u) q)
    (K : ∀ (u : S), post u → GG l D cl tys cc nL rt own R A MX QF (HPu u) (k + rm1.cells) (n + rm1.slots) (pc + 3) L (rest)) : GG l D cl tys cc nL rt own R A MX QF HP k n pc L st := by
  subst hst
  intro p e s m args below meth c H locs ls B hP hS hl
  refine vx_callv (vx_runSX (hh := hh) (As := As) (rest := rest) ⟨B.1, B.2.1, B.2.2.1, B.2.2.2.2.2.1, B.2.2.2.2.2.2.1⟩ hM (vx_cwSW n9 B.2.2.2.2.2.2.1 hT rfl rfl rfl hy hR) ⟨fun a U g mk q => ⟨q.1, q.2.1, va_K.moved (u := U) (U := U.calling g mk a) (Vm.Alike.refl U.vm) q.2.2.1, VX.same (u := U) (U := U.calling g mk a) rfl q.2.2.2.1, q.2.2.2.2⟩, fun U hU hW => ⟨rfl, by rw [hU]; exact hP, va_K.moved hW.alike B.2.2.2.2.2.2.2.1, B.2.2.2.2.2.2.2.2.2.go hS (fun _ h => h) hU hW, by rw [hU]; exact fun q hq => hNW _ _ _ B.2.2.2.2.2.2.2.2.1 q (Nat.le_trans hS.1 hq)⟩⟩ rfl hn hl.1 rfl (lv_room hcat) hd hf) hS (fun q _ h => h) (fun _ h => h) (fun q _ h => h) (fun E ce q9 u t H1 locs1 ht hvm hp hb hz hk1 hS1 hce hcv hcl => ?_) (fun u t H1 locs1 ht hvm hp hb hz hk1 hS1 => K u hp p e s m args below meth c H1 locs1 ls B ?_ hS1 hl)
  · obtain ⟨e9, hb⟩ := hb
    subst e9
    exact KX u q9 hp p e s m args below meth c H1 locs1 ls B (by rw [← ht]; exact hb) hS1 hl ⟨ce, hce, hcv, hcl⟩
  · rw [← ht]; exact hb
theorem x_cTr {S SY : Type} {post : S → Prop} {HPu : S → Nat → Heap → Prop} {py : SY → Prop} {EY : SY → String} {HY : SY → Nat → Heap → Prop} {y : MethodName} {cc1 : ByteArray} {nL1 : Nat} {rt1 : Option FieldType} {hh : List (Nat × Nat × Nat × Nat)} {rm1 : Room} {idx n9 : Nat} {As rest : List Value} (hM : CTW l D cl tys y cc1 nL1 rt1 hh rm1 (As) HP (Qr post HPu A) py EY HY A) (hT : GoodIn lw_all (va_wsS own idx y (wsW_ y cc1 nL1 rt1 hh))) (hy : y.cls ≠ "java/lang/invoke/MethodHandle" ∧ y.cls ≠ "java/lang/invoke/VarHandle" ∧ (parseMethodDescriptor y.desc).map (fun d => d.parameters.length) = some n9) (hn : As.length = n9) (hR : rm1.frames + 1 ≤ R.frames ∧ 8 + (nL1 + 11) + rm1.locals ≤ R.locals) (hf : k + rm1.cells ≤ R.cells ∧ n + rm1.slots ≤ R.slots) (hst : st = As.reverse ++ rest) (hcat : (rest.map fun v => v.category).sum ≤ 8) (hd : decode cc pc = .ok (.invokestatic idx, 3)) (hNW : ∀ H m c, MX H m c → NEW A H) 
    (KX : ∀ (u : SY) (q : Nat), py u → XG l D cl tys cc nL rt own R A MX QF (HY u q) (k + rm1.cells) (n + rm1.slots) pc L rest (EY u) q)
    (K : ∀ (u : S) (ra : Nat), post u → GG l D cl tys cc nL rt own R A MX QF (HPu u ra) (k + rm1.cells) (n + rm1.slots) (pc + 3) L (.ref ra :: rest)) : GG l D cl tys cc nL rt own R A MX QF HP k n pc L st := by
  subst hst
  intro p e s m args below meth c H locs ls B hP hS hl
  refine vx_callr (vx_runSX (hh := hh) (As := As) (rest := rest) ⟨B.1, B.2.1, B.2.2.1, B.2.2.2.2.2.1, B.2.2.2.2.2.2.1⟩ hM (vx_cwSW n9 B.2.2.2.2.2.2.1 hT rfl rfl rfl hy hR) ⟨fun a U g mk q => ⟨q.1, q.2.1, va_K.moved (u := U) (U := U.calling g mk a) (Vm.Alike.refl U.vm) q.2.2.1, VX.same (u := U) (U := U.calling g mk a) rfl q.2.2.2.1, q.2.2.2.2⟩, fun U hU hW => ⟨rfl, by rw [hU]; exact hP, va_K.moved hW.alike B.2.2.2.2.2.2.2.1, B.2.2.2.2.2.2.2.2.2.go hS (fun _ h => h) hU hW, by rw [hU]; exact fun q hq => hNW _ _ _ B.2.2.2.2.2.2.2.2.1 q (Nat.le_trans hS.1 hq)⟩⟩ rfl hn hl.1 rfl (lv_room hcat) hd hf) hS (fun q _ h => h) (fun _ h => h) (fun q _ h => h) (fun E ce q9 u t H1 locs1 ht hvm hp hb hz hk1 hS1 hce hcv hcl => ?_) (fun u ra t H1 locs1 ht hvm hp hb hz hk1 hS1 => K u ra hp p e s m args below meth c H1 locs1 ls B ?_ hS1 hl)
  · obtain ⟨e9, hb⟩ := hb
    subst e9
    exact KX u q9 hp p e s m args below meth c H1 locs1 ls B (by rw [← ht]; exact hb) hS1 hl ⟨ce, hce, hcv, hcl⟩
  · rw [← ht]; exact hb
theorem x_cVo {S SY : Type} {post : S → Prop} {HPu : S → Heap → Prop} {o : S → Nat} {py : SY → Prop} {EY : SY → String} {HY : SY → Nat → Heap → Prop} {y : MethodName} {cc1 : ByteArray} {nL1 : Nat} {rt1 : Option FieldType} {rm1 : Room} {idx n9 : Nat} {b : Addr} {As rest : List Value} (hM : CTB l D cl tys y cc1 nL1 rt1 rm1 (.ref b :: As) HP (Qo post HPu o A) py EY HY A) (hT : GoodIn lw_all (wsV own idx y.cls y (ws_ y cc1 nL1 rt1))) (hy : y.cls = y.cls ∧ y.cls ≠ "java/lang/invoke/MethodHandle" ∧ y.cls ≠ "java/lang/invoke/VarHandle" ∧ (parseMethodDescriptor y.desc).map (fun d => d.parameters.length) = some n9) (hn : As.length = n9) (hR : rm1.frames + 1 ≤ R.frames ∧ 8 + (nL1 + 11) + rm1.locals ≤ R.locals) (hf : k + rm1.cells ≤ R.cells ∧ n + rm1.slots ≤ R.slots) (hst : st = As.reverse ++ .ref b :: rest) (hcat : (rest.map fun v => v.category).sum ≤ 8) (hd : decode cc pc = .ok (.invokevirtual idx, 3)) (hNW : ∀ H m c, MX H m c → NEW A H) (hrecv : ∀ (s : State) (H : Heap), va_K D cl tys s → HP H → ∃ cell : Cell, H[b]? = some cell ∧ cell.vm.isStatics = false ∧ s.vm.findClass y.cls = some cell.cls) 
    (KX : ∀ (u : SY) (q : Nat), py u → XG l D cl tys cc nL rt own R A MX QF (HY u q) (k + rm1.cells) (n + rm1.slots) pc L rest (EY u) q)
    (K : ∀ (u : S), post u → GG l D cl tys cc nL rt own R A MX QF (HPu u) (k + rm1.cells) (n + rm1.slots) (pc + 3) L (.ref (o u) :: rest)) : GG l D cl tys cc nL rt own R A MX QF HP k n pc L st :=
  x_cVr hM hT hy hn hR hf hst hcat hd hNW hrecv KX (fun u ra hp => GG.fact (fun H h => h.1) (fun e => by subst e; exact GG.mono (K u hp) (fun H h => h.2)))
theorem x_cSo {S SY : Type} {post : S → Prop} {HPu : S → Heap → Prop} {o : S → Nat} {py : SY → Prop} {EY : SY → String} {HY : SY → Nat → Heap → Prop} {y : MethodName} {cc1 : ByteArray} {nL1 : Nat} {rt1 : Option FieldType} {rm1 : Room} {idx n9 : Nat} {As rest : List Value} (hM : CTB l D cl tys y cc1 nL1 rt1 rm1 (As) HP (Qo post HPu o A) py EY HY A) (hT : GoodIn lw_all (va_wsS own idx y (ws_ y cc1 nL1 rt1))) (hy : y.cls ≠ "java/lang/invoke/MethodHandle" ∧ y.cls ≠ "java/lang/invoke/VarHandle" ∧ (parseMethodDescriptor y.desc).map (fun d => d.parameters.length) = some n9) (hn : As.length = n9) (hR : rm1.frames + 1 ≤ R.frames ∧ 8 + (nL1 + 11) + rm1.locals ≤ R.locals) (hf : k + rm1.cells ≤ R.cells ∧ n + rm1.slots ≤ R.slots) (hst : st = As.reverse ++ rest) (hcat : (rest.map fun v => v.category).sum ≤ 8) (hd : decode cc pc = .ok (.invokestatic idx, 3)) (hNW : ∀ H m c, MX H m c → NEW A H) 
    (KX : ∀ (u : SY) (q : Nat), py u → XG l D cl tys cc nL rt own R A MX QF (HY u q) (k + rm1.cells) (n + rm1.slots) pc L rest (EY u) q)
    (K : ∀ (u : S), post u → GG l D cl tys cc nL rt own R A MX QF (HPu u) (k + rm1.cells) (n + rm1.slots) (pc + 3) L (.ref (o u) :: rest)) : GG l D cl tys cc nL rt own R A MX QF HP k n pc L st :=
  x_cSr hM hT hy hn hR hf hst hcat hd hNW KX (fun u ra hp => GG.fact (fun H h => h.1) (fun e => by subst e; exact GG.mono (K u hp) (fun H h => h.2)))
theorem x_cWo {S SY : Type} {post : S → Prop} {HPu : S → Heap → Prop} {o : S → Nat} {py : SY → Prop} {EY : SY → String} {HY : SY → Nat → Heap → Prop} {y : MethodName} {cc1 : ByteArray} {nL1 : Nat} {rt1 : Option FieldType} {hh : List (Nat × Nat × Nat × Nat)} {rm1 : Room} {idx n9 : Nat} {b : Addr} {As rest : List Value} (hM : CTW l D cl tys y cc1 nL1 rt1 hh rm1 (.ref b :: As) HP (Qo post HPu o A) py EY HY A) (hT : GoodIn lw_all (wsV own idx y.cls y (wsW_ y cc1 nL1 rt1 hh))) (hy : y.cls = y.cls ∧ y.cls ≠ "java/lang/invoke/MethodHandle" ∧ y.cls ≠ "java/lang/invoke/VarHandle" ∧ (parseMethodDescriptor y.desc).map (fun d => d.parameters.length) = some n9) (hn : As.length = n9) (hR : rm1.frames + 1 ≤ R.frames ∧ 8 + (nL1 + 11) + rm1.locals ≤ R.locals) (hf : k + rm1.cells ≤ R.cells ∧ n + rm1.slots ≤ R.slots) (hst : st = As.reverse ++ .ref b :: rest) (hcat : (rest.map fun v => v.category).sum ≤ 8) (hd : decode cc pc = .ok (.invokevirtual idx, 3)) (hNW : ∀ H m c, MX H m c → NEW A H) (hrecv : ∀ (s : State) (H : Heap), va_K D cl tys s → HP H → ∃ cell : Cell, H[b]? = some cell ∧ cell.vm.isStatics = false ∧ s.vm.findClass y.cls = some cell.cls) 
    (KX : ∀ (u : SY) (q : Nat), py u → XG l D cl tys cc nL rt own R A MX QF (HY u q) (k + rm1.cells) (n + rm1.slots) pc L rest (EY u) q)
    (K : ∀ (u : S), post u → GG l D cl tys cc nL rt own R A MX QF (HPu u) (k + rm1.cells) (n + rm1.slots) (pc + 3) L (.ref (o u) :: rest)) : GG l D cl tys cc nL rt own R A MX QF HP k n pc L st :=
  x_cWr hM hT hy hn hR hf hst hcat hd hNW hrecv KX (fun u ra hp => GG.fact (fun H h => h.1) (fun e => by subst e; exact GG.mono (K u hp) (fun H h => h.2)))
theorem x_cTo {S SY : Type} {post : S → Prop} {HPu : S → Heap → Prop} {o : S → Nat} {py : SY → Prop} {EY : SY → String} {HY : SY → Nat → Heap → Prop} {y : MethodName} {cc1 : ByteArray} {nL1 : Nat} {rt1 : Option FieldType} {hh : List (Nat × Nat × Nat × Nat)} {rm1 : Room} {idx n9 : Nat} {As rest : List Value} (hM : CTW l D cl tys y cc1 nL1 rt1 hh rm1 (As) HP (Qo post HPu o A) py EY HY A) (hT : GoodIn lw_all (va_wsS own idx y (wsW_ y cc1 nL1 rt1 hh))) (hy : y.cls ≠ "java/lang/invoke/MethodHandle" ∧ y.cls ≠ "java/lang/invoke/VarHandle" ∧ (parseMethodDescriptor y.desc).map (fun d => d.parameters.length) = some n9) (hn : As.length = n9) (hR : rm1.frames + 1 ≤ R.frames ∧ 8 + (nL1 + 11) + rm1.locals ≤ R.locals) (hf : k + rm1.cells ≤ R.cells ∧ n + rm1.slots ≤ R.slots) (hst : st = As.reverse ++ rest) (hcat : (rest.map fun v => v.category).sum ≤ 8) (hd : decode cc pc = .ok (.invokestatic idx, 3)) (hNW : ∀ H m c, MX H m c → NEW A H) 
    (KX : ∀ (u : SY) (q : Nat), py u → XG l D cl tys cc nL rt own R A MX QF (HY u q) (k + rm1.cells) (n + rm1.slots) pc L rest (EY u) q)
    (K : ∀ (u : S), post u → GG l D cl tys cc nL rt own R A MX QF (HPu u) (k + rm1.cells) (n + rm1.slots) (pc + 3) L (.ref (o u) :: rest)) : GG l D cl tys cc nL rt own R A MX QF HP k n pc L st :=
  x_cTr hM hT hy hn hR hf hst hcat hd hNW KX (fun u ra hp => GG.fact (fun H h => h.1) (fun e => by subst e; exact GG.mono (K u hp) (fun H h => h.2)))
end VXrows
