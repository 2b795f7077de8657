/-! THE BASE LAYER. GG: from any state of the method's frame whose heap has HP, at pc, with locals L and stack st, the method comes to its end as QF says. -/
set_option maxRecDepth 100000
def bI (b : Bool) : Int32 := if b = true then 1 else 0
theorem bI_t : bI true = 1 := rfl
theorem bI_f : bI false = 0 := rfl
theorem bI_eq0 {b : Bool} : bI b = 0 ↔ b = false := by cases b <;> decide
theorem bI_n {b : Bool} : bI b = nI (if b = true then 1 else 0) := by cases b <;> rfl
/-- words of the tables that don't ride in the lists -/
def nestW : Cond → Bool
  | .methodLinkNest .. => true
  | .fieldLinkNest .. => true
  | .castable .. => true
  | .declares .. => true
  | .arrayOver .. => true
  | .privateMethod .. => true
  | _ => false
theorem ao_moved {ty : FieldType} {u U : State} (hvm : u.vm.Alike U.vm) (h : va_Nw (.arrayOver ty) u) : va_Nw (.arrayOver ty) U := by
  cases ty with
  | object C => exact va_AO.moved hvm h
  | array t =>
    unfold va_Nw Cond.before Cond.holds at h ⊢
    simp only [Cond.value, beq_iff_eq, Option.bind_eq_some_iff, Option.map_eq_some_iff] at h ⊢
    obtain ⟨comp, h1, c, h2, k, h3, h4⟩ := h
    obtain ⟨k2, hk2, he⟩ := hvm.2.2 _ _ h3
    have e9 : U.vm.bare = u.vm.bare := by first | exact hvm.bare_eq | exact hvm.bare_eq.symm
    refine ⟨comp, by rw [hvm.findClass]; exact h1, c, ?_, k2, hk2, ?_⟩
    · exact ((va_idx_bare U.vm comp).symm.trans ((congrArg (fun (v : Vm) => v.classes.findIdx? fun (x : Class) => match x.kind with | .array component _ => component == comp | _ => false) e9).trans (va_idx_bare u.vm comp))).trans h2
    · rw [he, hvm.findClass]; exact h4
  | _ => exact absurd h (by simp [va_Nw, Cond.before, Cond.holds, Cond.value])
theorem ao_warm {ty : FieldType} {u U : State} (hW : u.WarmedH U.vm) (h : va_Nw (.arrayOver ty) u) : va_Nw (.arrayOver ty) U := ao_moved hW.alike h
theorem ao_same {ty : FieldType} {u U : State} (hv : u.vm = U.vm) (h : va_Nw (.arrayOver ty) u) : va_Nw (.arrayOver ty) U := ao_moved (by rw [hv]; exact Vm.Alike.refl _) h
theorem va_Nw.warmP {x : MethodName} {s U : State} (hW : s.WarmedH U.vm) (hZ : va_Nw (.privateMethod x) s) : va_Nw (.privateMethod x) U := va_tabs rfl (rfl : (s.setVm U.vm).vm = U.vm) (by rw [Cond.privateMethod_setVm hW.alike]; exact hZ)
theorem nest_same {w : Cond} {u U : State} (h : nestW w = true) (hv : u.vm = U.vm) (hz : va_Nw w u) : va_Nw w U := by
  cases w <;> first | (exact absurd h Bool.false_ne_true) | (exact ao_same hv hz) | (exact va_Nw.same rfl hv hz)
theorem nest_warm {w : Cond} {s U : State} (h : nestW w = true) (hW : s.WarmedH U.vm) (hz : va_Nw w s) : va_Nw w U := by
  cases w <;> first | (exact absurd h Bool.false_ne_true) | (exact va_Nw.warmM hW hz) | (exact va_Nw.warmF hW hz) | (exact va_Nw.warmC hW hz) | (exact va_Nw.warmD hW hz) | (exact va_Nw.warmP hW hz) | (exact ao_warm hW hz)
/-- the constant texts: owner, place, text, length, letters; they lie at D.2 1000 i (letters: D.2 1001 i) -/
def strT : List (String × Nat × String × Nat × List Int32) := [
  ("TwoSlips$Reader", 148, "numbers", 7, [110, 117, 109, 98, 101, 114, 115]),
  ("TwoSlips$Reader", 99, "to", 2, [116, 111]),
  ("TwoSlips$Reader", 152, "speaker", 7, [115, 112, 101, 97, 107, 101, 114]),
  ("TwoSlips$Reader", 94, " sum product greater less difference squares odd digit nothing ", 63, [32, 115, 117, 109, 32, 112, 114, 111, 100, 117, 99, 116, 32, 103, 114, 101, 97, 116, 101, 114, 32, 108, 101, 115, 115, 32, 100, 105, 102, 102, 101, 114, 101, 110, 99, 101, 32, 115, 113, 117, 97, 114, 101, 115, 32, 111, 100, 100, 32, 100, 105, 103, 105, 116, 32, 110, 111, 116, 104, 105, 110, 103, 32]),
  ("TwoSlips$Reader", 118, "liar", 4, [108, 105, 97, 114]),
  ("TwoSlips$Reader", 124, "deaf", 4, [100, 101, 97, 102]),
  ("TwoSlips$Reader", 156, "say", 3, [115, 97, 121]),
  ("TwoSlips$Reader", 199, "not", 3, [110, 111, 116]),
  ("TwoSlips$Reader", 206, "knows", 5, [107, 110, 111, 119, 115]),
  ("TwoSlips$Reader", 211, "sees", 4, [115, 101, 101, 115]),
  ("TwoSlips$Reader", 216, "was", 3, [119, 97, 115]),
  ("TwoSlips$Reader", 221, "even", 4, [101, 118, 101, 110]),
  ("TwoSlips$Reader", 226, "same", 4, [115, 97, 109, 101]),
  ("TwoSlips$Reader", 231, "above", 5, [97, 98, 111, 118, 101]),
  ("TwoSlips$Reader", 185, "and", 3, [97, 110, 100]),
  ("TwoSlips$Reader", 175, "or", 2, [111, 114]),
  ("TwoSlips$Reader", 160, "most", 4, [109, 111, 115, 116]),
  ("TwoSlips$Reader", 164, "unlike", 6, [117, 110, 108, 105, 107, 101]),
  ("TwoSlipsModel", 220, "numbers", 7, [110, 117, 109, 98, 101, 114, 115]),
  ("TwoSlipsModel", 221, "to", 2, [116, 111]),
  ("TwoSlipsModel", 223, "most", 4, [109, 111, 115, 116]),
  ("TwoSlipsModel", 225, "unlike", 6, [117, 110, 108, 105, 107, 101]),
  ("TwoSlipsModel", 227, "speaker", 7, [115, 112, 101, 97, 107, 101, 114]),
  ("TwoSlipsModel", 195, "sum", 3, [115, 117, 109]),
  ("TwoSlipsModel", 197, "product", 7, [112, 114, 111, 100, 117, 99, 116]),
  ("TwoSlipsModel", 199, "greater", 7, [103, 114, 101, 97, 116, 101, 114]),
  ("TwoSlipsModel", 201, "less", 4, [108, 101, 115, 115]),
  ("TwoSlipsModel", 203, "difference", 10, [100, 105, 102, 102, 101, 114, 101, 110, 99, 101]),
  ("TwoSlipsModel", 205, "squares", 7, [115, 113, 117, 97, 114, 101, 115]),
  ("TwoSlipsModel", 207, "odd", 3, [111, 100, 100]),
  ("TwoSlipsModel", 209, "digit", 5, [100, 105, 103, 105, 116]),
  ("TwoSlipsModel", 211, "nothing", 7, [110, 111, 116, 104, 105, 110, 103]),
  ("TwoSlipsModel", 216, "liar", 4, [108, 105, 97, 114]),
  ("TwoSlipsModel", 218, "deaf", 4, [100, 101, 97, 102]),
  ("TwoSlipsModel", 232, "say", 3, [115, 97, 121]),
  ("TwoSlipsModel", 153, "not", 3, [110, 111, 116]),
  ("TwoSlipsModel", 165, "knows", 5, [107, 110, 111, 119, 115]),
  ("TwoSlipsModel", 173, "sees", 4, [115, 101, 101, 115]),
  ("TwoSlipsModel", 175, "was", 3, [119, 97, 115]),
  ("TwoSlipsModel", 177, "even", 4, [101, 118, 101, 110]),
  ("TwoSlipsModel", 179, "same", 4, [115, 97, 109, 101]),
  ("TwoSlipsModel", 181, "above", 5, [97, 98, 111, 118, 101]),
  ("TwoSlipsModel", 187, "or", 2, [111, 114]),
  ("TwoSlipsModel", 189, "and", 3, [97, 110, 100])]
/-- static fields: class, name, type -/
def staT (D : va_G) : List (String × String × String × Value) := [("java/lang/String", "COMPACT_STRINGS", "Z", .int 1), ("java/util/ArrayList", "DEFAULTCAPACITY_EMPTY_ELEMENTDATA", "[Ljava/lang/Object;", .ref (D.2 1002 2))]
/-- statics of which only 'a reference or null' is said -/
def staQ : List (String × String × String) := [("jdk/internal/util/Preconditions", "SIOOBE_FORMATTER", "Ljava/util/function/BiFunction;"), ("java/lang/Throwable", "UNASSIGNED_STACK", "[Ljava/lang/StackTraceElement;"), ("java/lang/Throwable", "SUPPRESSED_SENTINEL", "Ljava/util/List;")]
/-- pairs of classes that aren't castable: exceptions and what handlers name, the trays' arrays -/
def ncE : List String := ["java/lang/IllegalArgumentException", "java/lang/IllegalStateException", "java/util/NoSuchElementException", "java/lang/IndexOutOfBoundsException", "java/lang/ArrayIndexOutOfBoundsException", "java/lang/NullPointerException", "java/lang/NegativeArraySizeException", "TwoSlips$Bad"]
def ncT : List (String × String) := (ncE.flatMap fun a => ncE.filterMap fun b => if a = b ∨ (a = "java/lang/ArrayIndexOutOfBoundsException" ∧ b = "java/lang/IndexOutOfBoundsException") then none else some (a, b)) ++ [("[S", "[B"), ("[I", "[B"), ("[I", "[S"), ("[J", "[B"), ("[J", "[S"), ("[J", "[I")]
def VY (D : va_G) (A : Nat → Prop) (U : State) (H : Heap) : Prop :=
  (∀ (i : Nat) (q : String × String × String), staQ[i]? = some q → vx_Zq q.1 q.2.1 q.2.2 A U H) ∧ (∀ q ∈ ncT, va_Nc q.1 q.2 U) ∧ va_Mi "[Ljava/lang/Object;" (D.2 1002 5) U ∧ va_T (.object "java/lang/Object") (D.2 1002 2) 0 (fun _ => .null) A U H
theorem VY.moved {D : va_G} {A : Nat → Prop} {u U : State} {H : Heap} (hvm : u.vm.Alike U.vm) (h : VY D A u H) : VY D A U H :=
  ⟨fun i q hq => vx_Zq.moved hvm (h.1 i q hq), fun q hq => va_Nc.moved hvm (h.2.1 q hq), va_Mi.moved hvm h.2.2.1, va_T.moved hvm h.2.2.2⟩
theorem VY.kept {D : va_G} {A : Nat → Prop} {U : State} {H H1 : Heap} (h : VY D A U H) (hq : ∀ a : Nat, a < H.size → ¬ A a → H1[a]? = H[a]?) : VY D A U H1 :=
  ⟨fun i q hi => (h.1 i q hi).kept hq, h.2.1, h.2.2.1, h.2.2.2.kept hq⟩
theorem VY.narrow {D : va_G} {A B : Nat → Prop} {U : State} {H : Heap} (h : VY D A U H) (hAB : ∀ q, B q → A q) : VY D B U H :=
  ⟨fun i q hi => (h.1 i q hi).narrow hAB, h.2.1, h.2.2.1, h.2.2.2.narrow hAB⟩
/-- what stands outside of the written cells all through: words, texts, statics -/
def VX (D : va_G) (A : Nat → Prop) (U : State) (H : Heap) : Prop :=
  (∀ w ∈ lw_tbl, nestW w = true → va_Nw w U) ∧
  (∀ (i : Nat) (q : String × Nat × String × Nat × List Int32), strT[i]? = some q → vk_R q.1 q.2.1 q.2.2.1 (D.2 1000 i) U ∧ vk_S 1 [q.2.2.2.1] [q.2.2.2.2] (fun _ => D.2 1000 i) (fun _ => D.2 1001 i) A U H) ∧
  (∀ (i : Nat) (q : String × String × String × Value), (staT D)[i]? = some q → va_Z q.1 q.2.1 q.2.2.1 q.2.2.2 A U H) ∧ VY D A U H
theorem VX.same {D : va_G} {A : Nat → Prop} {u U : State} {H : Heap} (hv : u.vm = U.vm) (h : VX D A u H) : VX D A U H :=
  ⟨fun w hw hn => nest_same hn hv (h.1 w hw hn), fun i q hq => ⟨vk_R.same hv.symm (h.2.1 i q hq).1, vk_S.moved (by rw [hv]; exact Vm.Alike.refl _) (h.2.1 i q hq).2⟩, fun i q hq => va_Z.moved (by rw [hv]; exact Vm.Alike.refl _) (h.2.2.1 i q hq), h.2.2.2.moved (by rw [hv]; exact Vm.Alike.refl _)⟩
theorem VX.warm {D : va_G} {A : Nat → Prop} {s U : State} {H : Heap} (hW : s.WarmedH U.vm) (h : VX D A s H) : VX D A U H :=
  ⟨fun w hw hn => nest_warm hn hW (h.1 w hw hn), fun i q hq => ⟨vk_R.warm hW (h.2.1 i q hq).1, vk_S.moved hW.alike (h.2.1 i q hq).2⟩, fun i q hq => va_Z.moved hW.alike (h.2.2.1 i q hq), h.2.2.2.moved hW.alike⟩
theorem VX.kept {D : va_G} {A : Nat → Prop} {U : State} {H H1 : Heap} (h : VX D A U H) (hq : ∀ a : Nat, a < H.size → ¬ A a → H1[a]? = H[a]?) : VX D A U H1 :=
  ⟨h.1, fun i q hi => ⟨(h.2.1 i q hi).1, (h.2.1 i q hi).2.kept hq⟩, fun i q hi => (h.2.2.1 i q hi).kept hq, h.2.2.2.kept hq⟩
theorem VX.narrow {D : va_G} {A B : Nat → Prop} {U : State} {H : Heap} (h : VX D A U H) (hAB : ∀ q, B q → A q) : VX D B U H :=
  ⟨h.1, fun i q hi => ⟨(h.2.1 i q hi).1, (h.2.1 i q hi).2.narrow hAB⟩, fun i q hi => (h.2.2.1 i q hi).narrow hAB, h.2.2.2.narrow hAB⟩
/-- at a call -/
theorem VX.go {D : va_G} {A B : Nat → Prop} {s U : State} {H : Heap} {locs : List Loc} (h : VX D A s s.heap) (hS : va_S A s.heap H locs) (hAB : ∀ q, B q → A q) (hU : U.heap = H) (hW : s.WarmedH U.vm) : VX D B U U.heap := by
  rw [hU]; exact ((h.kept hS.2.1).narrow hAB).warm hW
def Bs (D : va_G) (cl : List vw_C) (tys : List (ClassId × FieldType)) (cc : ByteArray) (nL : Nat) (rt : Option FieldType) (own : String) (A : Nat → Prop) (MX : Heap → Method → Code → Prop) (p : Program) (s : State) (m : MethodId) (args : Array Value) (meth : Method) (c : Code) : Prop :=
  p.tables.exec = Jvm.exec ∧ c.code = cc ∧ c.maxLocals = nL ∧ meth.sig.returnType = rt ∧ meth.locks = false ∧ s.vm.findClass own = some m.cls ∧ (∀ w ∈ lw_all, w.before args s = true) ∧ va_K D cl tys s ∧ MX s.heap meth c ∧ VX D A s s.heap
def GG (l : Launch) (D : va_G) (cl : List vw_C) (tys : List (ClassId × FieldType)) (cc : ByteArray) (nL : Nat) (rt : Option FieldType) (own : String) (R : Room) (A : Nat → Prop) (MX : Heap → Method → Code → Prop) (QF : List Frame → Array Value → State → State → Prop) (HP : Heap → Prop) (k n : Nat) (pc : Nat) (L : List (Nat × Value)) (st : List Value) : Prop :=
  ∀ (p : Program) (e : Env) (s : State) (m : MethodId) (args : Array Value) (below : List Frame) (meth : Method) (c : Code) (H : Heap) (locs : List Loc) (ls : Array Slot),
    Bs D cl tys cc nL rt own A MX p s m args meth c → HP H → va_S A s.heap H locs → lv_has ls nL L →
    W p l e R s m args below meth c H locs k n (QF below args s) (F0 m pc ls st)
/-- a local by its number -/
def lfd : List (Nat × Value) → Nat → Option Value
  | [], _ => none
  | (i, v) :: r, j => bif Nat.beq i j then some v else lfd r j
theorem lfd_mem {L : List (Nat × Value)} {i : Nat} {v : Value} (h : lfd L i = some v) : (i, v) ∈ L := by
  induction L with
  | nil => simp [lfd] at h
  | cons q r ih =>
    obtain ⟨j, w⟩ := q
    simp only [lfd] at h
    cases hj : Nat.beq j i with
    | true =>
      rw [hj] at h
      simp only [cond_true, Option.some.injEq] at h
      have := Nat.eq_of_beq_eq_true hj
      subst this; subst h
      exact List.mem_cons_self
    | false =>
      rw [hj] at h
      exact List.mem_cons_of_mem _ (ih h)
theorem lfd_at {ls : Array Slot} {nL : Nat} {L : List (Nat × Value)} (hl : lv_has ls nL L) {i : Nat} {v : Value} (h : lfd L i = some v) : ls[i]? = some (.val v) := hl.2.2 (i, v) (lfd_mem h)
def lst (L : List (Nat × Value)) (i : Nat) (v : Value) : List (Nat × Value) := bif L.any (fun q => Nat.beq q.1 i) then L.map (fun q => bif Nat.beq q.1 i then (i, v) else q) else L ++ [(i, v)]
def lok1 (L : List (Nat × Value)) (i : Nat) : Bool := L.all (fun q => !(Nat.beq (q.1 + 1) i && Nat.beq q.2.category 2))
def lok2 (L : List (Nat × Value)) (i : Nat) : Bool := lok1 L i && L.all (fun q => !(Nat.beq q.1 (i + 1)))
theorem nbeq_eq (a b : Nat) : Nat.beq a b = (a == b) := by
  cases h : Nat.beq a b with
  | true => rw [Nat.eq_of_beq_eq_true h]; simp
  | false => exact (beq_false_of_ne (Nat.ne_of_beq_eq_false h)).symm
theorem lst_mem {L : List (Nat × Value)} {i : Nat} {v : Value} {q : Nat × Value} (h : q ∈ lst L i v) : q = (i, v) ∨ (q ∈ L ∧ ¬ q.1 = i) := by
  unfold lst at h
  cases ha : L.any (fun q => Nat.beq q.1 i) with
  | true =>
    rw [ha] at h
    obtain ⟨q', h1, h2⟩ := List.mem_map.mp h
    cases hb : Nat.beq q'.1 i with
    | true => rw [hb] at h2; exact Or.inl h2.symm
    | false => rw [hb] at h2; subst h2; exact Or.inr ⟨h1, Nat.ne_of_beq_eq_false hb⟩
  | false =>
    rw [ha] at h
    rcases List.mem_append.mp h with h1 | h1
    · refine Or.inr ⟨h1, fun e => ?_⟩
      have h3 := List.any_eq_false.mp ha q h1
      rw [e] at h3
      exact h3 (by simp)
    · exact Or.inl (List.mem_singleton.mp h1)
theorem lst_has1 {ls : Array Slot} {nL : Nat} {L L' : List (Nat × Value)} {i : Nat} {v : Value} (hl : lst L i v = L') (hk : lok1 L i = true) (h : lv_has ls nL ((i, v) :: L.filter (fun q => !(q.1 == i) && !(q.1 + 1 == i && q.2.category == 2)))) : lv_has ls nL L' := by
  refine ⟨h.1, h.2.1, fun q hq => ?_⟩
  rw [← hl] at hq
  rcases lst_mem hq with e | ⟨h1, h2⟩
  · rw [e]; exact h.2.2 _ List.mem_cons_self
  · refine h.2.2 q (List.mem_cons_of_mem _ (List.mem_filter.mpr ⟨h1, ?_⟩))
    have h3 := List.all_eq_true.mp hk q h1
    rw [nbeq_eq, nbeq_eq] at h3
    simp only [Bool.and_eq_true]
    exact ⟨by simpa using h2, h3⟩
theorem lst_has2 {ls : Array Slot} {nL : Nat} {L L' : List (Nat × Value)} {i : Nat} {v : Value} (hl : lst L i v = L') (hk : lok2 L i = true) (h : lv_has ls nL ((i, v) :: L.filter (fun q => !(q.1 == i) && (!(q.1 == i + 1) && !(q.1 + 1 == i && q.2.category == 2))))) : lv_has ls nL L' := by
  refine ⟨h.1, h.2.1, fun q hq => ?_⟩
  rw [← hl] at hq
  unfold lok2 at hk
  rw [Bool.and_eq_true] at hk
  rcases lst_mem hq with e | ⟨h1, h2⟩
  · rw [e]; exact h.2.2 _ List.mem_cons_self
  · refine h.2.2 q (List.mem_cons_of_mem _ (List.mem_filter.mpr ⟨h1, ?_⟩))
    have h3 := List.all_eq_true.mp hk.1 q h1
    have h4 := List.all_eq_true.mp hk.2 q h1
    rw [nbeq_eq, nbeq_eq] at h3
    rw [nbeq_eq] at h4
    simp only [Bool.and_eq_true]
    exact ⟨by simpa using h2, h4, h3⟩
section GGrows
variable {l : Launch} {D : va_G} {cl : List vw_C} {tys : List (ClassId × FieldType)} {cc : ByteArray} {nL : Nat} {rt : Option FieldType} {own : String} {R : Room} {A : Nat → Prop} {MX : Heap → Method → Code → Prop} {QF : List Frame → Array Value → State → State → Prop} {HP : Heap → Prop} {k n pc : Nat} {L L' : List (Nat × Value)} {st : List Value}
theorem GG.mono {HP' : Heap → Prop} (K : GG l D cl tys cc nL rt own R A MX QF HP' k n pc L st) (h : ∀ H, HP H → HP' H) : GG l D cl tys cc nL rt own R A MX QF HP k n pc L st :=
  fun p e s m args below meth c H locs ls B hP hS hl => K p e s m args below meth c H locs ls B (h H hP) hS hl
/-- what the heap's picture says, out of it -/
theorem GG.fact {φ : Prop} (h : ∀ H, HP H → φ) (K : φ → GG l D cl tys cc nL rt own R A MX QF HP k n pc L st) : GG l D cl tys cc nL rt own R A MX QF HP k n pc L st :=
  fun p e s m args below meth c H locs ls B hP hS hl => K (h H hP) p e s m args below meth c H locs ls B hP hS hl
theorem GG.ex {α : Sort _} {F : α → Heap → Prop} (h : ∀ H, HP H → ∃ a, F a H) (K : ∀ a, GG l D cl tys cc nL rt own R A MX QF (F a) k n pc L st) : GG l D cl tys cc nL rt own R A MX QF HP k n pc L st :=
  fun p e s m args below meth c H locs ls B hP hS hl => (h H hP).elim fun a ha => K a p e s m args below meth c H locs ls B ha hS hl
theorem GG.locals (ks : List Nat) (hl : lv_pick L ks = L') (K : GG l D cl tys cc nL rt own R A MX QF HP k n pc L' st) : GG l D cl tys cc nL rt own R A MX QF HP k n pc L st :=
  fun p e s m args below meth c H locs ls B hP hS h => K p e s m args below meth c H locs ls B hP hS (lv_sub h ks hl)
theorem GG.widen {k' n' : Nat} (h1 : k ≤ k') (h2 : n ≤ n') (K : GG l D cl tys cc nL rt own R A MX QF HP k' n' pc L st) : GG l D cl tys cc nL rt own R A MX QF HP k n pc L st :=
  fun p e s m args below meth c H locs ls B hP hS hl => W.widen h1 h2 (K p e s m args below meth c H locs ls B hP hS hl)
/-- the top of the stack under another name -/
theorem GG.topi {x y : Int32} (h : x = y) (K : GG l D cl tys cc nL rt own R A MX QF HP k n pc L (.int y :: st)) : GG l D cl tys cc nL rt own R A MX QF HP k n pc L (.int x :: st) := by
  rw [h]; exact K
theorem GG.topl {x y : Int64} (h : x = y) (K : GG l D cl tys cc nL rt own R A MX QF HP k n pc L (.long y :: st)) : GG l D cl tys cc nL rt own R A MX QF HP k n pc L (.long x :: st) := by
  rw [h]; exact K
theorem GG.top2i {v : Value} {x y : Int32} (h : x = y) (K : GG l D cl tys cc nL rt own R A MX QF HP k n pc L (v :: .int y :: st)) : GG l D cl tys cc nL rt own R A MX QF HP k n pc L (v :: .int x :: st) := by
  rw [h]; exact K
theorem GG.namei {x : Int32} (K : ∀ y : Int32, y = x → GG l D cl tys cc nL rt own R A MX QF HP k n pc L (.int y :: st)) : GG l D cl tys cc nL rt own R A MX QF HP k n pc L (.int x :: st) := K x rfl
theorem GG.namel {x : Int64} (K : ∀ y : Int64, y = x → GG l D cl tys cc nL rt own R A MX QF HP k n pc L (.long y :: st)) : GG l D cl tys cc nL rt own R A MX QF HP k n pc L (.long x :: st) := K x rfl
theorem GG.topn {a : Nat} (K : ∀ b : Nat, b = a → GG l D cl tys cc nL rt own R A MX QF HP k n pc L (.int (nI b) :: st)) : GG l D cl tys cc nL rt own R A MX QF HP k n pc L (.int (nI a) :: st) := K a rfl
theorem g_iconst {i : Int} {v : Int32} (hd : decode cc pc = .ok (.iconst i, 1)) (hv : Int32.ofInt i = v) (K : GG l D cl tys cc nL rt own R A MX QF HP k n (pc + 1) L (.int v :: st)) : GG l D cl tys cc nL rt own R A MX QF HP k n pc L (st) :=
  fun p e s m args below meth c H locs ls B hP hS hl => lv_iconst B.1 B.2.1 hd hv (K p e s m args below meth c H locs ls B hP hS hl)
theorem g_bipush {i : Int} {v : Int32} (hd : decode cc pc = .ok (.bipush i, 2)) (hv : (Int8.ofInt i).toInt32 = v) (K : GG l D cl tys cc nL rt own R A MX QF HP k n (pc + 2) L (.int v :: st)) : GG l D cl tys cc nL rt own R A MX QF HP k n pc L (st) :=
  fun p e s m args below meth c H locs ls B hP hS hl => lv_bipush B.1 B.2.1 hd hv (K p e s m args below meth c H locs ls B hP hS hl)
theorem g_sipush {i : Int} {v : Int32} (hd : decode cc pc = .ok (.sipush i, 3)) (hv : (Int16.ofInt i).toInt32 = v) (K : GG l D cl tys cc nL rt own R A MX QF HP k n (pc + 3) L (.int v :: st)) : GG l D cl tys cc nL rt own R A MX QF HP k n pc L (st) :=
  fun p e s m args below meth c H locs ls B hP hS hl => lv_sipush B.1 B.2.1 hd hv (K p e s m args below meth c H locs ls B hP hS hl)
theorem g_lconst {i : Fin 2} {v : Int64} (hd : decode cc pc = .ok (.lconst i, 1)) (hv : Int64.ofNat (i : Nat) = v) (K : GG l D cl tys cc nL rt own R A MX QF HP k n (pc + 1) L (.long v :: st)) : GG l D cl tys cc nL rt own R A MX QF HP k n pc L (st) :=
  fun p e s m args below meth c H locs ls B hP hS hl => lv_lconst B.1 B.2.1 hd hv (K p e s m args below meth c H locs ls B hP hS hl)
theorem g_ldc {i : Nat} {v : Int32} (hd : decode cc pc = .ok (.ldc i, 2)) (hq : Cond.constant own i v ∈ lw_all) (K : GG l D cl tys cc nL rt own R A MX QF HP k n (pc + 2) L (.int v :: st)) : GG l D cl tys cc nL rt own R A MX QF HP k n pc L (st) :=
  fun p e s m args below meth c H locs ls B hP hS hl => lv_ldc B.1 B.2.1 B.2.2.2.2.2.1 (B.2.2.2.2.2.2.1 _ hq) hd (K p e s m args below meth c H locs ls B hP hS hl)
theorem g_ldc2 {i : Nat} {v : Int64} (hd : decode cc pc = .ok (.ldc2_w i, 3)) (hq : Cond.constantLong own i v ∈ lw_all) (K : GG l D cl tys cc nL rt own R A MX QF HP k n (pc + 3) L (.long v :: st)) : GG l D cl tys cc nL rt own R A MX QF HP k n pc L (st) :=
  fun p e s m args below meth c H locs ls B hP hS hl => lv_ldc2 B.1 B.2.1 B.2.2.2.2.2.1 (B.2.2.2.2.2.2.1 _ hq) hd (K p e s m args below meth c H locs ls B hP hS hl)
theorem g_iload_n {j : Fin 4} (i : Nat) {x : Int32} (hd : decode cc pc = .ok (.iload_n j, 1)) (hi : (j : Nat) = i) (hL : lfd L i = some (.int x)) (K : GG l D cl tys cc nL rt own R A MX QF HP k n (pc + 1) L (.int x :: st)) : GG l D cl tys cc nL rt own R A MX QF HP k n pc L (st) :=
  fun p e s m args below meth c H locs ls B hP hS hl => lv_iload_n B.1 B.2.1 hd hi (lfd_at hl hL) (K p e s m args below meth c H locs ls B hP hS hl)
theorem g_iload {i : Nat} {x : Int32} (hd : decode cc pc = .ok (.iload i, 2)) (hL : lfd L i = some (.int x)) (K : GG l D cl tys cc nL rt own R A MX QF HP k n (pc + 2) L (.int x :: st)) : GG l D cl tys cc nL rt own R A MX QF HP k n pc L (st) :=
  fun p e s m args below meth c H locs ls B hP hS hl => lv_iload B.1 B.2.1 hd (lfd_at hl hL) (K p e s m args below meth c H locs ls B hP hS hl)
theorem g_lload_n {j : Fin 4} (i : Nat) {x : Int64} (hd : decode cc pc = .ok (.lload_n j, 1)) (hi : (j : Nat) = i) (hL : lfd L i = some (.long x)) (K : GG l D cl tys cc nL rt own R A MX QF HP k n (pc + 1) L (.long x :: st)) : GG l D cl tys cc nL rt own R A MX QF HP k n pc L (st) :=
  fun p e s m args below meth c H locs ls B hP hS hl => lv_lload_n B.1 B.2.1 hd hi (lfd_at hl hL) (K p e s m args below meth c H locs ls B hP hS hl)
theorem g_lload {i : Nat} {x : Int64} (hd : decode cc pc = .ok (.lload i, 2)) (hL : lfd L i = some (.long x)) (K : GG l D cl tys cc nL rt own R A MX QF HP k n (pc + 2) L (.long x :: st)) : GG l D cl tys cc nL rt own R A MX QF HP k n pc L (st) :=
  fun p e s m args below meth c H locs ls B hP hS hl => lv_lload B.1 B.2.1 hd (lfd_at hl hL) (K p e s m args below meth c H locs ls B hP hS hl)
theorem g_aload_n {j : Fin 4} (i : Nat) {x : Nat} (hd : decode cc pc = .ok (.aload_n j, 1)) (hi : (j : Nat) = i) (hL : lfd L i = some (.ref x)) (K : GG l D cl tys cc nL rt own R A MX QF HP k n (pc + 1) L (.ref x :: st)) : GG l D cl tys cc nL rt own R A MX QF HP k n pc L (st) :=
  fun p e s m args below meth c H locs ls B hP hS hl => lv_aload_n B.1 B.2.1 hd hi (lfd_at hl hL) (K p e s m args below meth c H locs ls B hP hS hl)
theorem g_aload {i : Nat} {x : Nat} (hd : decode cc pc = .ok (.aload i, 2)) (hL : lfd L i = some (.ref x)) (K : GG l D cl tys cc nL rt own R A MX QF HP k n (pc + 2) L (.ref x :: st)) : GG l D cl tys cc nL rt own R A MX QF HP k n pc L (st) :=
  fun p e s m args below meth c H locs ls B hP hS hl => lv_aload B.1 B.2.1 hd (lfd_at hl hL) (K p e s m args below meth c H locs ls B hP hS hl)
theorem g_istore_n {j : Fin 4} (i : Nat) {x : Int32} (hd : decode cc pc = .ok (.istore_n j, 1)) (hi : (j : Nat) = i) (hn : i < nL) (hk : lok1 L i = true) (hL : lst L i (.int x) = L') (K : GG l D cl tys cc nL rt own R A MX QF HP k n (pc + 1) L' st) : GG l D cl tys cc nL rt own R A MX QF HP k n pc L (.int x :: st) :=
  fun p e s m args below meth c H locs ls B hP hS hl => lv_istore_n B.1 B.2.1 hd hi hl hn rfl (fun ls' h' => K p e s m args below meth c H locs ls' B hP hS (lst_has1 hL hk h'))
theorem g_istore {i : Nat} {x : Int32} (hd : decode cc pc = .ok (.istore i, 2)) (hn : i < nL) (hk : lok1 L i = true) (hL : lst L i (.int x) = L') (K : GG l D cl tys cc nL rt own R A MX QF HP k n (pc + 2) L' st) : GG l D cl tys cc nL rt own R A MX QF HP k n pc L (.int x :: st) :=
  fun p e s m args below meth c H locs ls B hP hS hl => lv_istore B.1 B.2.1 hd hl hn rfl (fun ls' h' => K p e s m args below meth c H locs ls' B hP hS (lst_has1 hL hk h'))
theorem g_lstore_n {j : Fin 4} (i : Nat) {x : Int64} (hd : decode cc pc = .ok (.lstore_n j, 1)) (hi : (j : Nat) = i) (hn : i + 1 < nL) (hk : lok2 L i = true) (hL : lst L i (.long x) = L') (K : GG l D cl tys cc nL rt own R A MX QF HP k n (pc + 1) L' st) : GG l D cl tys cc nL rt own R A MX QF HP k n pc L (.long x :: st) :=
  fun p e s m args below meth c H locs ls B hP hS hl => lv_lstore_n B.1 B.2.1 hd hi hl hn rfl (fun ls' h' => K p e s m args below meth c H locs ls' B hP hS (lst_has2 hL hk h'))
theorem g_lstore {i : Nat} {x : Int64} (hd : decode cc pc = .ok (.lstore i, 2)) (hn : i + 1 < nL) (hk : lok2 L i = true) (hL : lst L i (.long x) = L') (K : GG l D cl tys cc nL rt own R A MX QF HP k n (pc + 2) L' st) : GG l D cl tys cc nL rt own R A MX QF HP k n pc L (.long x :: st) :=
  fun p e s m args below meth c H locs ls B hP hS hl => lv_lstore B.1 B.2.1 hd hl hn rfl (fun ls' h' => K p e s m args below meth c H locs ls' B hP hS (lst_has2 hL hk h'))
theorem g_astore_n {j : Fin 4} (i : Nat) {x : Nat} (hd : decode cc pc = .ok (.astore_n j, 1)) (hi : (j : Nat) = i) (hn : i < nL) (hk : lok1 L i = true) (hL : lst L i (.ref x) = L') (K : GG l D cl tys cc nL rt own R A MX QF HP k n (pc + 1) L' st) : GG l D cl tys cc nL rt own R A MX QF HP k n pc L (.ref x :: st) :=
  fun p e s m args below meth c H locs ls B hP hS hl => lv_astore_n B.1 B.2.1 hd hi hl hn rfl (fun ls' h' => K p e s m args below meth c H locs ls' B hP hS (lst_has1 hL hk h'))
theorem g_astore {i : Nat} {x : Nat} (hd : decode cc pc = .ok (.astore i, 2)) (hn : i < nL) (hk : lok1 L i = true) (hL : lst L i (.ref x) = L') (K : GG l D cl tys cc nL rt own R A MX QF HP k n (pc + 2) L' st) : GG l D cl tys cc nL rt own R A MX QF HP k n pc L (.ref x :: st) :=
  fun p e s m args below meth c H locs ls B hP hS hl => lv_astore B.1 B.2.1 hd hl hn rfl (fun ls' h' => K p e s m args below meth c H locs ls' B hP hS (lst_has1 hL hk h'))
theorem lfd_get {L : List (Nat × Value)} {i : Nat} {v : Value} (h : lfd L i = some v) : ∃ j : Nat, L[j]? = some (i, v) := List.getElem?_of_mem (lfd_mem h)
theorem g_iinc {i : Nat} {d : Int} {x v : Int32} (hd : decode cc pc = .ok (.iinc i d, 3)) (hL0 : lfd L i = some (.int x)) (hv : x + Int32.ofInt d = v) (hn : i < nL) (hk : lok1 L i = true) (hL : lst L i (.int v) = L') (K : GG l D cl tys cc nL rt own R A MX QF HP k n (pc + 3) L' st) : GG l D cl tys cc nL rt own R A MX QF HP k n pc L st :=
  fun p e s m args below meth c H locs ls B hP hS hl => (lfd_get hL0).elim fun j hj => lv_iinc B.1 B.2.1 hd hl hj hv hn rfl (fun ls' h' => K p e s m args below meth c H locs ls' B hP hS (lst_has1 hL hk h'))
theorem g_iinc_n {i a b : Nat} {d : Int} (hd : decode cc pc = .ok (.iinc i d, 3)) (hL0 : lfd L i = some (.int (nI a))) (hv : Int32.ofInt d = nI b) (hn : i < nL) (hk : lok1 L i = true) (hL : lst L i (.int (nI (a + b))) = L') (K : GG l D cl tys cc nL rt own R A MX QF HP k n (pc + 3) L' st) : GG l D cl tys cc nL rt own R A MX QF HP k n pc L st :=
  g_iinc hd hL0 (by rw [hv, nI_add]) hn hk hL K
theorem g_iadd {x y : Int32} (hd : decode cc pc = .ok (.iadd, 1))  (K : GG l D cl tys cc nL rt own R A MX QF HP k n (pc + 1) L (.int (x + y) :: st)) : GG l D cl tys cc nL rt own R A MX QF HP k n pc L (.int y :: .int x :: st) :=
  fun p e s m args below meth c H locs ls B hP hS hl => lv_iadd B.1 B.2.1 hd (K p e s m args below meth c H locs ls B hP hS hl)
theorem g_isub {x y : Int32} (hd : decode cc pc = .ok (.isub, 1))  (K : GG l D cl tys cc nL rt own R A MX QF HP k n (pc + 1) L (.int (x - y) :: st)) : GG l D cl tys cc nL rt own R A MX QF HP k n pc L (.int y :: .int x :: st) :=
  fun p e s m args below meth c H locs ls B hP hS hl => lv_isub B.1 B.2.1 hd (K p e s m args below meth c H locs ls B hP hS hl)
theorem g_imul {x y : Int32} (hd : decode cc pc = .ok (.imul, 1))  (K : GG l D cl tys cc nL rt own R A MX QF HP k n (pc + 1) L (.int (x * y) :: st)) : GG l D cl tys cc nL rt own R A MX QF HP k n pc L (.int y :: .int x :: st) :=
  fun p e s m args below meth c H locs ls B hP hS hl => lv_imul B.1 B.2.1 hd (K p e s m args below meth c H locs ls B hP hS hl)
theorem g_iand {x y : Int32} (hd : decode cc pc = .ok (.iand, 1))  (K : GG l D cl tys cc nL rt own R A MX QF HP k n (pc + 1) L (.int (x &&& y) :: st)) : GG l D cl tys cc nL rt own R A MX QF HP k n pc L (.int y :: .int x :: st) :=
  fun p e s m args below meth c H locs ls B hP hS hl => lv_iand B.1 B.2.1 hd (K p e s m args below meth c H locs ls B hP hS hl)
theorem g_ior {x y : Int32} (hd : decode cc pc = .ok (.ior, 1))  (K : GG l D cl tys cc nL rt own R A MX QF HP k n (pc + 1) L (.int (x ||| y) :: st)) : GG l D cl tys cc nL rt own R A MX QF HP k n pc L (.int y :: .int x :: st) :=
  fun p e s m args below meth c H locs ls B hP hS hl => lv_ior B.1 B.2.1 hd (K p e s m args below meth c H locs ls B hP hS hl)
theorem g_ixor {x y : Int32} (hd : decode cc pc = .ok (.ixor, 1))  (K : GG l D cl tys cc nL rt own R A MX QF HP k n (pc + 1) L (.int (x ^^^ y) :: st)) : GG l D cl tys cc nL rt own R A MX QF HP k n pc L (.int y :: .int x :: st) :=
  fun p e s m args below meth c H locs ls B hP hS hl => lv_ixor B.1 B.2.1 hd (K p e s m args below meth c H locs ls B hP hS hl)
theorem g_ladd {x y : Int64} (hd : decode cc pc = .ok (.ladd, 1))  (K : GG l D cl tys cc nL rt own R A MX QF HP k n (pc + 1) L (.long (x + y) :: st)) : GG l D cl tys cc nL rt own R A MX QF HP k n pc L (.long y :: .long x :: st) :=
  fun p e s m args below meth c H locs ls B hP hS hl => lv_ladd B.1 B.2.1 hd (K p e s m args below meth c H locs ls B hP hS hl)
theorem g_lsub {x y : Int64} (hd : decode cc pc = .ok (.lsub, 1))  (K : GG l D cl tys cc nL rt own R A MX QF HP k n (pc + 1) L (.long (x - y) :: st)) : GG l D cl tys cc nL rt own R A MX QF HP k n pc L (.long y :: .long x :: st) :=
  fun p e s m args below meth c H locs ls B hP hS hl => lv_lsub B.1 B.2.1 hd (K p e s m args below meth c H locs ls B hP hS hl)
theorem g_lmul {x y : Int64} (hd : decode cc pc = .ok (.lmul, 1))  (K : GG l D cl tys cc nL rt own R A MX QF HP k n (pc + 1) L (.long (x * y) :: st)) : GG l D cl tys cc nL rt own R A MX QF HP k n pc L (.long y :: .long x :: st) :=
  fun p e s m args below meth c H locs ls B hP hS hl => lv_lmul B.1 B.2.1 hd (K p e s m args below meth c H locs ls B hP hS hl)
theorem g_land {x y : Int64} (hd : decode cc pc = .ok (.land, 1))  (K : GG l D cl tys cc nL rt own R A MX QF HP k n (pc + 1) L (.long (x &&& y) :: st)) : GG l D cl tys cc nL rt own R A MX QF HP k n pc L (.long y :: .long x :: st) :=
  fun p e s m args below meth c H locs ls B hP hS hl => lv_land B.1 B.2.1 hd (K p e s m args below meth c H locs ls B hP hS hl)
theorem g_lor {x y : Int64} (hd : decode cc pc = .ok (.lor, 1))  (K : GG l D cl tys cc nL rt own R A MX QF HP k n (pc + 1) L (.long (x ||| y) :: st)) : GG l D cl tys cc nL rt own R A MX QF HP k n pc L (.long y :: .long x :: st) :=
  fun p e s m args below meth c H locs ls B hP hS hl => lv_lor B.1 B.2.1 hd (K p e s m args below meth c H locs ls B hP hS hl)
theorem g_lxor {x y : Int64} (hd : decode cc pc = .ok (.lxor, 1))  (K : GG l D cl tys cc nL rt own R A MX QF HP k n (pc + 1) L (.long (x ^^^ y) :: st)) : GG l D cl tys cc nL rt own R A MX QF HP k n pc L (.long y :: .long x :: st) :=
  fun p e s m args below meth c H locs ls B hP hS hl => lv_lxor B.1 B.2.1 hd (K p e s m args below meth c H locs ls B hP hS hl)
theorem g_idiv {x y : Int32} (hd : decode cc pc = .ok (.idiv, 1)) (hne : ¬ y = 0) (K : GG l D cl tys cc nL rt own R A MX QF HP k n (pc + 1) L (.int (x / y) :: st)) : GG l D cl tys cc nL rt own R A MX QF HP k n pc L (.int y :: .int x :: st) :=
  fun p e s m args below meth c H locs ls B hP hS hl => lv_idiv B.1 B.2.1 hd hne (K p e s m args below meth c H locs ls B hP hS hl)
theorem g_irem {x y : Int32} (hd : decode cc pc = .ok (.irem, 1)) (hne : ¬ y = 0) (K : GG l D cl tys cc nL rt own R A MX QF HP k n (pc + 1) L (.int (x - x / y * y) :: st)) : GG l D cl tys cc nL rt own R A MX QF HP k n pc L (.int y :: .int x :: st) :=
  fun p e s m args below meth c H locs ls B hP hS hl => lv_irem B.1 B.2.1 hd hne (K p e s m args below meth c H locs ls B hP hS hl)
theorem g_lrem {x y : Int64} (hd : decode cc pc = .ok (.lrem, 1)) (hne : ¬ y = 0) (K : GG l D cl tys cc nL rt own R A MX QF HP k n (pc + 1) L (.long (x - x / y * y) :: st)) : GG l D cl tys cc nL rt own R A MX QF HP k n pc L (.long y :: .long x :: st) :=
  fun p e s m args below meth c H locs ls B hP hS hl => lv_lrem B.1 B.2.1 hd hne (K p e s m args below meth c H locs ls B hP hS hl)
theorem g_ldiv {x y : Int64} (hd : decode cc pc = .ok (.ldiv, 1)) (hne : ¬ y = 0) (K : GG l D cl tys cc nL rt own R A MX QF HP k n (pc + 1) L (.long (x / y) :: st)) : GG l D cl tys cc nL rt own R A MX QF HP k n pc L (.long y :: .long x :: st) :=
  fun p e s m args below meth c H locs ls B hP hS hl => lv_ldiv B.1 B.2.1 hd hne (K p e s m args below meth c H locs ls B hP hS hl)
theorem g_ineg {x : Int32} (hd : decode cc pc = .ok (.ineg, 1))  (K : GG l D cl tys cc nL rt own R A MX QF HP k n (pc + 1) L (.int (-x) :: st)) : GG l D cl tys cc nL rt own R A MX QF HP k n pc L (.int x :: st) :=
  fun p e s m args below meth c H locs ls B hP hS hl => lv_ineg B.1 B.2.1 hd (K p e s m args below meth c H locs ls B hP hS hl)
theorem g_ishl {x y : Int32} (hd : decode cc pc = .ok (.ishl, 1))  (K : GG l D cl tys cc nL rt own R A MX QF HP k n (pc + 1) L (.int (x <<< (y &&& 31)) :: st)) : GG l D cl tys cc nL rt own R A MX QF HP k n pc L (.int y :: .int x :: st) :=
  fun p e s m args below meth c H locs ls B hP hS hl => lv_ishl B.1 B.2.1 hd (K p e s m args below meth c H locs ls B hP hS hl)
theorem g_ishr {x y : Int32} (hd : decode cc pc = .ok (.ishr, 1))  (K : GG l D cl tys cc nL rt own R A MX QF HP k n (pc + 1) L (.int (x >>> (y &&& 31)) :: st)) : GG l D cl tys cc nL rt own R A MX QF HP k n pc L (.int y :: .int x :: st) :=
  fun p e s m args below meth c H locs ls B hP hS hl => lv_ishr B.1 B.2.1 hd (K p e s m args below meth c H locs ls B hP hS hl)
theorem g_iushr {x y v : Int32} (hd : decode cc pc = .ok (.iushr, 1)) (hv : (x.toUInt32 >>> (y.toUInt32 &&& Int32.toUInt32 31)).toInt32 = v) (K : GG l D cl tys cc nL rt own R A MX QF HP k n (pc + 1) L (.int v :: st)) : GG l D cl tys cc nL rt own R A MX QF HP k n pc L (.int y :: .int x :: st) :=
  fun p e s m args below meth c H locs ls B hP hS hl => lv_iushr B.1 B.2.1 hd hv (K p e s m args below meth c H locs ls B hP hS hl)
theorem g_lshl {x v : Int64} {y : Int32} (hd : decode cc pc = .ok (.lshl, 1)) (hv : x <<< (y.toInt64 &&& 63) = v) (K : GG l D cl tys cc nL rt own R A MX QF HP k n (pc + 1) L (.long v :: st)) : GG l D cl tys cc nL rt own R A MX QF HP k n pc L (.int y :: .long x :: st) :=
  fun p e s m args below meth c H locs ls B hP hS hl => lv_lshl B.1 B.2.1 hd hv (K p e s m args below meth c H locs ls B hP hS hl)
theorem g_lshr {x v : Int64} {y : Int32} (hd : decode cc pc = .ok (.lshr, 1)) (hv : x >>> (y.toInt64 &&& 63) = v) (K : GG l D cl tys cc nL rt own R A MX QF HP k n (pc + 1) L (.long v :: st)) : GG l D cl tys cc nL rt own R A MX QF HP k n pc L (.int y :: .long x :: st) :=
  fun p e s m args below meth c H locs ls B hP hS hl => lv_lshr B.1 B.2.1 hd hv (K p e s m args below meth c H locs ls B hP hS hl)
theorem g_lushr {x v : Int64} {y : Int32} (hd : decode cc pc = .ok (.lushr, 1)) (hv : (x.toUInt64 >>> (y.toInt64.toUInt64 &&& Int64.toUInt64 63)).toInt64 = v) (K : GG l D cl tys cc nL rt own R A MX QF HP k n (pc + 1) L (.long v :: st)) : GG l D cl tys cc nL rt own R A MX QF HP k n pc L (.int y :: .long x :: st) :=
  fun p e s m args below meth c H locs ls B hP hS hl => lv_lushr B.1 B.2.1 hd hv (K p e s m args below meth c H locs ls B hP hS hl)
theorem g_i2l {x : Int32} {v : Int64} (hd : decode cc pc = .ok (.i2l, 1)) (hv : x.toInt64 = v) (K : GG l D cl tys cc nL rt own R A MX QF HP k n (pc + 1) L (.long v :: st)) : GG l D cl tys cc nL rt own R A MX QF HP k n pc L (.int x :: st) :=
  fun p e s m args below meth c H locs ls B hP hS hl => lv_i2l B.1 B.2.1 hd hv (K p e s m args below meth c H locs ls B hP hS hl)
theorem g_l2i {x : Int64} {v : Int32} (hd : decode cc pc = .ok (.l2i, 1)) (hv : x.toInt32 = v) (K : GG l D cl tys cc nL rt own R A MX QF HP k n (pc + 1) L (.int v :: st)) : GG l D cl tys cc nL rt own R A MX QF HP k n pc L (.long x :: st) :=
  fun p e s m args below meth c H locs ls B hP hS hl => lv_l2i B.1 B.2.1 hd hv (K p e s m args below meth c H locs ls B hP hS hl)
theorem g_i2b {x v : Int32} (hd : decode cc pc = .ok (.i2b, 1)) (hv : x.toInt8.toInt32 = v) (K : GG l D cl tys cc nL rt own R A MX QF HP k n (pc + 1) L (.int v :: st)) : GG l D cl tys cc nL rt own R A MX QF HP k n pc L (.int x :: st) :=
  fun p e s m args below meth c H locs ls B hP hS hl => lv_i2b B.1 B.2.1 hd hv (K p e s m args below meth c H locs ls B hP hS hl)
theorem g_i2s {x v : Int32} (hd : decode cc pc = .ok (.i2s, 1)) (hv : x.toInt16.toInt32 = v) (K : GG l D cl tys cc nL rt own R A MX QF HP k n (pc + 1) L (.int v :: st)) : GG l D cl tys cc nL rt own R A MX QF HP k n pc L (.int x :: st) :=
  fun p e s m args below meth c H locs ls B hP hS hl => lv_i2s B.1 B.2.1 hd hv (K p e s m args below meth c H locs ls B hP hS hl)
theorem g_lcmp {x y : Int64} (hd : decode cc pc = .ok (.lcmp, 1))  (K : GG l D cl tys cc nL rt own R A MX QF HP k n (pc + 1) L (.int (lg_cmp x y) :: st)) : GG l D cl tys cc nL rt own R A MX QF HP k n pc L (.long y :: .long x :: st) :=
  fun p e s m args below meth c H locs ls B hP hS hl => W.lcmp B.1 B.2.1 hd (K p e s m args below meth c H locs ls B hP hS hl)
theorem nI_c (a : Nat) : Int32.ofInt (a : Int) = nI a := rfl
theorem g_iadd_n {a b : Nat} (hd : decode cc pc = .ok (.iadd, 1)) (K : GG l D cl tys cc nL rt own R A MX QF HP k n (pc + 1) L (.int (nI (a + b)) :: st)) : GG l D cl tys cc nL rt own R A MX QF HP k n pc L (.int (nI b) :: .int (nI a) :: st) := g_iadd hd (GG.topi (nI_add a b) K)
theorem g_imul_n {a b : Nat} (hd : decode cc pc = .ok (.imul, 1)) (K : GG l D cl tys cc nL rt own R A MX QF HP k n (pc + 1) L (.int (nI (a * b)) :: st)) : GG l D cl tys cc nL rt own R A MX QF HP k n pc L (.int (nI b) :: .int (nI a) :: st) := g_imul hd (GG.topi (pk_mul a b) K)
theorem g_isub_n {a b : Nat} (hd : decode cc pc = .ok (.isub, 1)) (h : b ≤ a) (K : GG l D cl tys cc nL rt own R A MX QF HP k n (pc + 1) L (.int (nI (a - b)) :: st)) : GG l D cl tys cc nL rt own R A MX QF HP k n pc L (.int (nI b) :: .int (nI a) :: st) := g_isub hd (GG.topi (pk_sub h) K)
theorem g_idiv_n {a b : Nat} (hd : decode cc pc = .ok (.idiv, 1)) (ha : a < 2 ^ 31) (h0 : 0 < b) (hb : b < 2 ^ 31) (K : GG l D cl tys cc nL rt own R A MX QF HP k n (pc + 1) L (.int (nI (a / b)) :: st)) : GG l D cl tys cc nL rt own R A MX QF HP k n pc L (.int (nI b) :: .int (nI a) :: st) := g_idiv hd (nI_ne0 h0 hb) (GG.topi (pk_div ha h0 hb) K)
theorem g_irem_n {a b : Nat} (hd : decode cc pc = .ok (.irem, 1)) (ha : a < 2 ^ 31) (h0 : 0 < b) (hb : b < 2 ^ 31) (K : GG l D cl tys cc nL rt own R A MX QF HP k n (pc + 1) L (.int (nI (a % b)) :: st)) : GG l D cl tys cc nL rt own R A MX QF HP k n pc L (.int (nI b) :: .int (nI a) :: st) := g_irem hd (nI_ne0 h0 hb) (GG.topi (pk_rem ha h0 hb) K)
theorem g_i2l_n {a : Nat} (hd : decode cc pc = .ok (.i2l, 1)) (ha : a < 2 ^ 31) (K : GG l D cl tys cc nL rt own R A MX QF HP k n (pc + 1) L (.long (lN a) :: st)) : GG l D cl tys cc nL rt own R A MX QF HP k n pc L (.int (nI a) :: st) := g_i2l hd (nI_l ha) K
theorem g_dup {v : Value} (hd : decode cc pc = .ok (.dup, 1)) (hv : v.category = 1) (K : GG l D cl tys cc nL rt own R A MX QF HP k n (pc + 1) L (v :: v :: st)) : GG l D cl tys cc nL rt own R A MX QF HP k n pc L (v :: st) :=
  fun p e s m args below meth c H locs ls B hP hS hl => lv_dup B.1 B.2.1 hd hv (K p e s m args below meth c H locs ls B hP hS hl)
theorem g_pop {v : Value} (hd : decode cc pc = .ok (.pop, 1)) (hv : v.category = 1) (K : GG l D cl tys cc nL rt own R A MX QF HP k n (pc + 1) L (st)) : GG l D cl tys cc nL rt own R A MX QF HP k n pc L (v :: st) :=
  fun p e s m args below meth c H locs ls B hP hS hl => lv_pop B.1 B.2.1 hd hv (K p e s m args below meth c H locs ls B hP hS hl)
theorem g_dup_x1 {v v2 : Value} (hd : decode cc pc = .ok (.dup_x1, 1)) (hv : v.category = 1) (hv2 : v2.category = 1) (K : GG l D cl tys cc nL rt own R A MX QF HP k n (pc + 1) L (v :: v2 :: v :: st)) : GG l D cl tys cc nL rt own R A MX QF HP k n pc L (v :: v2 :: st) :=
  fun p e s m args below meth c H locs ls B hP hS hl => lv_dup_x1 B.1 B.2.1 hd hv hv2 (K p e s m args below meth c H locs ls B hP hS hl)
theorem g_dup2_11 {v v2 : Value} (hd : decode cc pc = .ok (.dup2, 1)) (hv : v.category = 1) (hv2 : v2.category = 1) (K : GG l D cl tys cc nL rt own R A MX QF HP k n (pc + 1) L (v :: v2 :: v :: v2 :: st)) : GG l D cl tys cc nL rt own R A MX QF HP k n pc L (v :: v2 :: st) :=
  fun p e s m args below meth c H locs ls B hP hS hl => lv_dup2_11 B.1 B.2.1 hd hv hv2 (K p e s m args below meth c H locs ls B hP hS hl)
theorem g_dup2_2 {v : Value} (hd : decode cc pc = .ok (.dup2, 1)) (hv : v.category = 2) (K : GG l D cl tys cc nL rt own R A MX QF HP k n (pc + 1) L (v :: v :: st)) : GG l D cl tys cc nL rt own R A MX QF HP k n pc L (v :: st) :=
  fun p e s m args below meth c H locs ls B hP hS hl => lv_dup2_2 B.1 B.2.1 hd hv (K p e s m args below meth c H locs ls B hP hS hl)
theorem g_pop2_2 {v : Value} (hd : decode cc pc = .ok (.pop2, 1)) (hv : v.category = 2) (K : GG l D cl tys cc nL rt own R A MX QF HP k n (pc + 1) L (st)) : GG l D cl tys cc nL rt own R A MX QF HP k n pc L (v :: st) :=
  fun p e s m args below meth c H locs ls B hP hS hl => lv_pop2_2 B.1 B.2.1 hd hv (K p e s m args below meth c H locs ls B hP hS hl)
theorem g_goto {off : Int} {tgt : Nat} (hd : decode cc pc = .ok (.goto off, 3)) (ht : (pc : Int) + off = (tgt : Int)) (K : GG l D cl tys cc nL rt own R A MX QF HP k n tgt L (st)) : GG l D cl tys cc nL rt own R A MX QF HP k n pc L (st) :=
  fun p e s m args below meth c H locs ls B hP hS hl => lv_goto B.1 B.2.1 hd ht (K p e s m args below meth c H locs ls B hP hS hl)
theorem g_icmp_eq {x y : Int32} {off : Int} {tgt : Nat} (hd : decode cc pc = .ok (.if_icmp .eq off, 3)) (ht : (pc : Int) + off = (tgt : Int)) (KT : x = y → GG l D cl tys cc nL rt own R A MX QF HP k n tgt L st) (KF : ¬ x = y → GG l D cl tys cc nL rt own R A MX QF HP k n (pc + 3) L st) : GG l D cl tys cc nL rt own R A MX QF HP k n pc L (.int y :: .int x :: st) :=
  fun p e s m args below meth c H locs ls B hP hS hl => lv_icmp_eq B.1 B.2.1 hd ht (fun q => KT q p e s m args below meth c H locs ls B hP hS hl) (fun q => KF q p e s m args below meth c H locs ls B hP hS hl)
theorem g_if_eq {x : Int32} {off : Int} {tgt : Nat} (hd : decode cc pc = .ok (.ifCond .eq off, 3)) (ht : (pc : Int) + off = (tgt : Int)) (KT : x = 0 → GG l D cl tys cc nL rt own R A MX QF HP k n tgt L st) (KF : ¬ x = 0 → GG l D cl tys cc nL rt own R A MX QF HP k n (pc + 3) L st) : GG l D cl tys cc nL rt own R A MX QF HP k n pc L (.int x :: st) :=
  fun p e s m args below meth c H locs ls B hP hS hl => lv_if_eq B.1 B.2.1 hd ht (fun q => KT q p e s m args below meth c H locs ls B hP hS hl) (fun q => KF q p e s m args below meth c H locs ls B hP hS hl)
theorem g_icmp_ne {x y : Int32} {off : Int} {tgt : Nat} (hd : decode cc pc = .ok (.if_icmp .ne off, 3)) (ht : (pc : Int) + off = (tgt : Int)) (KT : ¬ x = y → GG l D cl tys cc nL rt own R A MX QF HP k n tgt L st) (KF : x = y → GG l D cl tys cc nL rt own R A MX QF HP k n (pc + 3) L st) : GG l D cl tys cc nL rt own R A MX QF HP k n pc L (.int y :: .int x :: st) :=
  fun p e s m args below meth c H locs ls B hP hS hl => lv_icmp_ne B.1 B.2.1 hd ht (fun q => KT q p e s m args below meth c H locs ls B hP hS hl) (fun q => KF q p e s m args below meth c H locs ls B hP hS hl)
theorem g_if_ne {x : Int32} {off : Int} {tgt : Nat} (hd : decode cc pc = .ok (.ifCond .ne off, 3)) (ht : (pc : Int) + off = (tgt : Int)) (KT : ¬ x = 0 → GG l D cl tys cc nL rt own R A MX QF HP k n tgt L st) (KF : x = 0 → GG l D cl tys cc nL rt own R A MX QF HP k n (pc + 3) L st) : GG l D cl tys cc nL rt own R A MX QF HP k n pc L (.int x :: st) :=
  fun p e s m args below meth c H locs ls B hP hS hl => lv_if_ne B.1 B.2.1 hd ht (fun q => KT q p e s m args below meth c H locs ls B hP hS hl) (fun q => KF q p e s m args below meth c H locs ls B hP hS hl)
theorem g_icmp_lt {x y : Int32} {off : Int} {tgt : Nat} (hd : decode cc pc = .ok (.if_icmp .lt off, 3)) (ht : (pc : Int) + off = (tgt : Int)) (KT : x < y → GG l D cl tys cc nL rt own R A MX QF HP k n tgt L st) (KF : ¬ x < y → GG l D cl tys cc nL rt own R A MX QF HP k n (pc + 3) L st) : GG l D cl tys cc nL rt own R A MX QF HP k n pc L (.int y :: .int x :: st) :=
  fun p e s m args below meth c H locs ls B hP hS hl => lv_icmp_lt B.1 B.2.1 hd ht (fun q => KT q p e s m args below meth c H locs ls B hP hS hl) (fun q => KF q p e s m args below meth c H locs ls B hP hS hl)
theorem g_if_lt {x : Int32} {off : Int} {tgt : Nat} (hd : decode cc pc = .ok (.ifCond .lt off, 3)) (ht : (pc : Int) + off = (tgt : Int)) (KT : x < 0 → GG l D cl tys cc nL rt own R A MX QF HP k n tgt L st) (KF : ¬ x < 0 → GG l D cl tys cc nL rt own R A MX QF HP k n (pc + 3) L st) : GG l D cl tys cc nL rt own R A MX QF HP k n pc L (.int x :: st) :=
  fun p e s m args below meth c H locs ls B hP hS hl => lv_if_lt B.1 B.2.1 hd ht (fun q => KT q p e s m args below meth c H locs ls B hP hS hl) (fun q => KF q p e s m args below meth c H locs ls B hP hS hl)
theorem g_icmp_ge {x y : Int32} {off : Int} {tgt : Nat} (hd : decode cc pc = .ok (.if_icmp .ge off, 3)) (ht : (pc : Int) + off = (tgt : Int)) (KT : y ≤ x → GG l D cl tys cc nL rt own R A MX QF HP k n tgt L st) (KF : ¬ y ≤ x → GG l D cl tys cc nL rt own R A MX QF HP k n (pc + 3) L st) : GG l D cl tys cc nL rt own R A MX QF HP k n pc L (.int y :: .int x :: st) :=
  fun p e s m args below meth c H locs ls B hP hS hl => lv_icmp_ge B.1 B.2.1 hd ht (fun q => KT q p e s m args below meth c H locs ls B hP hS hl) (fun q => KF q p e s m args below meth c H locs ls B hP hS hl)
theorem g_if_ge {x : Int32} {off : Int} {tgt : Nat} (hd : decode cc pc = .ok (.ifCond .ge off, 3)) (ht : (pc : Int) + off = (tgt : Int)) (KT : 0 ≤ x → GG l D cl tys cc nL rt own R A MX QF HP k n tgt L st) (KF : ¬ 0 ≤ x → GG l D cl tys cc nL rt own R A MX QF HP k n (pc + 3) L st) : GG l D cl tys cc nL rt own R A MX QF HP k n pc L (.int x :: st) :=
  fun p e s m args below meth c H locs ls B hP hS hl => lv_if_ge B.1 B.2.1 hd ht (fun q => KT q p e s m args below meth c H locs ls B hP hS hl) (fun q => KF q p e s m args below meth c H locs ls B hP hS hl)
theorem g_icmp_gt {x y : Int32} {off : Int} {tgt : Nat} (hd : decode cc pc = .ok (.if_icmp .gt off, 3)) (ht : (pc : Int) + off = (tgt : Int)) (KT : y < x → GG l D cl tys cc nL rt own R A MX QF HP k n tgt L st) (KF : ¬ y < x → GG l D cl tys cc nL rt own R A MX QF HP k n (pc + 3) L st) : GG l D cl tys cc nL rt own R A MX QF HP k n pc L (.int y :: .int x :: st) :=
  fun p e s m args below meth c H locs ls B hP hS hl => lv_icmp_gt B.1 B.2.1 hd ht (fun q => KT q p e s m args below meth c H locs ls B hP hS hl) (fun q => KF q p e s m args below meth c H locs ls B hP hS hl)
theorem g_if_gt {x : Int32} {off : Int} {tgt : Nat} (hd : decode cc pc = .ok (.ifCond .gt off, 3)) (ht : (pc : Int) + off = (tgt : Int)) (KT : 0 < x → GG l D cl tys cc nL rt own R A MX QF HP k n tgt L st) (KF : ¬ 0 < x → GG l D cl tys cc nL rt own R A MX QF HP k n (pc + 3) L st) : GG l D cl tys cc nL rt own R A MX QF HP k n pc L (.int x :: st) :=
  fun p e s m args below meth c H locs ls B hP hS hl => lv_if_gt B.1 B.2.1 hd ht (fun q => KT q p e s m args below meth c H locs ls B hP hS hl) (fun q => KF q p e s m args below meth c H locs ls B hP hS hl)
theorem g_icmp_le {x y : Int32} {off : Int} {tgt : Nat} (hd : decode cc pc = .ok (.if_icmp .le off, 3)) (ht : (pc : Int) + off = (tgt : Int)) (KT : x ≤ y → GG l D cl tys cc nL rt own R A MX QF HP k n tgt L st) (KF : ¬ x ≤ y → GG l D cl tys cc nL rt own R A MX QF HP k n (pc + 3) L st) : GG l D cl tys cc nL rt own R A MX QF HP k n pc L (.int y :: .int x :: st) :=
  fun p e s m args below meth c H locs ls B hP hS hl => lv_icmp_le B.1 B.2.1 hd ht (fun q => KT q p e s m args below meth c H locs ls B hP hS hl) (fun q => KF q p e s m args below meth c H locs ls B hP hS hl)
theorem g_if_le {x : Int32} {off : Int} {tgt : Nat} (hd : decode cc pc = .ok (.ifCond .le off, 3)) (ht : (pc : Int) + off = (tgt : Int)) (KT : x ≤ 0 → GG l D cl tys cc nL rt own R A MX QF HP k n tgt L st) (KF : ¬ x ≤ 0 → GG l D cl tys cc nL rt own R A MX QF HP k n (pc + 3) L st) : GG l D cl tys cc nL rt own R A MX QF HP k n pc L (.int x :: st) :=
  fun p e s m args below meth c H locs ls B hP hS hl => lv_if_le B.1 B.2.1 hd ht (fun q => KT q p e s m args below meth c H locs ls B hP hS hl) (fun q => KF q p e s m args below meth c H locs ls B hP hS hl)
theorem g_icmp_eq_n {a b : Nat} {off : Int} {tgt : Nat} (hd : decode cc pc = .ok (.if_icmp .eq off, 3)) (ht : (pc : Int) + off = (tgt : Int)) (ha : a < 2 ^ 31) (hb : b < 2 ^ 31) (KT : a = b → GG l D cl tys cc nL rt own R A MX QF HP k n tgt L st) (KF : ¬ a = b → GG l D cl tys cc nL rt own R A MX QF HP k n (pc + 3) L st) : GG l D cl tys cc nL rt own R A MX QF HP k n pc L (.int (nI b) :: .int (nI a) :: st) :=
  g_icmp_eq hd ht (fun q => KT ((nI_eq ha hb).mp q)) (fun q => KF (fun h => q ((nI_eq ha hb).mpr h)))
theorem g_icmp_ne_n {a b : Nat} {off : Int} {tgt : Nat} (hd : decode cc pc = .ok (.if_icmp .ne off, 3)) (ht : (pc : Int) + off = (tgt : Int)) (ha : a < 2 ^ 31) (hb : b < 2 ^ 31) (KT : ¬ a = b → GG l D cl tys cc nL rt own R A MX QF HP k n tgt L st) (KF : a = b → GG l D cl tys cc nL rt own R A MX QF HP k n (pc + 3) L st) : GG l D cl tys cc nL rt own R A MX QF HP k n pc L (.int (nI b) :: .int (nI a) :: st) :=
  g_icmp_ne hd ht (fun q => KT (fun h => q ((nI_eq ha hb).mpr h))) (fun q => KF ((nI_eq ha hb).mp q))
theorem g_icmp_lt_n {a b : Nat} {off : Int} {tgt : Nat} (hd : decode cc pc = .ok (.if_icmp .lt off, 3)) (ht : (pc : Int) + off = (tgt : Int)) (ha : a < 2 ^ 31) (hb : b < 2 ^ 31) (KT : a < b → GG l D cl tys cc nL rt own R A MX QF HP k n tgt L st) (KF : b ≤ a → GG l D cl tys cc nL rt own R A MX QF HP k n (pc + 3) L st) : GG l D cl tys cc nL rt own R A MX QF HP k n pc L (.int (nI b) :: .int (nI a) :: st) :=
  g_icmp_lt hd ht (fun q => KT ((nI_ltI ha hb).mp q)) (fun q => KF (by have := mt (nI_ltI ha hb).mpr q; omega))
theorem g_icmp_ge_n {a b : Nat} {off : Int} {tgt : Nat} (hd : decode cc pc = .ok (.if_icmp .ge off, 3)) (ht : (pc : Int) + off = (tgt : Int)) (ha : a < 2 ^ 31) (hb : b < 2 ^ 31) (KT : b ≤ a → GG l D cl tys cc nL rt own R A MX QF HP k n tgt L st) (KF : a < b → GG l D cl tys cc nL rt own R A MX QF HP k n (pc + 3) L st) : GG l D cl tys cc nL rt own R A MX QF HP k n pc L (.int (nI b) :: .int (nI a) :: st) :=
  g_icmp_ge hd ht (fun q => KT ((nI_leI hb ha).mp q)) (fun q => KF (by have := mt (nI_leI hb ha).mpr q; omega))
theorem g_icmp_gt_n {a b : Nat} {off : Int} {tgt : Nat} (hd : decode cc pc = .ok (.if_icmp .gt off, 3)) (ht : (pc : Int) + off = (tgt : Int)) (ha : a < 2 ^ 31) (hb : b < 2 ^ 31) (KT : b < a → GG l D cl tys cc nL rt own R A MX QF HP k n tgt L st) (KF : a ≤ b → GG l D cl tys cc nL rt own R A MX QF HP k n (pc + 3) L st) : GG l D cl tys cc nL rt own R A MX QF HP k n pc L (.int (nI b) :: .int (nI a) :: st) :=
  g_icmp_gt hd ht (fun q => KT ((nI_ltI hb ha).mp q)) (fun q => KF (by have := mt (nI_ltI hb ha).mpr q; omega))
theorem g_icmp_le_n {a b : Nat} {off : Int} {tgt : Nat} (hd : decode cc pc = .ok (.if_icmp .le off, 3)) (ht : (pc : Int) + off = (tgt : Int)) (ha : a < 2 ^ 31) (hb : b < 2 ^ 31) (KT : a ≤ b → GG l D cl tys cc nL rt own R A MX QF HP k n tgt L st) (KF : b < a → GG l D cl tys cc nL rt own R A MX QF HP k n (pc + 3) L st) : GG l D cl tys cc nL rt own R A MX QF HP k n pc L (.int (nI b) :: .int (nI a) :: st) :=
  g_icmp_le hd ht (fun q => KT ((nI_leI ha hb).mp q)) (fun q => KF (by have := mt (nI_leI ha hb).mpr q; omega))
theorem g_if_eq_n {a : Nat} {off : Int} {tgt : Nat} (hd : decode cc pc = .ok (.ifCond .eq off, 3)) (ht : (pc : Int) + off = (tgt : Int)) (ha : a < 2 ^ 31) (KT : a = 0 → GG l D cl tys cc nL rt own R A MX QF HP k n tgt L st) (KF : ¬ a = 0 → GG l D cl tys cc nL rt own R A MX QF HP k n (pc + 3) L st) : GG l D cl tys cc nL rt own R A MX QF HP k n pc L (.int (nI a) :: st) :=
  g_if_eq hd ht (fun q => KT ((nI_eq ha (by decide)).mp (show nI a = nI 0 from q))) (fun q => KF (fun h => q (by rw [h]; rfl)))
theorem g_if_ne_n {a : Nat} {off : Int} {tgt : Nat} (hd : decode cc pc = .ok (.ifCond .ne off, 3)) (ht : (pc : Int) + off = (tgt : Int)) (ha : a < 2 ^ 31) (KT : ¬ a = 0 → GG l D cl tys cc nL rt own R A MX QF HP k n tgt L st) (KF : a = 0 → GG l D cl tys cc nL rt own R A MX QF HP k n (pc + 3) L st) : GG l D cl tys cc nL rt own R A MX QF HP k n pc L (.int (nI a) :: st) :=
  g_if_ne hd ht (fun q => KT (fun h => q (by rw [h]; rfl))) (fun q => KF ((nI_eq ha (by decide)).mp (show nI a = nI 0 from q)))
theorem g_if_le_n {a : Nat} {off : Int} {tgt : Nat} (hd : decode cc pc = .ok (.ifCond .le off, 3)) (ht : (pc : Int) + off = (tgt : Int)) (ha : a < 2 ^ 31) (KT : a = 0 → GG l D cl tys cc nL rt own R A MX QF HP k n tgt L st) (KF : 0 < a → GG l D cl tys cc nL rt own R A MX QF HP k n (pc + 3) L st) : GG l D cl tys cc nL rt own R A MX QF HP k n pc L (.int (nI a) :: st) :=
  g_if_le hd ht (fun q => KT (by have := (nI_leI ha (by decide : 0 < 2 ^ 31)).mp (show nI a ≤ nI 0 from q); omega)) (fun q => KF (by have := mt (nI_leI ha (by decide : 0 < 2 ^ 31)).mpr (show ¬ nI a ≤ nI 0 from q); omega))
theorem g_if_gt_n {a : Nat} {off : Int} {tgt : Nat} (hd : decode cc pc = .ok (.ifCond .gt off, 3)) (ht : (pc : Int) + off = (tgt : Int)) (ha : a < 2 ^ 31) (KT : 0 < a → GG l D cl tys cc nL rt own R A MX QF HP k n tgt L st) (KF : a = 0 → GG l D cl tys cc nL rt own R A MX QF HP k n (pc + 3) L st) : GG l D cl tys cc nL rt own R A MX QF HP k n pc L (.int (nI a) :: st) :=
  g_if_gt hd ht (fun q => KT ((nI_ltI (by decide : 0 < 2 ^ 31) ha).mp (show nI 0 < nI a from q))) (fun q => KF (by have := mt (nI_ltI (by decide : 0 < 2 ^ 31) ha).mpr (show ¬ nI 0 < nI a from q); omega))
theorem g_if_lt_n {a : Nat} {off : Int} {tgt : Nat} (hd : decode cc pc = .ok (.ifCond .lt off, 3)) (ht : (pc : Int) + off = (tgt : Int)) (ha : a < 2 ^ 31) (KF : GG l D cl tys cc nL rt own R A MX QF HP k n (pc + 3) L st) : GG l D cl tys cc nL rt own R A MX QF HP k n pc L (.int (nI a) :: st) :=
  g_if_lt hd ht (fun q => absurd q (nI_pos ha)) (fun _ => KF)
theorem g_if_ge_n {a : Nat} {off : Int} {tgt : Nat} (hd : decode cc pc = .ok (.ifCond .ge off, 3)) (ht : (pc : Int) + off = (tgt : Int)) (ha : a < 2 ^ 31) (KT : GG l D cl tys cc nL rt own R A MX QF HP k n tgt L st) : GG l D cl tys cc nL rt own R A MX QF HP k n pc L (.int (nI a) :: st) :=
  g_if_ge hd ht (fun _ => KT) (fun q => absurd (nI_pos' ha) q)
theorem g_if_eq_b {b : Bool} {off : Int} {tgt : Nat} (hd : decode cc pc = .ok (.ifCond .eq off, 3)) (ht : (pc : Int) + off = (tgt : Int)) (KT : b = false → GG l D cl tys cc nL rt own R A MX QF HP k n tgt L st) (KF : b = true → GG l D cl tys cc nL rt own R A MX QF HP k n (pc + 3) L st) : GG l D cl tys cc nL rt own R A MX QF HP k n pc L (.int (bI b) :: st) :=
  g_if_eq hd ht (fun q => KT (bI_eq0.mp q)) (fun q => KF (by cases b; exact absurd rfl q; rfl))
theorem g_if_ne_b {b : Bool} {off : Int} {tgt : Nat} (hd : decode cc pc = .ok (.ifCond .ne off, 3)) (ht : (pc : Int) + off = (tgt : Int)) (KT : b = true → GG l D cl tys cc nL rt own R A MX QF HP k n tgt L st) (KF : b = false → GG l D cl tys cc nL rt own R A MX QF HP k n (pc + 3) L st) : GG l D cl tys cc nL rt own R A MX QF HP k n pc L (.int (bI b) :: st) :=
  g_if_ne hd ht (fun q => KT (by cases b; exact absurd rfl q; rfl)) (fun q => KF (bI_eq0.mp q))
theorem bI_inj {a b : Bool} : bI a = bI b ↔ a = b := by cases a <;> cases b <;> decide
theorem g_icmp_ne_b {a b : Bool} {off : Int} {tgt : Nat} (hd : decode cc pc = .ok (.if_icmp .ne off, 3)) (ht : (pc : Int) + off = (tgt : Int)) (KT : ¬ a = b → GG l D cl tys cc nL rt own R A MX QF HP k n tgt L st) (KF : a = b → GG l D cl tys cc nL rt own R A MX QF HP k n (pc + 3) L st) : GG l D cl tys cc nL rt own R A MX QF HP k n pc L (.int (bI b) :: .int (bI a) :: st) :=
  g_icmp_ne hd ht (fun q => KT (fun h => q (bI_inj.mpr h))) (fun q => KF (bI_inj.mp q))
theorem g_icmp_eq_b {a b : Bool} {off : Int} {tgt : Nat} (hd : decode cc pc = .ok (.if_icmp .eq off, 3)) (ht : (pc : Int) + off = (tgt : Int)) (KT : a = b → GG l D cl tys cc nL rt own R A MX QF HP k n tgt L st) (KF : ¬ a = b → GG l D cl tys cc nL rt own R A MX QF HP k n (pc + 3) L st) : GG l D cl tys cc nL rt own R A MX QF HP k n pc L (.int (bI b) :: .int (bI a) :: st) :=
  g_icmp_eq hd ht (fun q => KT (bI_inj.mp q)) (fun q => KF (fun h => q (bI_inj.mpr h)))
theorem g_tableIn {dflt lo hi : Int} {offs : Array Int} {len : Nat} {x : Int32} {off : Int} {tgt : Nat} (hd : decode cc pc = .ok (.tableswitch dflt lo hi offs, len)) (h1 : ¬ x.toInt < lo) (h2 : ¬ hi < x.toInt) (ho : offs[(x.toInt - lo).toNat]? = some off) (ht : (pc : Int) + off = (tgt : Int)) (K : GG l D cl tys cc nL rt own R A MX QF HP k n tgt L st) : GG l D cl tys cc nL rt own R A MX QF HP k n pc L (.int x :: st) :=
  fun p e s m args below meth c H locs ls B hP hS hl => lv_tableIn B.1 B.2.1 hd h1 h2 ho ht (K p e s m args below meth c H locs ls B hP hS hl)
theorem g_tableOut {dflt lo hi : Int} {offs : Array Int} {len : Nat} {x : Int32} {tgt : Nat} (hd : decode cc pc = .ok (.tableswitch dflt lo hi offs, len)) (h : x.toInt < lo ∨ hi < x.toInt) (ht : (pc : Int) + dflt = (tgt : Int)) (K : GG l D cl tys cc nL rt own R A MX QF HP k n tgt L st) : GG l D cl tys cc nL rt own R A MX QF HP k n pc L (.int x :: st) :=
  fun p e s m args below meth c H locs ls B hP hS hl => lv_tableOut B.1 B.2.1 hd h ht (K p e s m args below meth c H locs ls B hP hS hl)
/-- a tableswitch from lo on at a small number -/
theorem g_table_n {dflt lo hi : Int} {offs : Array Int} {len a : Nat} {off : Int} {tgt : Nat} (hd : decode cc pc = .ok (.tableswitch dflt lo hi offs, len)) (ha : a < 2 ^ 31) (h1 : lo ≤ (a : Int)) (h2 : (a : Int) ≤ hi) (ho : offs[((a : Int) - lo).toNat]? = some off) (ht : (pc : Int) + off = (tgt : Int)) (K : GG l D cl tys cc nL rt own R A MX QF HP k n tgt L st) : GG l D cl tys cc nL rt own R A MX QF HP k n pc L (.int (nI a) :: st) :=
  g_tableIn hd (by rw [nI_toInt ha]; omega) (by rw [nI_toInt ha]; omega) (by rw [nI_toInt ha]; exact ho) ht K
theorem g_tableOut_n {dflt lo hi : Int} {offs : Array Int} {len a : Nat} {tgt : Nat} (hd : decode cc pc = .ok (.tableswitch dflt lo hi offs, len)) (ha : a < 2 ^ 31) (h : (a : Int) < lo ∨ hi < (a : Int)) (ht : (pc : Int) + dflt = (tgt : Int)) (K : GG l D cl tys cc nL rt own R A MX QF HP k n tgt L st) : GG l D cl tys cc nL rt own R A MX QF HP k n pc L (.int (nI a) :: st) :=
  g_tableOut hd (by rw [nI_toInt ha]; exact h) ht K
end GGrows
