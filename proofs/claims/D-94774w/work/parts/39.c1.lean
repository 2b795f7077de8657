/-! THE COMPONENT, 1: words of calls; the course and its cells -/
set_option maxRecDepth 100000
theorem lw_U {own : String} {idx : Nat} {C owner : String} {x y : MethodName} {b : ByteArray} {L : Nat} {r : Option FieldType} (h1 : Cond.methodLink own idx x ∈ lw_all) (h2 : Cond.sameMethod x.cls owner x.name x.desc ∈ lw_all) (h3 : Cond.selects C x y ∈ lw_all) (h4 : Cond.instanceMethod y ∈ lw_all) (h5 : Cond.initialized y.cls ∈ lw_all) (h6 : Cond.code y b L r ∈ lw_all) : GoodIn lw_all (va_wsU own idx C owner x y (ws_ y b L r)) := by
  refine lw_app ?_ (lw_meth h6)
  intro w hw
  simp only [List.mem_cons, List.not_mem_nil, or_false] at hw
  rcases hw with e | e | e | e | e
  · rw [e]; exact h1
  · rw [e]; exact h2
  · rw [e]; exact h3
  · rw [e]; exact h4
  · rw [e]; exact h5
theorem lw_P {own : String} {idx : Nat} {y : MethodName} {b : ByteArray} {L : Nat} {r : Option FieldType} (h1 : Cond.methodLink own idx y ∈ lw_all) (h2 : Cond.sameMethod y.cls y.cls y.name y.desc ∈ lw_all) (h3 : Cond.superclass own y.cls ∈ lw_all) (h4 : Cond.instanceMethod y ∈ lw_all) (h5 : Cond.initialized y.cls ∈ lw_all) (h6 : Cond.code y b L r ∈ lw_all) : GoodIn lw_all (va_wsSU own idx y (ws_ y b L r)) := by
  refine lw_app ?_ (lw_meth h6)
  intro w hw
  simp only [List.mem_cons, List.not_mem_nil, or_false] at hw
  rcases hw with e | e | e | e | e
  · rw [e]; exact h1
  · rw [e]; exact h2
  · rw [e]; exact h3
  · rw [e]; exact h4
  · rw [e]; exact h5
/-- the cell of a row, of an array of ints, of references -/
abbrev rwC (Y : Nat → ClassId) (f : Nat → Int64) : va_E := .inl (Y 1, 29, .inr (.inl f))
abbrev inC (Y : Nat → ClassId) (N : Nat) (f : Nat → Nat) : va_E := .inl (Y 0, N, .inl (fun j => nI (f j)))
abbrev rfC (c : ClassId) (N : Nat) (f : Nat → Option Nat) : va_E := .inl (c, N, .inr (.inr (.inr (.inr f))))
def slF (Y : Nat → ClassId) (ca : Nat → Nat) (slips : Nat → Nat → Nat) : va_W := (List.range 6).map (fun s => (ca (s + 7), inC Y 1830 (slips s)))
def rwF (Y : Nat → ClassId) (ra : Nat → Nat) (rows : Nat → Nat → Int64) : va_W := (List.range 156).map (fun r => (ra r, rwC Y (rows r)))
def CoO (ca ra : Nat → Nat) (b : Nat) (tk : Option Nat) (many used : Nat) (liar : Int32) : va_E := .inr (3, [.ref (ca 1), .ref (ca 2), .ref (ca 3), .ref (ca 4), .ref (ra (b + 69)), .ref (ca 5), .ref (ca 6), va_rf tk, .int (nI many), .int (nI used), .int liar])
def CoL (Y : Nat → ClassId) (ca ra : Nat → Nat) (b : Nat) (tk : Option Nat) (many used : Nat) (liar : Int32) (xs ys heaps : Nat → Nat) (slips : Nat → Nat → Nat) (rows : Nat → Nat → Int64) (W : va_W) : va_W :=
  (ca 0, CoO ca ra b tk many used liar) :: (ca 1, inC Y 1830 xs) :: (ca 2, inC Y 1830 ys) :: (ca 3, inC Y 7300 heaps) :: (ca 4, rfC (Y 5) 6 (fun j => some (ca (j + 7)))) :: (ca 5, rfC (Y 6) 21 (fun j => some (ra (b + j)))) :: (ca 6, rfC (Y 6) 48 (fun j => some (ra (b + 21 + j)))) :: (slF Y ca slips ++ (rwF Y ra rows ++ W))
theorem fam_get {α : Type} (g : Nat → α) {N r : Nat} (h : r < N) (W : List α) : ((List.range N).map g ++ W)[r]? = some (g r) := by
  rw [List.getElem?_append_left (by simpa using h), List.getElem?_map, List.getElem?_range h]; rfl
theorem fam_past {α : Type} (g : Nat → α) {N r : Nat} (W : List α) : ((List.range N).map g ++ W)[r + N]? = W[r]? := by
  rw [List.getElem?_append_right (by simp)]
  congr 1
  simp
theorem fam_set {α : Type} (g g2 : Nat → α) {N r : Nat} {x : α} (h : r < N) (W : List α) (hr : g2 r = x) (hn : ∀ j, ¬ j = r → g2 j = g j) : ((List.range N).map g ++ W).set r x = (List.range N).map g2 ++ W := by
  rw [List.set_append_left _ _ (by simpa using h)]
  congr 1
  apply List.ext_getElem?
  intro i
  rw [List.getElem?_set]
  by_cases e : r = i
  · subst e
    rw [if_pos rfl, if_pos (by simpa using h), List.getElem?_map, List.getElem?_range h]
    exact congrArg some hr.symm
  · rw [if_neg e, List.getElem?_map, List.getElem?_map]
    cases hi : (List.range N)[i]? with
    | none => rfl
    | some j =>
      obtain ⟨hl, hj⟩ := List.getElem?_eq_some_iff.mp hi
      have : i = j := by rw [← hj]; simp
      subst this
      exact congrArg some (hn i (fun q => e q.symm)).symm
theorem fam_set2 {α : Type} (g : Nat → α) {N r : Nat} {x : α} (W : List α) : ((List.range N).map g ++ W).set (r + N) x = (List.range N).map g ++ W.set r x := by
  rw [List.set_append_right _ _ (by simp)]
  congr 1
  simp
section
variable {Y : Nat → ClassId} {ca ra : Nat → Nat} {b : Nat} {tk : Option Nat} {many used : Nat} {liar : Int32} {xs ys heaps : Nat → Nat} {slips : Nat → Nat → Nat} {rows : Nat → Nat → Int64} {W : va_W}
theorem CoL_slip {s : Nat} (hs : s < 6) : (CoL Y ca ra b tk many used liar xs ys heaps slips rows W)[s + 7]? = some (ca (s + 7), inC Y 1830 (slips s)) := fam_get _ hs _
theorem CoL_row {r : Nat} (hr : r < 156) : (CoL Y ca ra b tk many used liar xs ys heaps slips rows W)[r + 13]? = some (ra r, rwC Y (rows r)) := by
  show (slF Y ca slips ++ (rwF Y ra rows ++ W))[r + 6]? = _
  exact (fam_past (N := 6) _ _).trans (fam_get _ hr _)
theorem CoL_setrow {r : Nat} (hr : r < 156) (u : Nat → Int64) : (CoL Y ca ra b tk many used liar xs ys heaps slips rows W).set (r + 13) (ra r, rwC Y u) = CoL Y ca ra b tk many used liar xs ys heaps slips (up rows r u) W := by
  show _ :: _ :: _ :: _ :: _ :: _ :: _ :: (slF Y ca slips ++ (rwF Y ra rows ++ W)).set (r + 6) (ra r, rwC Y u) = _
  unfold CoL
  congr 7
  unfold slF
  rw [fam_set2]
  congr 1
  exact fam_set _ (fun j => (ra j, rwC Y (up rows r u j))) hr W (by rw [up_s]) (fun j hj => by rw [up_n hj])
theorem CoL_setslip {s : Nat} (hs : s < 6) (u : Nat → Nat) : (CoL Y ca ra b tk many used liar xs ys heaps slips rows W).set (s + 7) (ca (s + 7), inC Y 1830 u) = CoL Y ca ra b tk many used liar xs ys heaps (up slips s u) rows W := by
  show _ :: _ :: _ :: _ :: _ :: _ :: _ :: (slF Y ca slips ++ (rwF Y ra rows ++ W)).set s (ca (s + 7), inC Y 1830 u) = _
  unfold CoL
  congr 7
  exact fam_set _ (fun j => (ca (j + 7), inC Y 1830 (up slips s u j))) hs _ (by rw [up_s]) (fun j hj => by rw [up_n hj])
theorem co_tl {q : Nat × va_E} (h : q ∈ W) : q ∈ CoL Y ca ra b tk many used liar xs ys heaps slips rows W := by
  unfold CoL
  iterate 7 apply List.mem_cons_of_mem
  exact List.mem_append_right _ (List.mem_append_right _ h)
end
section CoRows
variable {l : Launch} {D : va_G} {Y : Nat → ClassId} {A : Nat → Prop} {ca ra : Nat → Nat} {b : Nat} {tk : Option Nat} {many used : Nat} {liar : Int32} {xs ys heaps : Nat → Nat} {slips : Nat → Nat → Nat} {rows : Nat → Nat → Int64} {W : va_W}
variable {cc : ByteArray} {nL : Nat} {rt : Option FieldType} {own : String} {R : Room} {MX : Heap → Method → Code → Prop} {QF : List Frame → Array Value → State → State → Prop} {k n pc mc ms : Nat} {L L' : List (Nat × Value)} {st : List Value}
theorem co_get_x {idx : Nat} (hq : Cond.fieldLink own idx RX3 "x" "[I" ∈ lw_all) (hd : decode cc pc = .ok (.getfield idx, 3)) (K : GG l D clX (tyX Y) cc nL rt own R A MX QF (HW D clX A (CoL Y ca ra b tk many used liar xs ys heaps slips rows W)) k n (pc + 3) L (.ref (ca 1) :: st)) : GG l D clX (tyX Y) cc nL rt own R A MX QF (HW D clX A (CoL Y ca ra b tk many used liar xs ys heaps slips rows W)) k n pc L (.ref (ca 0) :: st) :=
  g_getf (C := RX3) (T := TX3) (N := 11) 0 in_X3 rfl (by decide) hq rfl hd (hw_ix (q0 := 0) rfl) rfl K
theorem co_get_xN {idx : Nat} {host : String} (hq : Cond.fieldLinkNest own idx RX3 "x" "[I" host ∈ lw_tbl) (hd : decode cc pc = .ok (.getfield idx, 3)) (K : GG l D clX (tyX Y) cc nL rt own R A MX QF (HW D clX A (CoL Y ca ra b tk many used liar xs ys heaps slips rows W)) k n (pc + 3) L (.ref (ca 1) :: st)) : GG l D clX (tyX Y) cc nL rt own R A MX QF (HW D clX A (CoL Y ca ra b tk many used liar xs ys heaps slips rows W)) k n pc L (.ref (ca 0) :: st) :=
  g_getfN (C := RX3) (T := TX3) (N := 11) 0 in_X3 rfl (by decide) hq rfl hd (hw_ix (q0 := 0) rfl) rfl K
theorem co_get_y {idx : Nat} (hq : Cond.fieldLink own idx RX3 "y" "[I" ∈ lw_all) (hd : decode cc pc = .ok (.getfield idx, 3)) (K : GG l D clX (tyX Y) cc nL rt own R A MX QF (HW D clX A (CoL Y ca ra b tk many used liar xs ys heaps slips rows W)) k n (pc + 3) L (.ref (ca 2) :: st)) : GG l D clX (tyX Y) cc nL rt own R A MX QF (HW D clX A (CoL Y ca ra b tk many used liar xs ys heaps slips rows W)) k n pc L (.ref (ca 0) :: st) :=
  g_getf (C := RX3) (T := TX3) (N := 11) 1 in_X3 rfl (by decide) hq rfl hd (hw_ix (q0 := 0) rfl) rfl K
theorem co_get_yN {idx : Nat} {host : String} (hq : Cond.fieldLinkNest own idx RX3 "y" "[I" host ∈ lw_tbl) (hd : decode cc pc = .ok (.getfield idx, 3)) (K : GG l D clX (tyX Y) cc nL rt own R A MX QF (HW D clX A (CoL Y ca ra b tk many used liar xs ys heaps slips rows W)) k n (pc + 3) L (.ref (ca 2) :: st)) : GG l D clX (tyX Y) cc nL rt own R A MX QF (HW D clX A (CoL Y ca ra b tk many used liar xs ys heaps slips rows W)) k n pc L (.ref (ca 0) :: st) :=
  g_getfN (C := RX3) (T := TX3) (N := 11) 1 in_X3 rfl (by decide) hq rfl hd (hw_ix (q0 := 0) rfl) rfl K
theorem co_get_heaps {idx : Nat} (hq : Cond.fieldLink own idx RX3 "heaps" "[I" ∈ lw_all) (hd : decode cc pc = .ok (.getfield idx, 3)) (K : GG l D clX (tyX Y) cc nL rt own R A MX QF (HW D clX A (CoL Y ca ra b tk many used liar xs ys heaps slips rows W)) k n (pc + 3) L (.ref (ca 3) :: st)) : GG l D clX (tyX Y) cc nL rt own R A MX QF (HW D clX A (CoL Y ca ra b tk many used liar xs ys heaps slips rows W)) k n pc L (.ref (ca 0) :: st) :=
  g_getf (C := RX3) (T := TX3) (N := 11) 2 in_X3 rfl (by decide) hq rfl hd (hw_ix (q0 := 0) rfl) rfl K
theorem co_get_heapsN {idx : Nat} {host : String} (hq : Cond.fieldLinkNest own idx RX3 "heaps" "[I" host ∈ lw_tbl) (hd : decode cc pc = .ok (.getfield idx, 3)) (K : GG l D clX (tyX Y) cc nL rt own R A MX QF (HW D clX A (CoL Y ca ra b tk many used liar xs ys heaps slips rows W)) k n (pc + 3) L (.ref (ca 3) :: st)) : GG l D clX (tyX Y) cc nL rt own R A MX QF (HW D clX A (CoL Y ca ra b tk many used liar xs ys heaps slips rows W)) k n pc L (.ref (ca 0) :: st) :=
  g_getfN (C := RX3) (T := TX3) (N := 11) 2 in_X3 rfl (by decide) hq rfl hd (hw_ix (q0 := 0) rfl) rfl K
theorem co_get_slips {idx : Nat} (hq : Cond.fieldLink own idx RX3 "slips" "[[I" ∈ lw_all) (hd : decode cc pc = .ok (.getfield idx, 3)) (K : GG l D clX (tyX Y) cc nL rt own R A MX QF (HW D clX A (CoL Y ca ra b tk many used liar xs ys heaps slips rows W)) k n (pc + 3) L (.ref (ca 4) :: st)) : GG l D clX (tyX Y) cc nL rt own R A MX QF (HW D clX A (CoL Y ca ra b tk many used liar xs ys heaps slips rows W)) k n pc L (.ref (ca 0) :: st) :=
  g_getf (C := RX3) (T := TX3) (N := 11) 3 in_X3 rfl (by decide) hq rfl hd (hw_ix (q0 := 0) rfl) rfl K
theorem co_get_slipsN {idx : Nat} {host : String} (hq : Cond.fieldLinkNest own idx RX3 "slips" "[[I" host ∈ lw_tbl) (hd : decode cc pc = .ok (.getfield idx, 3)) (K : GG l D clX (tyX Y) cc nL rt own R A MX QF (HW D clX A (CoL Y ca ra b tk many used liar xs ys heaps slips rows W)) k n (pc + 3) L (.ref (ca 4) :: st)) : GG l D clX (tyX Y) cc nL rt own R A MX QF (HW D clX A (CoL Y ca ra b tk many used liar xs ys heaps slips rows W)) k n pc L (.ref (ca 0) :: st) :=
  g_getfN (C := RX3) (T := TX3) (N := 11) 3 in_X3 rfl (by decide) hq rfl hd (hw_ix (q0 := 0) rfl) rfl K
theorem co_get_all {idx : Nat} (hq : Cond.fieldLink own idx RX3 "all" "[J" ∈ lw_all) (hd : decode cc pc = .ok (.getfield idx, 3)) (K : GG l D clX (tyX Y) cc nL rt own R A MX QF (HW D clX A (CoL Y ca ra b tk many used liar xs ys heaps slips rows W)) k n (pc + 3) L (.ref (ra (b + 69)) :: st)) : GG l D clX (tyX Y) cc nL rt own R A MX QF (HW D clX A (CoL Y ca ra b tk many used liar xs ys heaps slips rows W)) k n pc L (.ref (ca 0) :: st) :=
  g_getf (C := RX3) (T := TX3) (N := 11) 4 in_X3 rfl (by decide) hq rfl hd (hw_ix (q0 := 0) rfl) rfl K
theorem co_get_allN {idx : Nat} {host : String} (hq : Cond.fieldLinkNest own idx RX3 "all" "[J" host ∈ lw_tbl) (hd : decode cc pc = .ok (.getfield idx, 3)) (K : GG l D clX (tyX Y) cc nL rt own R A MX QF (HW D clX A (CoL Y ca ra b tk many used liar xs ys heaps slips rows W)) k n (pc + 3) L (.ref (ra (b + 69)) :: st)) : GG l D clX (tyX Y) cc nL rt own R A MX QF (HW D clX A (CoL Y ca ra b tk many used liar xs ys heaps slips rows W)) k n pc L (.ref (ca 0) :: st) :=
  g_getfN (C := RX3) (T := TX3) (N := 11) 4 in_X3 rfl (by decide) hq rfl hd (hw_ix (q0 := 0) rfl) rfl K
theorem co_get_left {idx : Nat} (hq : Cond.fieldLink own idx RX3 "left" "[[J" ∈ lw_all) (hd : decode cc pc = .ok (.getfield idx, 3)) (K : GG l D clX (tyX Y) cc nL rt own R A MX QF (HW D clX A (CoL Y ca ra b tk many used liar xs ys heaps slips rows W)) k n (pc + 3) L (.ref (ca 5) :: st)) : GG l D clX (tyX Y) cc nL rt own R A MX QF (HW D clX A (CoL Y ca ra b tk many used liar xs ys heaps slips rows W)) k n pc L (.ref (ca 0) :: st) :=
  g_getf (C := RX3) (T := TX3) (N := 11) 5 in_X3 rfl (by decide) hq rfl hd (hw_ix (q0 := 0) rfl) rfl K
theorem co_get_leftN {idx : Nat} {host : String} (hq : Cond.fieldLinkNest own idx RX3 "left" "[[J" host ∈ lw_tbl) (hd : decode cc pc = .ok (.getfield idx, 3)) (K : GG l D clX (tyX Y) cc nL rt own R A MX QF (HW D clX A (CoL Y ca ra b tk many used liar xs ys heaps slips rows W)) k n (pc + 3) L (.ref (ca 5) :: st)) : GG l D clX (tyX Y) cc nL rt own R A MX QF (HW D clX A (CoL Y ca ra b tk many used liar xs ys heaps slips rows W)) k n pc L (.ref (ca 0) :: st) :=
  g_getfN (C := RX3) (T := TX3) (N := 11) 5 in_X3 rfl (by decide) hq rfl hd (hw_ix (q0 := 0) rfl) rfl K
theorem co_get_pool {idx : Nat} (hq : Cond.fieldLink own idx RX3 "pool" "[[J" ∈ lw_all) (hd : decode cc pc = .ok (.getfield idx, 3)) (K : GG l D clX (tyX Y) cc nL rt own R A MX QF (HW D clX A (CoL Y ca ra b tk many used liar xs ys heaps slips rows W)) k n (pc + 3) L (.ref (ca 6) :: st)) : GG l D clX (tyX Y) cc nL rt own R A MX QF (HW D clX A (CoL Y ca ra b tk many used liar xs ys heaps slips rows W)) k n pc L (.ref (ca 0) :: st) :=
  g_getf (C := RX3) (T := TX3) (N := 11) 6 in_X3 rfl (by decide) hq rfl hd (hw_ix (q0 := 0) rfl) rfl K
theorem co_get_poolN {idx : Nat} {host : String} (hq : Cond.fieldLinkNest own idx RX3 "pool" "[[J" host ∈ lw_tbl) (hd : decode cc pc = .ok (.getfield idx, 3)) (K : GG l D clX (tyX Y) cc nL rt own R A MX QF (HW D clX A (CoL Y ca ra b tk many used liar xs ys heaps slips rows W)) k n (pc + 3) L (.ref (ca 6) :: st)) : GG l D clX (tyX Y) cc nL rt own R A MX QF (HW D clX A (CoL Y ca ra b tk many used liar xs ys heaps slips rows W)) k n pc L (.ref (ca 0) :: st) :=
  g_getfN (C := RX3) (T := TX3) (N := 11) 6 in_X3 rfl (by decide) hq rfl hd (hw_ix (q0 := 0) rfl) rfl K
theorem co_get_talk {idx : Nat} (hq : Cond.fieldLink own idx RX3 "talk" "LTwoSlips$Talk;" ∈ lw_all) (hd : decode cc pc = .ok (.getfield idx, 3)) (K : GG l D clX (tyX Y) cc nL rt own R A MX QF (HW D clX A (CoL Y ca ra b tk many used liar xs ys heaps slips rows W)) k n (pc + 3) L (va_rf tk :: st)) : GG l D clX (tyX Y) cc nL rt own R A MX QF (HW D clX A (CoL Y ca ra b tk many used liar xs ys heaps slips rows W)) k n pc L (.ref (ca 0) :: st) :=
  g_getf (C := RX3) (T := TX3) (N := 11) 7 in_X3 rfl (by decide) hq rfl hd (hw_ix (q0 := 0) rfl) rfl K
theorem co_get_talkN {idx : Nat} {host : String} (hq : Cond.fieldLinkNest own idx RX3 "talk" "LTwoSlips$Talk;" host ∈ lw_tbl) (hd : decode cc pc = .ok (.getfield idx, 3)) (K : GG l D clX (tyX Y) cc nL rt own R A MX QF (HW D clX A (CoL Y ca ra b tk many used liar xs ys heaps slips rows W)) k n (pc + 3) L (va_rf tk :: st)) : GG l D clX (tyX Y) cc nL rt own R A MX QF (HW D clX A (CoL Y ca ra b tk many used liar xs ys heaps slips rows W)) k n pc L (.ref (ca 0) :: st) :=
  g_getfN (C := RX3) (T := TX3) (N := 11) 7 in_X3 rfl (by decide) hq rfl hd (hw_ix (q0 := 0) rfl) rfl K
theorem co_get_many {idx : Nat} (hq : Cond.fieldLink own idx RX3 "many" "I" ∈ lw_all) (hd : decode cc pc = .ok (.getfield idx, 3)) (K : GG l D clX (tyX Y) cc nL rt own R A MX QF (HW D clX A (CoL Y ca ra b tk many used liar xs ys heaps slips rows W)) k n (pc + 3) L (.int (nI many) :: st)) : GG l D clX (tyX Y) cc nL rt own R A MX QF (HW D clX A (CoL Y ca ra b tk many used liar xs ys heaps slips rows W)) k n pc L (.ref (ca 0) :: st) :=
  g_getf (C := RX3) (T := TX3) (N := 11) 8 in_X3 rfl (by decide) hq rfl hd (hw_ix (q0 := 0) rfl) rfl K
theorem co_get_manyN {idx : Nat} {host : String} (hq : Cond.fieldLinkNest own idx RX3 "many" "I" host ∈ lw_tbl) (hd : decode cc pc = .ok (.getfield idx, 3)) (K : GG l D clX (tyX Y) cc nL rt own R A MX QF (HW D clX A (CoL Y ca ra b tk many used liar xs ys heaps slips rows W)) k n (pc + 3) L (.int (nI many) :: st)) : GG l D clX (tyX Y) cc nL rt own R A MX QF (HW D clX A (CoL Y ca ra b tk many used liar xs ys heaps slips rows W)) k n pc L (.ref (ca 0) :: st) :=
  g_getfN (C := RX3) (T := TX3) (N := 11) 8 in_X3 rfl (by decide) hq rfl hd (hw_ix (q0 := 0) rfl) rfl K
theorem co_get_used {idx : Nat} (hq : Cond.fieldLink own idx RX3 "used" "I" ∈ lw_all) (hd : decode cc pc = .ok (.getfield idx, 3)) (K : GG l D clX (tyX Y) cc nL rt own R A MX QF (HW D clX A (CoL Y ca ra b tk many used liar xs ys heaps slips rows W)) k n (pc + 3) L (.int (nI used) :: st)) : GG l D clX (tyX Y) cc nL rt own R A MX QF (HW D clX A (CoL Y ca ra b tk many used liar xs ys heaps slips rows W)) k n pc L (.ref (ca 0) :: st) :=
  g_getf (C := RX3) (T := TX3) (N := 11) 9 in_X3 rfl (by decide) hq rfl hd (hw_ix (q0 := 0) rfl) rfl K
theorem co_get_usedN {idx : Nat} {host : String} (hq : Cond.fieldLinkNest own idx RX3 "used" "I" host ∈ lw_tbl) (hd : decode cc pc = .ok (.getfield idx, 3)) (K : GG l D clX (tyX Y) cc nL rt own R A MX QF (HW D clX A (CoL Y ca ra b tk many used liar xs ys heaps slips rows W)) k n (pc + 3) L (.int (nI used) :: st)) : GG l D clX (tyX Y) cc nL rt own R A MX QF (HW D clX A (CoL Y ca ra b tk many used liar xs ys heaps slips rows W)) k n pc L (.ref (ca 0) :: st) :=
  g_getfN (C := RX3) (T := TX3) (N := 11) 9 in_X3 rfl (by decide) hq rfl hd (hw_ix (q0 := 0) rfl) rfl K
theorem co_get_liar {idx : Nat} (hq : Cond.fieldLink own idx RX3 "liar" "I" ∈ lw_all) (hd : decode cc pc = .ok (.getfield idx, 3)) (K : GG l D clX (tyX Y) cc nL rt own R A MX QF (HW D clX A (CoL Y ca ra b tk many used liar xs ys heaps slips rows W)) k n (pc + 3) L (.int liar :: st)) : GG l D clX (tyX Y) cc nL rt own R A MX QF (HW D clX A (CoL Y ca ra b tk many used liar xs ys heaps slips rows W)) k n pc L (.ref (ca 0) :: st) :=
  g_getf (C := RX3) (T := TX3) (N := 11) 10 in_X3 rfl (by decide) hq rfl hd (hw_ix (q0 := 0) rfl) rfl K
theorem co_get_liarN {idx : Nat} {host : String} (hq : Cond.fieldLinkNest own idx RX3 "liar" "I" host ∈ lw_tbl) (hd : decode cc pc = .ok (.getfield idx, 3)) (K : GG l D clX (tyX Y) cc nL rt own R A MX QF (HW D clX A (CoL Y ca ra b tk many used liar xs ys heaps slips rows W)) k n (pc + 3) L (.int liar :: st)) : GG l D clX (tyX Y) cc nL rt own R A MX QF (HW D clX A (CoL Y ca ra b tk many used liar xs ys heaps slips rows W)) k n pc L (.ref (ca 0) :: st) :=
  g_getfN (C := RX3) (T := TX3) (N := 11) 10 in_X3 rfl (by decide) hq rfl hd (hw_ix (q0 := 0) rfl) rfl K
theorem co_put_many {z : Nat} {idx : Nat} (hq : Cond.fieldLink own idx RX3 "many" "I" ∈ lw_all) (hd : decode cc pc = .ok (.putfield idx, 3)) (K : GG l D clX (tyX Y) cc nL rt own R A MX QF (HW D clX A (CoL Y ca ra b tk z used liar xs ys heaps slips rows W)) k n (pc + 3) L st) : GG l D clX (tyX Y) cc nL rt own R A MX QF (HW D clX A (CoL Y ca ra b tk many used liar xs ys heaps slips rows W)) k n pc L (.int (nI z) :: .ref (ca 0) :: st) :=
  w_putf (C := RX3) (T := TX3) (N := 11) (ty := .int) 8 in_X3 rfl (by decide) hq rfl rfl tyX3 tyX3_ok nmX3 (by decide +kernel) rfl rfl 0 rfl rfl (Nat.le_of_ble_eq_true rfl) hd K
theorem co_put_manyN {z : Nat} {idx : Nat} {host : String} (hq : Cond.fieldLinkNest own idx RX3 "many" "I" host ∈ lw_tbl) (hd : decode cc pc = .ok (.putfield idx, 3)) (K : GG l D clX (tyX Y) cc nL rt own R A MX QF (HW D clX A (CoL Y ca ra b tk z used liar xs ys heaps slips rows W)) k n (pc + 3) L st) : GG l D clX (tyX Y) cc nL rt own R A MX QF (HW D clX A (CoL Y ca ra b tk many used liar xs ys heaps slips rows W)) k n pc L (.int (nI z) :: .ref (ca 0) :: st) :=
  w_putfN (C := RX3) (T := TX3) (N := 11) (ty := .int) 8 in_X3 rfl (by decide) hq rfl rfl tyX3 tyX3_ok nmX3 (by decide +kernel) rfl rfl 0 rfl rfl (Nat.le_of_ble_eq_true rfl) hd K
theorem co_put_used {z : Nat} {idx : Nat} (hq : Cond.fieldLink own idx RX3 "used" "I" ∈ lw_all) (hd : decode cc pc = .ok (.putfield idx, 3)) (K : GG l D clX (tyX Y) cc nL rt own R A MX QF (HW D clX A (CoL Y ca ra b tk many z liar xs ys heaps slips rows W)) k n (pc + 3) L st) : GG l D clX (tyX Y) cc nL rt own R A MX QF (HW D clX A (CoL Y ca ra b tk many used liar xs ys heaps slips rows W)) k n pc L (.int (nI z) :: .ref (ca 0) :: st) :=
  w_putf (C := RX3) (T := TX3) (N := 11) (ty := .int) 9 in_X3 rfl (by decide) hq rfl rfl tyX3 tyX3_ok nmX3 (by decide +kernel) rfl rfl 0 rfl rfl (Nat.le_of_ble_eq_true rfl) hd K
theorem co_put_usedN {z : Nat} {idx : Nat} {host : String} (hq : Cond.fieldLinkNest own idx RX3 "used" "I" host ∈ lw_tbl) (hd : decode cc pc = .ok (.putfield idx, 3)) (K : GG l D clX (tyX Y) cc nL rt own R A MX QF (HW D clX A (CoL Y ca ra b tk many z liar xs ys heaps slips rows W)) k n (pc + 3) L st) : GG l D clX (tyX Y) cc nL rt own R A MX QF (HW D clX A (CoL Y ca ra b tk many used liar xs ys heaps slips rows W)) k n pc L (.int (nI z) :: .ref (ca 0) :: st) :=
  w_putfN (C := RX3) (T := TX3) (N := 11) (ty := .int) 9 in_X3 rfl (by decide) hq rfl rfl tyX3 tyX3_ok nmX3 (by decide +kernel) rfl rfl 0 rfl rfl (Nat.le_of_ble_eq_true rfl) hd K
theorem co_put_liar {z : Int32} {idx : Nat} (hq : Cond.fieldLink own idx RX3 "liar" "I" ∈ lw_all) (hd : decode cc pc = .ok (.putfield idx, 3)) (K : GG l D clX (tyX Y) cc nL rt own R A MX QF (HW D clX A (CoL Y ca ra b tk many used z xs ys heaps slips rows W)) k n (pc + 3) L st) : GG l D clX (tyX Y) cc nL rt own R A MX QF (HW D clX A (CoL Y ca ra b tk many used liar xs ys heaps slips rows W)) k n pc L (.int z :: .ref (ca 0) :: st) :=
  w_putf (C := RX3) (T := TX3) (N := 11) (ty := .int) 10 in_X3 rfl (by decide) hq rfl rfl tyX3 tyX3_ok nmX3 (by decide +kernel) rfl rfl 0 rfl rfl (Nat.le_of_ble_eq_true rfl) hd K
theorem co_put_liarN {z : Int32} {idx : Nat} {host : String} (hq : Cond.fieldLinkNest own idx RX3 "liar" "I" host ∈ lw_tbl) (hd : decode cc pc = .ok (.putfield idx, 3)) (K : GG l D clX (tyX Y) cc nL rt own R A MX QF (HW D clX A (CoL Y ca ra b tk many used z xs ys heaps slips rows W)) k n (pc + 3) L st) : GG l D clX (tyX Y) cc nL rt own R A MX QF (HW D clX A (CoL Y ca ra b tk many used liar xs ys heaps slips rows W)) k n pc L (.int z :: .ref (ca 0) :: st) :=
  w_putfN (C := RX3) (T := TX3) (N := 11) (ty := .int) 10 in_X3 rfl (by decide) hq rfl rfl tyX3 tyX3_ok nmX3 (by decide +kernel) rfl rfl 0 rfl rfl (Nat.le_of_ble_eq_true rfl) hd K
theorem co_put_talk {z : Nat} {idx : Nat} (hq : Cond.fieldLink own idx RX3 "talk" "LTwoSlips$Talk;" ∈ lw_all) (hd : decode cc pc = .ok (.putfield idx, 3)) (K : GG l D clX (tyX Y) cc nL rt own R A MX QF (HW D clX A (CoL Y ca ra b (some z) many used liar xs ys heaps slips rows W)) k n (pc + 3) L st) : GG l D clX (tyX Y) cc nL rt own R A MX QF (HW D clX A (CoL Y ca ra b tk many used liar xs ys heaps slips rows W)) k n pc L (.ref z :: .ref (ca 0) :: st) :=
  w_putf (C := RX3) (T := TX3) (N := 11) (ty := .object "TwoSlips$Talk") 7 in_X3 rfl (by decide) hq rfl rfl tyX3 tyX3_ok nmX3 (by decide +kernel) rfl rfl 0 rfl rfl (Nat.le_of_ble_eq_true rfl) hd K
theorem co_put_talkN {z : Nat} {idx : Nat} {host : String} (hq : Cond.fieldLinkNest own idx RX3 "talk" "LTwoSlips$Talk;" host ∈ lw_tbl) (hd : decode cc pc = .ok (.putfield idx, 3)) (K : GG l D clX (tyX Y) cc nL rt own R A MX QF (HW D clX A (CoL Y ca ra b (some z) many used liar xs ys heaps slips rows W)) k n (pc + 3) L st) : GG l D clX (tyX Y) cc nL rt own R A MX QF (HW D clX A (CoL Y ca ra b tk many used liar xs ys heaps slips rows W)) k n pc L (.ref z :: .ref (ca 0) :: st) :=
  w_putfN (C := RX3) (T := TX3) (N := 11) (ty := .object "TwoSlips$Talk") 7 in_X3 rfl (by decide) hq rfl rfl tyX3 tyX3_ok nmX3 (by decide +kernel) rfl rfl 0 rfl rfl (Nat.le_of_ble_eq_true rfl) hd K
theorem co_ld_xs {i : Nat} (hi : i < 1830) (hd : decode cc pc = .ok (.iaload, 1)) (K : GG l D clX (tyX Y) cc nL rt own R A MX QF (HW D clX A (CoL Y ca ra b tk many used liar xs ys heaps slips rows W)) k n (pc + 1) L (.int (nI (xs i)) :: st)) : GG l D clX (tyX Y) cc nL rt own R A MX QF (HW D clX A (CoL Y ca ra b tk many used liar xs ys heaps slips rows W)) k n pc L (.int (nI i) :: .ref (ca 1) :: st) := g_ldi (cA := Y 0) 0 rfl hi (by decide) hd (hw_ix (q0 := 1) rfl) K
theorem co_st_xs {i z : Nat} (hi : i < 1830) (hd : decode cc pc = .ok (.iastore, 1)) (K : GG l D clX (tyX Y) cc nL rt own R A MX QF (HW D clX A (CoL Y ca ra b tk many used liar (up xs i z) ys heaps slips rows W)) k n (pc + 1) L st) : GG l D clX (tyX Y) cc nL rt own R A MX QF (HW D clX A (CoL Y ca ra b tk many used liar xs ys heaps slips rows W)) k n pc L (.int (nI z) :: .int (nI i) :: .ref (ca 1) :: st) := w_sti (cA := Y 0) 0 rfl hi (by decide) 1 rfl (by rw [upd_nI]; rfl) hd K
theorem co_ld_ys {i : Nat} (hi : i < 1830) (hd : decode cc pc = .ok (.iaload, 1)) (K : GG l D clX (tyX Y) cc nL rt own R A MX QF (HW D clX A (CoL Y ca ra b tk many used liar xs ys heaps slips rows W)) k n (pc + 1) L (.int (nI (ys i)) :: st)) : GG l D clX (tyX Y) cc nL rt own R A MX QF (HW D clX A (CoL Y ca ra b tk many used liar xs ys heaps slips rows W)) k n pc L (.int (nI i) :: .ref (ca 2) :: st) := g_ldi (cA := Y 0) 0 rfl hi (by decide) hd (hw_ix (q0 := 2) rfl) K
theorem co_st_ys {i z : Nat} (hi : i < 1830) (hd : decode cc pc = .ok (.iastore, 1)) (K : GG l D clX (tyX Y) cc nL rt own R A MX QF (HW D clX A (CoL Y ca ra b tk many used liar xs (up ys i z) heaps slips rows W)) k n (pc + 1) L st) : GG l D clX (tyX Y) cc nL rt own R A MX QF (HW D clX A (CoL Y ca ra b tk many used liar xs ys heaps slips rows W)) k n pc L (.int (nI z) :: .int (nI i) :: .ref (ca 2) :: st) := w_sti (cA := Y 0) 0 rfl hi (by decide) 2 rfl (by rw [upd_nI]; rfl) hd K
theorem co_ld_heaps {i : Nat} (hi : i < 7300) (hd : decode cc pc = .ok (.iaload, 1)) (K : GG l D clX (tyX Y) cc nL rt own R A MX QF (HW D clX A (CoL Y ca ra b tk many used liar xs ys heaps slips rows W)) k n (pc + 1) L (.int (nI (heaps i)) :: st)) : GG l D clX (tyX Y) cc nL rt own R A MX QF (HW D clX A (CoL Y ca ra b tk many used liar xs ys heaps slips rows W)) k n pc L (.int (nI i) :: .ref (ca 3) :: st) := g_ldi (cA := Y 0) 0 rfl hi (by decide) hd (hw_ix (q0 := 3) rfl) K
theorem co_st_heaps {i z : Nat} (hi : i < 7300) (hd : decode cc pc = .ok (.iastore, 1)) (K : GG l D clX (tyX Y) cc nL rt own R A MX QF (HW D clX A (CoL Y ca ra b tk many used liar xs ys (up heaps i z) slips rows W)) k n (pc + 1) L st) : GG l D clX (tyX Y) cc nL rt own R A MX QF (HW D clX A (CoL Y ca ra b tk many used liar xs ys heaps slips rows W)) k n pc L (.int (nI z) :: .int (nI i) :: .ref (ca 3) :: st) := w_sti (cA := Y 0) 0 rfl hi (by decide) 3 rfl (by rw [upd_nI]; rfl) hd K
theorem co_ld_slips {s : Nat} (hs : s < 6) (hd : decode cc pc = .ok (.aaload, 1)) (K : GG l D clX (tyX Y) cc nL rt own R A MX QF (HW D clX A (CoL Y ca ra b tk many used liar xs ys heaps slips rows W)) k n (pc + 1) L (.ref (ca (s + 7)) :: st)) : GG l D clX (tyX Y) cc nL rt own R A MX QF (HW D clX A (CoL Y ca ra b tk many used liar xs ys heaps slips rows W)) k n pc L (.int (nI s) :: .ref (ca 4) :: st) := g_ldr (cA := Y 5) 5 rfl rfl hs (by decide) hd (hw_ix (q0 := 4) rfl) rfl K
theorem co_ld_left {t : Nat} (ht : t < 21) (hd : decode cc pc = .ok (.aaload, 1)) (K : GG l D clX (tyX Y) cc nL rt own R A MX QF (HW D clX A (CoL Y ca ra b tk many used liar xs ys heaps slips rows W)) k n (pc + 1) L (.ref (ra (b + t)) :: st)) : GG l D clX (tyX Y) cc nL rt own R A MX QF (HW D clX A (CoL Y ca ra b tk many used liar xs ys heaps slips rows W)) k n pc L (.int (nI t) :: .ref (ca 5) :: st) := g_ldr (cA := Y 6) 6 rfl rfl ht (by decide) hd (hw_ix (q0 := 5) rfl) rfl K
theorem co_ld_pool {t : Nat} (ht : t < 48) (hd : decode cc pc = .ok (.aaload, 1)) (K : GG l D clX (tyX Y) cc nL rt own R A MX QF (HW D clX A (CoL Y ca ra b tk many used liar xs ys heaps slips rows W)) k n (pc + 1) L (.ref (ra (b + 21 + t)) :: st)) : GG l D clX (tyX Y) cc nL rt own R A MX QF (HW D clX A (CoL Y ca ra b tk many used liar xs ys heaps slips rows W)) k n pc L (.int (nI t) :: .ref (ca 6) :: st) := g_ldr (cA := Y 6) 6 rfl rfl ht (by decide) hd (hw_ix (q0 := 6) rfl) rfl K
theorem co_ld_slip {s i : Nat} (hs : s < 6) (hi : i < 1830) (hd : decode cc pc = .ok (.iaload, 1)) (K : GG l D clX (tyX Y) cc nL rt own R A MX QF (HW D clX A (CoL Y ca ra b tk many used liar xs ys heaps slips rows W)) k n (pc + 1) L (.int (nI (slips s i)) :: st)) : GG l D clX (tyX Y) cc nL rt own R A MX QF (HW D clX A (CoL Y ca ra b tk many used liar xs ys heaps slips rows W)) k n pc L (.int (nI i) :: .ref (ca (s + 7)) :: st) := g_ldi (cA := Y 0) 0 rfl hi (by decide) hd (hw_ix (CoL_slip hs)) K
theorem co_st_slip {s i z : Nat} (hs : s < 6) (hi : i < 1830) (hd : decode cc pc = .ok (.iastore, 1)) (K : GG l D clX (tyX Y) cc nL rt own R A MX QF (HW D clX A (CoL Y ca ra b tk many used liar xs ys heaps (up slips s (up (slips s) i z)) rows W)) k n (pc + 1) L st) : GG l D clX (tyX Y) cc nL rt own R A MX QF (HW D clX A (CoL Y ca ra b tk many used liar xs ys heaps slips rows W)) k n pc L (.int (nI z) :: .int (nI i) :: .ref (ca (s + 7)) :: st) := w_sti (cA := Y 0) 0 rfl hi (by decide) (s + 7) (CoL_slip hs) (by rw [upd_nI]; exact CoL_setslip hs _) hd K
theorem co_ld_row {r i : Nat} (hr : r < 156) (hi : i < 29) (hd : decode cc pc = .ok (.laload, 1)) (K : GG l D clX (tyX Y) cc nL rt own R A MX QF (HW D clX A (CoL Y ca ra b tk many used liar xs ys heaps slips rows W)) k n (pc + 1) L (.long (rows r i) :: st)) : GG l D clX (tyX Y) cc nL rt own R A MX QF (HW D clX A (CoL Y ca ra b tk many used liar xs ys heaps slips rows W)) k n pc L (.int (nI i) :: .ref (ra r) :: st) := g_ldl (cA := Y 1) 1 rfl hi (by decide) hd (hw_ix (CoL_row hr)) K
theorem co_st_row {r i : Nat} {z : Int64} (hr : r < 156) (hi : i < 29) (hd : decode cc pc = .ok (.lastore, 1)) (K : GG l D clX (tyX Y) cc nL rt own R A MX QF (HW D clX A (CoL Y ca ra b tk many used liar xs ys heaps slips (up rows r (up (rows r) i z)) W)) k n (pc + 1) L st) : GG l D clX (tyX Y) cc nL rt own R A MX QF (HW D clX A (CoL Y ca ra b tk many used liar xs ys heaps slips rows W)) k n pc L (.long z :: .int (nI i) :: .ref (ra r) :: st) := w_stl (cA := Y 1) 1 rfl hi (by decide) (r + 13) (CoL_row hr) (CoL_setrow hr _) hd K
theorem co_rec : ∀ (s : State) (H : Heap), va_K D clX (tyX Y) s → HW D clX A (CoL Y ca ra b tk many used liar xs ys heaps slips rows W) H → ∃ cell : Cell, H[ca 0]? = some cell ∧ cell.vm.isStatics = false ∧ s.vm.findClass RX3 = some cell.cls := fun s H hK hP => va_recv hK hP.1 (ci := 3) rfl (q0 := 0) rfl
end CoRows
