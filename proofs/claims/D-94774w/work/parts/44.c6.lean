/-! THE COMPONENT, 6: what is said fills rows -/
set_option maxRecDepth 100000
/-- the course is as the environment says, behind t turns -/
def EnvC (T : Talk) (b many : Nat) (xs ys : Nat → Nat) (slips : Nat → Nat → Nat) (rows : Nat → Nat → Int64) (E : SE) (t : Nat) : Prop :=
  slOK (tNS T) many slips ∧ E.1 = many ∧ (∀ w, w < many → E.2.1 w = xs w ∧ E.2.2.1 w = ys w ∧ xs w ≤ 60 ∧ ys w ≤ 60) ∧ tNS T ≤ 6 ∧ (∀ s, s < tNS T → (∀ w, w < many → slips s w = eSl E s w) ∧ E.2.2.2.2.1 s = tDeaf T s) ∧ t ≤ 20 ∧
  ∀ t', t' ≤ t → isRow (rows (b + t')) (fun w => decide (w < many) && E.2.2.2.2.2 t' w)
/-- a row of the pool is filled; rows in use stay -/
def FD (rows rows2 : Nat → Nat → Int64) (b j used many : Nat) (g : Nat → Bool) : Prop := isRow (rows2 (b + 21 + j)) (fun w => decide (w < many) && g w) ∧ ∀ r, ¬ r = b + 21 + j → ¬ (b + 21 + used ≤ r ∧ r < b + 69) → rows2 r = rows r
theorem EnvC.keep {T : Talk} {b many t : Nat} {xs ys : Nat → Nat} {slips : Nat → Nat → Nat} {rows rows2 : Nat → Nat → Int64} {E : SE} (h : EnvC T b many xs ys slips rows E t) (hk : ∀ t', t' ≤ 20 → rows2 (b + t') = rows (b + t')) : EnvC T b many xs ys slips rows2 E t := by
  obtain ⟨h1, h2, h3, h4, h5, h6, h7⟩ := h
  exact ⟨h1, h2, h3, h4, h5, h6, fun t' ht => by rw [hk t' (by omega)]; exact h7 t' ht⟩
theorem EnvC.rst {T : Talk} {b many t t2 : Nat} {xs ys : Nat → Nat} {slips : Nat → Nat → Nat} {rows : Nat → Nat → Int64} {E : SE} (h : EnvC T b many xs ys slips rows E t) (ht : t2 ≤ t) : EnvC T b many xs ys slips rows (rstE E t2) t2 := by
  obtain ⟨h1, h2, h3, h4, h5, h6, h7⟩ := h
  refine ⟨h1, h2, h3, h4, h5, by omega, fun t' ht' w hw => ?_⟩
  rw [h7 t' (by omega) w hw]
  show _ = (decide (w < many) && (decide (t' ≤ t2) && _))
  rw [decide_eq_true ht', Bool.true_and]
theorem FD.left {rows rows2 : Nat → Nat → Int64} {b j used many : Nat} {g : Nat → Bool} (h : FD rows rows2 b j used many g) {t : Nat} (ht : t ≤ 20) : rows2 (b + t) = rows (b + t) := h.2 _ (by omega) (by omega)
theorem FD.all {rows rows2 : Nat → Nat → Int64} {b j used many : Nat} {g : Nat → Bool} (h : FD rows rows2 b j used many g) (hj : j < used) (hu : used ≤ 48) : rows2 (b + 69) = rows (b + 69) := h.2 _ (by omega) (by omega)
theorem FD.env {T : Talk} {b many t j used : Nat} {xs ys : Nat → Nat} {slips : Nat → Nat → Nat} {rows rows2 : Nat → Nat → Int64} {E : SE} {g : Nat → Bool} (h : EnvC T b many xs ys slips rows E t) (hf : FD rows rows2 b j used many g) : EnvC T b many xs ys slips rows2 E t := h.keep (fun _ ht => hf.left ht)
theorem FD.ofRT {rows rows2 : Nat → Nat → Int64} {b j used many : Nat} {g g2 : Nat → Bool} (h : RT rows rows2 (b + 21 + j) (fun w => decide (w < many) && g w)) (hg : ∀ w, w < many → g w = g2 w) : FD rows rows2 b j used many g2 := by
  refine ⟨fun w hw => ?_, fun r h1 _ => h.2 r h1⟩
  rw [h.1 w hw]
  dsimp only
  by_cases q : w < many
  · rw [hg w q]
  · rw [decide_eq_false q]; rfl
theorem isRow.congr {f : Nat → Int64} {g g2 : Nat → Bool} (h : isRow f g) (hg : ∀ w, w < 1856 → g w = g2 w) : isRow f g2 := fun w hw => by rw [h w hw, hg w hw]
abbrev xFill : MethodName := ({ cls := "TwoSlips$Saying", name := "fill", desc := "(LTwoSlips$Course;I[J)V" } : Jvm.MethodName)
abbrev FCT (l : Launch) (D : va_G) (Y : Nat → ClassId) (A : Nat → Prop) (y : MethodName) (cc : ByteArray) (nL k : Nat) (ca ra : Nat → Nat) (b : Nat) (tk : Option Nat) (many used : Nat) (liar : Int32) (xs ys heaps : Nat → Nat) (slips : Nat → Nat → Nat) (rows : Nat → Nat → Int64) (W : va_W) (E : SE) (f : Sem) (a j t : Nat) : Prop :=
  CT l D clX (tyX Y) y cc nL none ({ frames := 10 + 2 * k, cells := 0, slots := 0, locals := 300 + 60 * k } : Room) [.ref a, .ref (ca 0), .int (nI t), .ref (ra (b + 21 + j))] (HW D clX A (CoL Y ca ra b tk many used liar xs ys heaps slips rows W)) (Qv (fun u : (Nat → Nat) × (Nat → Nat → Int64) => FD rows u.2 b j used many (f E t)) (fun u : (Nat → Nat) × (Nat → Nat → Int64) => HW D clX A (CoL Y ca ra b tk many used liar xs ys u.1 slips u.2 W)) A) A

/-- all sayings of a height k fill rows -/
def FillOK (l : Launch) (D : va_G) (Y : Nat → ClassId) (A : Nat → Prop) : Nat → Prop
  | 0 => True
  | k + 1 => ∀ {ca ra : Nat → Nat} {b : Nat} {many used : Nat} {liar : Int32} {xs ys heaps : Nat → Nat} {slips : Nat → Nat → Nat} {rows : Nat → Nat → Int64} {W : va_W} {T : Talk} {ta : Nat → Nat} {E : SE} {d j t a : Nat} {f : Sem}, (TalkL Y T ta W) → (EnvC T b many xs ys slips rows E t) → (isRow (rows (b + 69)) (fun w => decide (w < many))) → (b + 70 ≤ 156) → (j < used) → (used + d ≤ 48) → (((a, .inr (29, [])) ∈ W ∧ f = sEven) → FCT l D Y A yX28_fill cX28_fill 5 (k + 1) ca ra b (some (ta 0)) many used liar xs ys heaps slips rows W E f a j t) ∧ (((a, .inr (30, [])) ∈ W ∧ f = sSame) → FCT l D Y A yX28_fill cX28_fill 5 (k + 1) ca ra b (some (ta 0)) many used liar xs ys heaps slips rows W E f a j t) ∧ ((∃ n : Nat, (a, .inr (31, [.int (nI n)])) ∈ W ∧ n ≤ 120 ∧ f = sAbove n) → FCT l D Y A yX28_fill cX28_fill 5 (k + 1) ca ra b (some (ta 0)) many used liar xs ys heaps slips rows W E f a j t) ∧ ((∃ s : Nat, (a, .inr (25, [.int (nI s)])) ∈ W ∧ s < tNS T ∧ f = sKnows s) → FCT l D Y A yX25_fill cX25_fill 4 (k + 1) ca ra b (some (ta 0)) many used liar xs ys heaps slips rows W E f a j t) ∧ ((∃ (s p d2 : Nat) (g : Sem), (a, .inr (26, [.int (nI s), .ref p])) ∈ W ∧ s < tNS T ∧ d = d2 + 1 ∧ SayL (tNS T) W k d2 g p ∧ f = sSees s g) → FCT l D Y A yX26_fill cX26_fill 4 (k + 1) ca ra b (some (ta 0)) many used liar xs ys heaps slips rows W E f a j t) ∧ ((∃ (n p : Nat) (g : Sem), (a, .inr (27, [.int (nI n), .ref p])) ∈ W ∧ n ≤ 20 ∧ SayL (tNS T) W k d g p ∧ f = sWas n g) → FCT l D Y A yX27_fill cX27_fill 4 (k + 1) ca ra b (some (ta 0)) many used liar xs ys heaps slips rows W E f a j t) ∧ ((∃ (p : Nat) (g : Sem), (a, .inr (24, [.ref p])) ∈ W ∧ SayL (tNS T) W k d g p ∧ f = sNot g) → FCT l D Y A yX24_fill cX24_fill 5 (k + 1) ca ra b (some (ta 0)) many used liar xs ys heaps slips rows W E f a j t) ∧ ((∃ (bo : Bool) (x y d2 : Nat) (g h : Sem), (a, .inr (32, [.int (bI bo), .ref x, .ref y])) ∈ W ∧ d = d2 + 1 ∧ SayL (tNS T) W k d g x ∧ SayL (tNS T) W k d2 h y ∧ f = sPair bo g h) → FCT l D Y A yX32_fill cX32_fill 6 (k + 1) ca ra b (some (ta 0)) many used liar xs ys heaps slips rows W E f a j t)
theorem eT_hear {T : Talk} {b many t : Nat} {xs ys : Nat → Nat} {slips : Nat → Nat → Nat} {rows : Nat → Nat → Int64} {E : SE} (h : EnvC T b many xs ys slips rows E t) {s : Nat} (hs : s < tNS T) : eT E s t = tHear T s t := by
  unfold eT tHear; rw [(h.2.2.2.2.1 s hs).2]
theorem left_env {T : Talk} {b many t t2 : Nat} {xs ys : Nat → Nat} {slips : Nat → Nat → Nat} {rows : Nat → Nat → Int64} {E : SE} (h : EnvC T b many xs ys slips rows E t) (ht : t2 ≤ t) {w : Nat} (hw : w < many) : lbt (rows (b + t2)) w = E.2.2.2.2.2 t2 w := by
  have := h.1.1
  rw [h.2.2.2.2.2.2 t2 ht w (by omega)]
  dsimp only
  rw [decide_eq_true hw, Bool.true_and]
theorem knows_env {T : Talk} {b many t : Nat} {xs ys : Nat → Nat} {slips : Nat → Nat → Nat} {rows : Nat → Nat → Int64} {E : SE} (h : EnvC T b many xs ys slips rows E t) {s : Nat} (hs : s < tNS T) (hle : tHear T s t ≤ t) {w : Nat} (hw : w < many) : knowF many (slips s) (lbt (rows (b + tHear T s t))) w = sKnows s E t w := by
  unfold sKnows
  rw [eT_hear h hs, h.2.1]
  exact knowF_congr hw (fun v hv => (h.2.2.2.2.1 s hs).1 v hv) (fun v hv => left_env h hle hv)
theorem sees_env {T : Talk} {b many t : Nat} {xs ys : Nat → Nat} {slips : Nat → Nat → Nat} {rows : Nat → Nat → Int64} {E : SE} (h : EnvC T b many xs ys slips rows E t) {s : Nat} (hs : s < tNS T) (hle : tHear T s t ≤ t) {g : Sem} {F G : Nat → Bool} {w : Nat} (hw : w < many) (hF : ∀ v, v < many → F v = lbt (rows (b + tHear T s t)) v) (hG : ∀ v, v < many → G v = g (rstE E (tHear T s t)) (tHear T s t) v) : seeF many (slips s) F G w = sSees s g E t w := by
  unfold sSees
  rw [eT_hear h hs, h.2.1]
  exact seeF_congr hw (fun v hv => (h.2.2.2.2.1 s hs).1 v hv) (fun v hv => (hF v hv).trans (left_env h hle hv)) hG
theorem sees_fin {T : Talk} {b many t j used : Nat} {xs ys : Nat → Nat} {slips : Nat → Nat → Nat} {rows rows2 rows4 : Nat → Nat → Int64} {E : SE} {s0 : Nat} {g : Sem} (hE : EnvC T b many xs ys slips rows E t) (hs : s0 < tNS T) (hle : tHear T s0 t ≤ t) (hb : b + 70 ≤ 156) (hj : j < used) (hu : used + 1 ≤ 48) (h2 : FD rows rows2 b used (used + 1) many (g (rstE E (tHear T s0 t)) (tHear T s0 t))) (h4 : RT rows2 rows4 (b + 21 + j) (fun w' => decide (w' < many) && seeF many (slips s0) (lbt (rows2 (b + tHear T s0 t))) (lbt (rows2 (b + 21 + used))) w')) : FD rows rows4 b j used many (sSees s0 g E t) := by
  have ht := hE.2.2.2.2.2.1
  have hP := hE.1.1
  refine ⟨fun w hw => ?_, fun r h5 h6 => ?_⟩
  · rw [h4.1 w hw]
    dsimp only
    by_cases q : w < many
    · rw [sees_env (F := lbt (rows2 (b + tHear T s0 t))) (G := lbt (rows2 (b + 21 + used))) hE hs hle q (fun v hv => by rw [h2.left (by omega)]) (fun v hv => by rw [h2.1 v (by omega)]; dsimp only; rw [decide_eq_true hv, Bool.true_and])]
    · rw [decide_eq_false q]; rfl
  · rw [h4.2 r h5, h2.2 r (by omega) (by omega)]
theorem min_nI {m t : Nat} (hm : m < 2 ^ 31) (ht : t < 2 ^ 31) : (if nI m < nI t then nI m else nI t) = nI (min m t) := by
  by_cases h : m < t
  · rw [if_pos (nI_lt h ht), Nat.min_eq_left (by omega)]
  · rw [if_neg (nI_nlt (by omega) hm), Nat.min_eq_right (by omega)]
theorem not_fin {b many j used : Nat} {rows rows2 rows4 : Nat → Nat → Int64} {g : Nat → Bool} (hall : isRow (rows (b + 69)) (fun w => decide (w < many))) (hj : j < used) (hu : used ≤ 48) (h2 : FD rows rows2 b j used many g) (h4 : RT rows2 rows4 (b + 21 + j) (fun w' => !lbt (rows2 (b + 21 + j)) w' && lbt (rows2 (b + 69)) w')) : FD rows rows4 b j used many (fun w => !g w) := by
  refine ⟨fun w hw => ?_, fun r h5 h6 => (h4.2 r h5).trans (h2.2 r h5 h6)⟩
  rw [h4.1 w hw]
  dsimp only
  rw [h2.1 w hw, h2.all hj hu, hall w hw]
  dsimp only
  cases decide (w < many) <;> cases g w <;> rfl
theorem pair_fin {b many j used : Nat} {rows rows2 rows3 rows4 : Nat → Nat → Int64} {f1 f2 : Nat → Bool} {bo : Bool} (hj : j < used) (hu : used + 1 ≤ 48) (h2 : FD rows rows2 b j used many f1) (h3 : FD rows2 rows3 b used (used + 1) many f2) (h4 : RT rows3 rows4 (b + 21 + j) (fun w' => if bo = true then (lbt (rows3 (b + 21 + j)) w' && lbt (rows3 (b + 21 + used)) w') else (lbt (rows3 (b + 21 + j)) w' || lbt (rows3 (b + 21 + used)) w'))) : FD rows rows4 b j used many (fun w => if bo = true then (f1 w && f2 w) else (f1 w || f2 w)) := by
  refine ⟨fun w hw => ?_, fun r h5 h6 => ?_⟩
  · rw [h4.1 w hw]
    dsimp only
    rw [h3.1 w hw, h3.2 (b + 21 + j) (by omega) (by omega), h2.1 w hw]
    dsimp only
    cases decide (w < many) <;> cases bo <;> simp
  · rw [h4.2 r h5, h3.2 r (by omega) (by omega), h2.2 r h5 h6]
theorem hyx_TwoSlips_Saying_fill__LTwoSlips_Course_I_J_V : "TwoSlips$Saying" ≠ "java/lang/invoke/MethodHandle" ∧ "TwoSlips$Saying" ≠ "java/lang/invoke/VarHandle" ∧ (parseMethodDescriptor "(LTwoSlips$Course;I[J)V").map (fun d => d.parameters.length) = some 3 := by decide +kernel
theorem hyx_TwoSlips_Plain_is__II_Z : "TwoSlips$Plain" ≠ "java/lang/invoke/MethodHandle" ∧ "TwoSlips$Plain" ≠ "java/lang/invoke/VarHandle" ∧ (parseMethodDescriptor "(II)Z").map (fun d => d.parameters.length) = some 2 := by decide +kernel
theorem hy_X3_heard : yX3_heard.cls ≠ "java/lang/invoke/MethodHandle" ∧ yX3_heard.cls ≠ "java/lang/invoke/VarHandle" ∧ (parseMethodDescriptor yX3_heard.desc).map (fun d => d.parameters.length) = some 2 := by decide +kernel
theorem hy_X3_knows : yX3_knows.cls ≠ "java/lang/invoke/MethodHandle" ∧ yX3_knows.cls ≠ "java/lang/invoke/VarHandle" ∧ (parseMethodDescriptor yX3_knows.desc).map (fun d => d.parameters.length) = some 3 := by decide +kernel
theorem hy_X3_taken : yX3_taken.cls ≠ "java/lang/invoke/MethodHandle" ∧ yX3_taken.cls ≠ "java/lang/invoke/VarHandle" ∧ (parseMethodDescriptor yX3_taken.desc).map (fun d => d.parameters.length) = some 0 := by decide +kernel
theorem hy_X3_given : yX3_given.cls ≠ "java/lang/invoke/MethodHandle" ∧ yX3_given.cls ≠ "java/lang/invoke/VarHandle" ∧ (parseMethodDescriptor yX3_given.desc).map (fun d => d.parameters.length) = some 0 := by decide +kernel
theorem hy_X3_sees : yX3_sees.cls ≠ "java/lang/invoke/MethodHandle" ∧ yX3_sees.cls ≠ "java/lang/invoke/VarHandle" ∧ (parseMethodDescriptor yX3_sees.desc).map (fun d => d.parameters.length) = some 4 := by decide +kernel
section
variable {l : Launch} {D : va_G} {Y : Nat → ClassId} {A : Nat → Prop}
/-- a saying of any class fills a row -/
theorem g_fill {ca ra : Nat → Nat} {b : Nat} {many used : Nat} {liar : Int32} {xs ys heaps : Nat → Nat} {slips : Nat → Nat → Nat} {rows : Nat → Nat → Int64} {W : va_W} {T : Talk} {ta : Nat → Nat} {cc : ByteArray} {nL : Nat} {rt : Option FieldType} {own : String} {R : Room} {MX : Heap → Method → Code → Prop} {QF : List Frame → Array Value → State → State → Prop} {kk nn pc idx : Nat} {L : List (Nat × Value)} {rest : List Value} {k d j t a : Nat} {f : Sem} {E : SE} (hq : Cond.methodLink own idx xFill ∈ lw_all) (ih : FillOK l D Y A k) (hT : TalkL Y T ta W) (hE : EnvC T b many xs ys slips rows E t) (hall : isRow (rows (b + 69)) (fun w => decide (w < many))) (hb : b + 70 ≤ 156) (hj : j < used) (hu : used + d ≤ 48) (hS : SayL (tNS T) W k d f a) (hR : 11 + 2 * k ≤ R.frames ∧ 330 + 60 * k ≤ R.locals) (hf : kk ≤ R.cells ∧ nn ≤ R.slots) (hcat : (rest.map fun v => v.category).sum ≤ 8) (hd : decode cc pc = .ok (.invokevirtual idx, 3))
    (K : ∀ u : (Nat → Nat) × (Nat → Nat → Int64), FD rows u.2 b j used many (f E t) → GG l D clX (tyX Y) cc nL rt own R A MX QF (HW D clX A (CoL Y ca ra b (some (ta 0)) many used liar xs ys u.1 slips u.2 W)) kk nn (pc + 3) L rest) : GG l D clX (tyX Y) cc nL rt own R A MX QF (HW D clX A (CoL Y ca ra b (some (ta 0)) many used liar xs ys heaps slips rows W)) kk nn pc L (.ref (ra (b + 21 + j)) :: .int (nI t) :: .ref (ca 0) :: .ref a :: rest) := by
  cases k with
  | zero => exact hS.elim
  | succ k =>
    have F := ih (ca := ca) (ra := ra) (liar := liar) (heaps := heaps) (f := f) (a := a) hT hE hall hb hj hu
    rcases hS with h | h | ⟨n, h, hr⟩ | ⟨s, h, hr⟩ | ⟨s, p, e, g, h, hr⟩ | ⟨n, p, g, h, hr⟩ | ⟨p, g, h, hr⟩ | ⟨bo, x, y, e, g, h2, h, hr⟩
    · refine h_cAv (As := [.ref (ca 0), .int (nI t), .ref (ra (b + 21 + j))]) (F.1 h) (lw_U hq q608 q626 q610 q149 q611) q607 hyx_TwoSlips_Saying_fill__LTwoSlips_Course_I_J_V rfl ⟨by dsimp only; omega, by dsimp only; omega⟩ ⟨hf.1, hf.2⟩ rfl hcat hd (fun s H hK hP => va_recv hK (co_has _ h.1 H hP) (ci := 29) rfl (q0 := 0) rfl) K
    · refine h_cAv (As := [.ref (ca 0), .int (nI t), .ref (ra (b + 21 + j))]) (F.2.1 h) (lw_U hq q608 q672 q610 q149 q611) q607 hyx_TwoSlips_Saying_fill__LTwoSlips_Course_I_J_V rfl ⟨by dsimp only; omega, by dsimp only; omega⟩ ⟨hf.1, hf.2⟩ rfl hcat hd (fun s H hK hP => va_recv hK (co_has _ h.1 H hP) (ci := 30) rfl (q0 := 0) rfl) K
    · refine h_cAv (As := [.ref (ca 0), .int (nI t), .ref (ra (b + 21 + j))]) (F.2.2.1 ⟨n, h, hr⟩) (lw_U hq q608 q609 q610 q149 q611) q607 hyx_TwoSlips_Saying_fill__LTwoSlips_Course_I_J_V rfl ⟨by dsimp only; omega, by dsimp only; omega⟩ ⟨hf.1, hf.2⟩ rfl hcat hd (fun s H hK hP => va_recv hK (co_has _ h H hP) (ci := 31) rfl (q0 := 0) rfl) K
    · refine h_cAv (As := [.ref (ca 0), .int (nI t), .ref (ra (b + 21 + j))]) (F.2.2.2.1 ⟨s, h, hr⟩) (lw_U hq q608 q627 q628 q146 q629) q607 hyx_TwoSlips_Saying_fill__LTwoSlips_Course_I_J_V rfl ⟨by dsimp only; omega, by dsimp only; omega⟩ ⟨hf.1, hf.2⟩ rfl hcat hd (fun s H hK hP => va_recv hK (co_has _ h H hP) (ci := 25) rfl (q0 := 0) rfl) K
    · refine h_cAv (As := [.ref (ca 0), .int (nI t), .ref (ra (b + 21 + j))]) (F.2.2.2.2.1 ⟨s, p, e, g, h, hr⟩) (lw_U hq q608 q673 q656 q147 q657) q607 hyx_TwoSlips_Saying_fill__LTwoSlips_Course_I_J_V rfl ⟨by dsimp only; omega, by dsimp only; omega⟩ ⟨hf.1, hf.2⟩ rfl hcat hd (fun s H hK hP => va_recv hK (co_has _ h H hP) (ci := 26) rfl (q0 := 0) rfl) K
    · refine h_cAv (As := [.ref (ca 0), .int (nI t), .ref (ra (b + 21 + j))]) (F.2.2.2.2.2.1 ⟨n, p, g, h, hr⟩) (lw_U hq q608 q674 q659 q148 q660) q607 hyx_TwoSlips_Saying_fill__LTwoSlips_Course_I_J_V rfl ⟨by dsimp only; omega, by dsimp only; omega⟩ ⟨hf.1, hf.2⟩ rfl hcat hd (fun s H hK hP => va_recv hK (co_has _ h H hP) (ci := 27) rfl (q0 := 0) rfl) K
    · refine h_cAv (As := [.ref (ca 0), .int (nI t), .ref (ra (b + 21 + j))]) (F.2.2.2.2.2.2.1 ⟨p, g, h, hr⟩) (lw_U hq q608 q649 q650 q145 q651) q607 hyx_TwoSlips_Saying_fill__LTwoSlips_Course_I_J_V rfl ⟨by dsimp only; omega, by dsimp only; omega⟩ ⟨hf.1, hf.2⟩ rfl hcat hd (fun s H hK hP => va_recv hK (co_has _ h H hP) (ci := 24) rfl (q0 := 0) rfl) K
    · refine h_cAv (As := [.ref (ca 0), .int (nI t), .ref (ra (b + 21 + j))]) (F.2.2.2.2.2.2.2 ⟨bo, x, y, e, g, h2, h, hr⟩) (lw_U hq q608 q671 q653 q153 q654) q607 hyx_TwoSlips_Saying_fill__LTwoSlips_Course_I_J_V rfl ⟨by dsimp only; omega, by dsimp only; omega⟩ ⟨hf.1, hf.2⟩ rfl hcat hd (fun s H hK hP => va_recv hK (co_has _ h H hP) (ci := 32) rfl (q0 := 0) rfl) K

set_option maxHeartbeats 4000000 in
theorem ctX29_is {HP : Heap → Prop} {a : Nat} (x y : Nat) (hx : x ≤ 60) (hy : y ≤ 60) : CT l D clX (tyX Y) yX29_is cX29_is 3 (some .boolean) ({ frames := 0, cells := 0, slots := 0, locals := 0 } : Room) [.ref a, .int (nI x), .int (nI y)] (HP) (Qi (fun (v : Int32) (u : Unit) => v = bI (decide ((x + y) % 2 = 0))) (fun (u : Unit) => HP) A) A := by
  refine CT.of (L := [(0, .ref a), (1, .int (nI x)), (2, .int (nI y))]) rfl (by decide +kernel) rfl (Nat.le_of_ble_eq_true rfl) ?_
  refine g_iload_n 1 dX29_is_0 rfl rfl ?_
  refine g_iload_n 2 dX29_is_1 rfl rfl ?_
  refine g_iadd_n dX29_is_2 ?_
  refine g_iconst (v := nI 2) dX29_is_3 (by decide +kernel) ?_
  refine g_irem_n dX29_is_4 (by omega) (by decide) (by decide) ?_
  refine g_if_ne_n (tgt := 12) dX29_is_5 (by decide) (by omega) (fun c5 => ?_) (fun c5 => ?_)
  · skip
    refine g_iconst (v := nI 0) dX29_is_12 (by decide +kernel) ?_
    exact g_zret (b := false) () dX29_is_13 (Nat.le_refl _) (Nat.le_refl _) (by first | rw [decide_eq_true c5] | rw [decide_eq_false c5]) (fun _ h => h)
  · skip
    refine g_iconst (v := nI 1) dX29_is_8 (by decide +kernel) ?_
    refine g_goto (tgt := 13) dX29_is_9 (by decide) ?_
    exact g_zret (b := true) () dX29_is_13 (Nat.le_refl _) (Nat.le_refl _) (by first | rw [decide_eq_true c5] | rw [decide_eq_false c5]) (fun _ h => h)
set_option maxHeartbeats 4000000 in
theorem ctX30_is {HP : Heap → Prop} {a : Nat} (x y : Nat) (hx : x ≤ 60) (hy : y ≤ 60) : CT l D clX (tyX Y) yX30_is cX30_is 3 (some .boolean) ({ frames := 0, cells := 0, slots := 0, locals := 0 } : Room) [.ref a, .int (nI x), .int (nI y)] (HP) (Qi (fun (v : Int32) (u : Unit) => v = bI (decide (x = y))) (fun (u : Unit) => HP) A) A := by
  refine CT.of (L := [(0, .ref a), (1, .int (nI x)), (2, .int (nI y))]) rfl (by decide +kernel) rfl (Nat.le_of_ble_eq_true rfl) ?_
  refine g_iload_n 1 dX30_is_0 rfl rfl ?_
  refine g_iload_n 2 dX30_is_1 rfl rfl ?_
  refine g_icmp_ne_n (tgt := 9) dX30_is_2 (by decide) (by omega) (by omega) (fun c2 => ?_) (fun c2 => ?_)
  · skip
    refine g_iconst (v := nI 0) dX30_is_9 (by decide +kernel) ?_
    exact g_zret (b := false) () dX30_is_10 (Nat.le_refl _) (Nat.le_refl _) (by first | rw [decide_eq_true c2] | rw [decide_eq_false c2]) (fun _ h => h)
  · skip
    refine g_iconst (v := nI 1) dX30_is_5 (by decide +kernel) ?_
    refine g_goto (tgt := 10) dX30_is_6 (by decide) ?_
    exact g_zret (b := true) () dX30_is_10 (Nat.le_refl _) (Nat.le_refl _) (by first | rw [decide_eq_true c2] | rw [decide_eq_false c2]) (fun _ h => h)
set_option maxHeartbeats 4000000 in
theorem ctX31_is {HP : Heap → Prop} {a : Nat} (x y m : Nat) (hx : x ≤ 60) (hy : y ≤ 60) (hm : m ≤ 120) (hc : ∀ H, HP H → va_P D clX [(a, .inr (31, [.int (nI m)]))] H) : CT l D clX (tyX Y) yX31_is cX31_is 3 (some .boolean) ({ frames := 0, cells := 0, slots := 0, locals := 0 } : Room) [.ref a, .int (nI x), .int (nI y)] (HP) (Qi (fun (v : Int32) (u : Unit) => v = bI (decide (m < x + y))) (fun (u : Unit) => HP) A) A := by
  refine CT.of (L := [(0, .ref a), (1, .int (nI x)), (2, .int (nI y))]) rfl (by decide +kernel) rfl (Nat.le_of_ble_eq_true rfl) ?_
  refine g_iload_n 1 dX31_is_0 rfl rfl ?_
  refine g_iload_n 2 dX31_is_1 rfl rfl ?_
  refine g_iadd_n dX31_is_2 ?_
  refine g_aload_n 0 dX31_is_3 rfl rfl ?_
  refine g_getf (C := RX31) (T := TX31) (N := 1) 0 in_X31 rfl (by decide) q1317 rfl dX31_is_4 (hc) rfl ?_
  refine g_icmp_le_n (tgt := 14) dX31_is_7 (by decide) (by omega) (by omega) (fun c7 => ?_) (fun c7 => ?_)
  · skip
    refine g_iconst (v := nI 0) dX31_is_14 (by decide +kernel) ?_
    exact g_zret (b := false) () dX31_is_15 (Nat.le_refl _) (Nat.le_refl _) (by first | rw [decide_eq_true c7] | rw [decide_eq_false (by omega)]) (fun _ h => h)
  · skip
    refine g_iconst (v := nI 1) dX31_is_10 (by decide +kernel) ?_
    refine g_goto (tgt := 15) dX31_is_11 (by decide) ?_
    exact g_zret (b := true) () dX31_is_15 (Nat.le_refl _) (Nat.le_refl _) (by first | rw [decide_eq_true c7] | rw [decide_eq_false (by omega)]) (fun _ h => h)
set_option maxHeartbeats 4000000 in
/-- a plain saying -/
theorem ctX28_fill29 {ca ra : Nat → Nat} {b : Nat} {many used : Nat} {liar : Int32} {xs ys heaps : Nat → Nat} {slips : Nat → Nat → Nat} {rows : Nat → Nat → Int64} {W : va_W} {T : Talk} {ta : Nat → Nat} {E : SE} {k d j t a : Nat}  (hT : TalkL Y T ta W) (hE : EnvC T b many xs ys slips rows E t) (hall : isRow (rows (b + 69)) (fun w => decide (w < many))) (hb : b + 70 ≤ 156) (hj : j < used) (hu : used + d ≤ 48) (hA : (a, .inr (29, [])) ∈ W) : CT l D clX (tyX Y) yX28_fill cX28_fill 5 none ({ frames := 10 + 2 * k, cells := 0, slots := 0, locals := 300 + 60 * k } : Room) [.ref a, .ref (ca 0), .int (nI t), .ref (ra (b + 21 + j))] (HW D clX A (CoL Y ca ra b (some (ta 0)) many used liar xs ys heaps slips rows W)) (Qv (fun (u : (Nat → Nat) × (Nat → Nat → Int64)) => FD rows u.2 b j used many (sEven E t)) (fun (u : (Nat → Nat) × (Nat → Nat → Int64)) => HW D clX A (CoL Y ca ra b (some (ta 0)) many used liar xs ys u.1 slips u.2 W)) A) A := by
  have hP : many ≤ 1830 := hE.1.1
  refine CT.of (L := [(0, .ref a), (1, .ref (ca 0)), (2, .int (nI t)), (3, .ref (ra (b + 21 + j)))]) rfl (by decide +kernel) rfl (Nat.le_of_ble_eq_true rfl) ?_
  refine g_aload_n 3 dX28_fill_0 rfl rfl ?_
  refine g_lconst (v := lN 0) dX28_fill_1 (by decide +kernel) ?_
  refine h_cSv (ctJ14_fill (lN 0) 1 rfl (by decide) (CoL_row (r := b + 21 + j) (by omega)) (CoL_setrow (r := b + 21 + j) (by omega) _)) (lw_S q612 q519 q141 q520) hy_J14_fill rfl ⟨by dsimp only; omega, by dsimp only; omega⟩ ⟨Nat.zero_le _, Nat.zero_le _⟩ rfl (Nat.le_of_ble_eq_true rfl) dX28_fill_2 (fun uF hF => ?_)
  refine g_iconst (v := nI 0) dX28_fill_5 (by decide +kernel) ?_
  refine g_istore (L' := [(0, _), (1, _), (2, _), (3, _), (4, _)]) dX28_fill_6 (by decide) rfl rfl ?_
  have loop8 : ∀ (q8 : Nat) (w : Nat) (rows1 : Nat → Nat → Int64), many - w < q8 → (w ≤ many) → (RT rows rows1 (b + 21 + j) (fun w' => decide (w' < w) && (fun w9 => decide ((xs w9 + ys w9) % 2 = 0)) w')) → GG l D clX (tyX Y) cX28_fill 5 none RX28 ({ frames := 10 + 2 * k, cells := 0, slots := 0, locals := 300 + 60 * k } : Room) A MT (QM (Qv (fun (u : (Nat → Nat) × (Nat → Nat → Int64)) => FD rows u.2 b j used many (sEven E t)) (fun (u : (Nat → Nat) × (Nat → Nat → Int64)) => HW D clX A (CoL Y ca ra b (some (ta 0)) many used liar xs ys u.1 slips u.2 W)) A) 0 0 A) (HW D clX A (CoL Y ca ra b (some (ta 0)) many used liar xs ys heaps slips rows1 W)) 0 0 8 [(0, .ref a), (1, .ref (ca 0)), (2, .int (nI t)), (3, .ref (ra (b + 21 + j))), (4, .int (nI w))] [] := by
    intro q8
    induction q8 with
    | zero => intro w rows1 hq8; exact absurd hq8 (Nat.not_lt_zero _)
    | succ q8 ih8 =>
      intro w rows1 hq8 hw hi
      refine g_iload dX28_fill_8 rfl ?_
      refine g_aload_n 1 dX28_fill_10 rfl rfl ?_
      refine co_get_manyN q274 dX28_fill_11 ?_
      refine g_icmp_ge_n (tgt := 50) dX28_fill_14 (by decide) (by omega) (by omega) (fun c14 => ?_) (fun c14 => ?_)
      · skip
        exact g_vret (heaps, rows1) dX28_fill_50 (Nat.le_refl _) (Nat.le_refl _) (by have e9 : w = many := (by omega); rw [e9] at hi; exact FD.ofRT hi (fun w9 hw9 => by show decide ((xs w9 + ys w9) % 2 = 0) = _; rw [← (hE.2.2.1 w9 hw9).1, ← (hE.2.2.1 w9 hw9).2.1]; rfl)) (fun _ h => h)
      · skip
        refine g_aload_n 0 dX28_fill_17 rfl rfl ?_
        refine g_aload_n 1 dX28_fill_18 rfl rfl ?_
        refine co_get_xN q254 dX28_fill_19 ?_
        refine g_iload dX28_fill_22 rfl ?_
        refine co_ld_xs (by omega) dX28_fill_24 ?_
        refine g_aload_n 1 dX28_fill_25 rfl rfl ?_
        refine co_get_yN q257 dX28_fill_26 ?_
        refine g_iload dX28_fill_29 rfl ?_
        refine co_ld_ys (by omega) dX28_fill_31 ?_
        have hx9 := (hE.2.2.1 w c14).2.2.1
        have hy9 := (hE.2.2.1 w c14).2.2.2
        refine h_cAi (ctX29_is _ _ hx9 hy9) (lw_U q613 q615 q619 q620 q150 q621) q614 hyx_TwoSlips_Plain_is__II_Z rfl ⟨by dsimp only; omega, by dsimp only; omega⟩ ⟨Nat.zero_le _, Nat.zero_le _⟩ rfl (Nat.le_of_ble_eq_true rfl) dX28_fill_32 (fun s H hK hP => va_recv hK (co_has _ hA H hP) (ci := 29) rfl (q0 := 0) rfl) (fun r u hp => ?_)
        obtain rfl := hp
        refine g_if_eq_b (tgt := 44) dX28_fill_35 (by decide) (fun c35 => ?_) (fun c35 => ?_)
        · skip
          refine g_iinc_n (b := 1) (L' := [(0, _), (1, _), (2, _), (3, _), (4, _)]) dX28_fill_44 rfl rfl (by decide) rfl rfl ?_
          refine g_goto (tgt := 8) dX28_fill_47 (by decide) ?_
          first
            | exact ih8 (w + 1) _ (by omega) (by omega) (RT_y hi hp c35)
            | exact ih8 (w + 1) _ (by omega) (by omega) (RT_n hi c35)
        · skip
          refine g_aload_n 3 dX28_fill_38 rfl rfl ?_
          refine g_iload dX28_fill_39 rfl ?_
          refine h_cMv (ctX1_puts w (CoL_row (r := b + 21 + j) (by omega)) (CoL_setrow (r := b + 21 + j) (by omega)) (by omega)) q576 q625 q106 q575 hy_X1_puts rfl ⟨by dsimp only; omega, by dsimp only; omega⟩ ⟨Nat.zero_le _, Nat.zero_le _⟩ rfl (Nat.le_of_ble_eq_true rfl) dX28_fill_41 (fun uP hp => ?_)
          refine g_iinc_n (b := 1) (L' := [(0, _), (1, _), (2, _), (3, _), (4, _)]) dX28_fill_44 rfl rfl (by decide) rfl rfl ?_
          refine g_goto (tgt := 8) dX28_fill_47 (by decide) ?_
          first
            | exact ih8 (w + 1) _ (by omega) (by omega) (RT_y hi hp c35)
            | exact ih8 (w + 1) _ (by omega) (by omega) (RT_n hi c35)
  exact loop8 (many + 1) 0 _ (by omega) (by omega) RT_z
set_option maxHeartbeats 4000000 in
/-- a plain saying -/
theorem ctX28_fill30 {ca ra : Nat → Nat} {b : Nat} {many used : Nat} {liar : Int32} {xs ys heaps : Nat → Nat} {slips : Nat → Nat → Nat} {rows : Nat → Nat → Int64} {W : va_W} {T : Talk} {ta : Nat → Nat} {E : SE} {k d j t a : Nat}  (hT : TalkL Y T ta W) (hE : EnvC T b many xs ys slips rows E t) (hall : isRow (rows (b + 69)) (fun w => decide (w < many))) (hb : b + 70 ≤ 156) (hj : j < used) (hu : used + d ≤ 48) (hA : (a, .inr (30, [])) ∈ W) : CT l D clX (tyX Y) yX28_fill cX28_fill 5 none ({ frames := 10 + 2 * k, cells := 0, slots := 0, locals := 300 + 60 * k } : Room) [.ref a, .ref (ca 0), .int (nI t), .ref (ra (b + 21 + j))] (HW D clX A (CoL Y ca ra b (some (ta 0)) many used liar xs ys heaps slips rows W)) (Qv (fun (u : (Nat → Nat) × (Nat → Nat → Int64)) => FD rows u.2 b j used many (sSame E t)) (fun (u : (Nat → Nat) × (Nat → Nat → Int64)) => HW D clX A (CoL Y ca ra b (some (ta 0)) many used liar xs ys u.1 slips u.2 W)) A) A := by
  have hP : many ≤ 1830 := hE.1.1
  refine CT.of (L := [(0, .ref a), (1, .ref (ca 0)), (2, .int (nI t)), (3, .ref (ra (b + 21 + j)))]) rfl (by decide +kernel) rfl (Nat.le_of_ble_eq_true rfl) ?_
  refine g_aload_n 3 dX28_fill_0 rfl rfl ?_
  refine g_lconst (v := lN 0) dX28_fill_1 (by decide +kernel) ?_
  refine h_cSv (ctJ14_fill (lN 0) 1 rfl (by decide) (CoL_row (r := b + 21 + j) (by omega)) (CoL_setrow (r := b + 21 + j) (by omega) _)) (lw_S q612 q519 q141 q520) hy_J14_fill rfl ⟨by dsimp only; omega, by dsimp only; omega⟩ ⟨Nat.zero_le _, Nat.zero_le _⟩ rfl (Nat.le_of_ble_eq_true rfl) dX28_fill_2 (fun uF hF => ?_)
  refine g_iconst (v := nI 0) dX28_fill_5 (by decide +kernel) ?_
  refine g_istore (L' := [(0, _), (1, _), (2, _), (3, _), (4, _)]) dX28_fill_6 (by decide) rfl rfl ?_
  have loop8 : ∀ (q8 : Nat) (w : Nat) (rows1 : Nat → Nat → Int64), many - w < q8 → (w ≤ many) → (RT rows rows1 (b + 21 + j) (fun w' => decide (w' < w) && (fun w9 => decide (xs w9 = ys w9)) w')) → GG l D clX (tyX Y) cX28_fill 5 none RX28 ({ frames := 10 + 2 * k, cells := 0, slots := 0, locals := 300 + 60 * k } : Room) A MT (QM (Qv (fun (u : (Nat → Nat) × (Nat → Nat → Int64)) => FD rows u.2 b j used many (sSame E t)) (fun (u : (Nat → Nat) × (Nat → Nat → Int64)) => HW D clX A (CoL Y ca ra b (some (ta 0)) many used liar xs ys u.1 slips u.2 W)) A) 0 0 A) (HW D clX A (CoL Y ca ra b (some (ta 0)) many used liar xs ys heaps slips rows1 W)) 0 0 8 [(0, .ref a), (1, .ref (ca 0)), (2, .int (nI t)), (3, .ref (ra (b + 21 + j))), (4, .int (nI w))] [] := by
    intro q8
    induction q8 with
    | zero => intro w rows1 hq8; exact absurd hq8 (Nat.not_lt_zero _)
    | succ q8 ih8 =>
      intro w rows1 hq8 hw hi
      refine g_iload dX28_fill_8 rfl ?_
      refine g_aload_n 1 dX28_fill_10 rfl rfl ?_
      refine co_get_manyN q274 dX28_fill_11 ?_
      refine g_icmp_ge_n (tgt := 50) dX28_fill_14 (by decide) (by omega) (by omega) (fun c14 => ?_) (fun c14 => ?_)
      · skip
        exact g_vret (heaps, rows1) dX28_fill_50 (Nat.le_refl _) (Nat.le_refl _) (by have e9 : w = many := (by omega); rw [e9] at hi; exact FD.ofRT hi (fun w9 hw9 => by show decide (xs w9 = ys w9) = _; rw [← (hE.2.2.1 w9 hw9).1, ← (hE.2.2.1 w9 hw9).2.1]; rfl)) (fun _ h => h)
      · skip
        refine g_aload_n 0 dX28_fill_17 rfl rfl ?_
        refine g_aload_n 1 dX28_fill_18 rfl rfl ?_
        refine co_get_xN q254 dX28_fill_19 ?_
        refine g_iload dX28_fill_22 rfl ?_
        refine co_ld_xs (by omega) dX28_fill_24 ?_
        refine g_aload_n 1 dX28_fill_25 rfl rfl ?_
        refine co_get_yN q257 dX28_fill_26 ?_
        refine g_iload dX28_fill_29 rfl ?_
        refine co_ld_ys (by omega) dX28_fill_31 ?_
        have hx9 := (hE.2.2.1 w c14).2.2.1
        have hy9 := (hE.2.2.1 w c14).2.2.2
        refine h_cAi (ctX30_is _ _ hx9 hy9) (lw_U q613 q615 q622 q623 q151 q624) q614 hyx_TwoSlips_Plain_is__II_Z rfl ⟨by dsimp only; omega, by dsimp only; omega⟩ ⟨Nat.zero_le _, Nat.zero_le _⟩ rfl (Nat.le_of_ble_eq_true rfl) dX28_fill_32 (fun s H hK hP => va_recv hK (co_has _ hA H hP) (ci := 30) rfl (q0 := 0) rfl) (fun r u hp => ?_)
        obtain rfl := hp
        refine g_if_eq_b (tgt := 44) dX28_fill_35 (by decide) (fun c35 => ?_) (fun c35 => ?_)
        · skip
          refine g_iinc_n (b := 1) (L' := [(0, _), (1, _), (2, _), (3, _), (4, _)]) dX28_fill_44 rfl rfl (by decide) rfl rfl ?_
          refine g_goto (tgt := 8) dX28_fill_47 (by decide) ?_
          first
            | exact ih8 (w + 1) _ (by omega) (by omega) (RT_y hi hp c35)
            | exact ih8 (w + 1) _ (by omega) (by omega) (RT_n hi c35)
        · skip
          refine g_aload_n 3 dX28_fill_38 rfl rfl ?_
          refine g_iload dX28_fill_39 rfl ?_
          refine h_cMv (ctX1_puts w (CoL_row (r := b + 21 + j) (by omega)) (CoL_setrow (r := b + 21 + j) (by omega)) (by omega)) q576 q625 q106 q575 hy_X1_puts rfl ⟨by dsimp only; omega, by dsimp only; omega⟩ ⟨Nat.zero_le _, Nat.zero_le _⟩ rfl (Nat.le_of_ble_eq_true rfl) dX28_fill_41 (fun uP hp => ?_)
          refine g_iinc_n (b := 1) (L' := [(0, _), (1, _), (2, _), (3, _), (4, _)]) dX28_fill_44 rfl rfl (by decide) rfl rfl ?_
          refine g_goto (tgt := 8) dX28_fill_47 (by decide) ?_
          first
            | exact ih8 (w + 1) _ (by omega) (by omega) (RT_y hi hp c35)
            | exact ih8 (w + 1) _ (by omega) (by omega) (RT_n hi c35)
  exact loop8 (many + 1) 0 _ (by omega) (by omega) RT_z
set_option maxHeartbeats 4000000 in
/-- a plain saying -/
theorem ctX28_fill31 {ca ra : Nat → Nat} {b : Nat} {many used : Nat} {liar : Int32} {xs ys heaps : Nat → Nat} {slips : Nat → Nat → Nat} {rows : Nat → Nat → Int64} {W : va_W} {T : Talk} {ta : Nat → Nat} {E : SE} {k d j t a : Nat} (m : Nat) (hT : TalkL Y T ta W) (hE : EnvC T b many xs ys slips rows E t) (hall : isRow (rows (b + 69)) (fun w => decide (w < many))) (hb : b + 70 ≤ 156) (hj : j < used) (hu : used + d ≤ 48) (hA : (a, .inr (31, [.int (nI m)])) ∈ W) (hm : m ≤ 120) : CT l D clX (tyX Y) yX28_fill cX28_fill 5 none ({ frames := 10 + 2 * k, cells := 0, slots := 0, locals := 300 + 60 * k } : Room) [.ref a, .ref (ca 0), .int (nI t), .ref (ra (b + 21 + j))] (HW D clX A (CoL Y ca ra b (some (ta 0)) many used liar xs ys heaps slips rows W)) (Qv (fun (u : (Nat → Nat) × (Nat → Nat → Int64)) => FD rows u.2 b j used many ((sAbove m) E t)) (fun (u : (Nat → Nat) × (Nat → Nat → Int64)) => HW D clX A (CoL Y ca ra b (some (ta 0)) many used liar xs ys u.1 slips u.2 W)) A) A := by
  have hP : many ≤ 1830 := hE.1.1
  refine CT.of (L := [(0, .ref a), (1, .ref (ca 0)), (2, .int (nI t)), (3, .ref (ra (b + 21 + j)))]) rfl (by decide +kernel) rfl (Nat.le_of_ble_eq_true rfl) ?_
  refine g_aload_n 3 dX28_fill_0 rfl rfl ?_
  refine g_lconst (v := lN 0) dX28_fill_1 (by decide +kernel) ?_
  refine h_cSv (ctJ14_fill (lN 0) 1 rfl (by decide) (CoL_row (r := b + 21 + j) (by omega)) (CoL_setrow (r := b + 21 + j) (by omega) _)) (lw_S q612 q519 q141 q520) hy_J14_fill rfl ⟨by dsimp only; omega, by dsimp only; omega⟩ ⟨Nat.zero_le _, Nat.zero_le _⟩ rfl (Nat.le_of_ble_eq_true rfl) dX28_fill_2 (fun uF hF => ?_)
  refine g_iconst (v := nI 0) dX28_fill_5 (by decide +kernel) ?_
  refine g_istore (L' := [(0, _), (1, _), (2, _), (3, _), (4, _)]) dX28_fill_6 (by decide) rfl rfl ?_
  have loop8 : ∀ (q8 : Nat) (w : Nat) (rows1 : Nat → Nat → Int64), many - w < q8 → (w ≤ many) → (RT rows rows1 (b + 21 + j) (fun w' => decide (w' < w) && (fun w9 => decide (m < xs w9 + ys w9)) w')) → GG l D clX (tyX Y) cX28_fill 5 none RX28 ({ frames := 10 + 2 * k, cells := 0, slots := 0, locals := 300 + 60 * k } : Room) A MT (QM (Qv (fun (u : (Nat → Nat) × (Nat → Nat → Int64)) => FD rows u.2 b j used many ((sAbove m) E t)) (fun (u : (Nat → Nat) × (Nat → Nat → Int64)) => HW D clX A (CoL Y ca ra b (some (ta 0)) many used liar xs ys u.1 slips u.2 W)) A) 0 0 A) (HW D clX A (CoL Y ca ra b (some (ta 0)) many used liar xs ys heaps slips rows1 W)) 0 0 8 [(0, .ref a), (1, .ref (ca 0)), (2, .int (nI t)), (3, .ref (ra (b + 21 + j))), (4, .int (nI w))] [] := by
    intro q8
    induction q8 with
    | zero => intro w rows1 hq8; exact absurd hq8 (Nat.not_lt_zero _)
    | succ q8 ih8 =>
      intro w rows1 hq8 hw hi
      refine g_iload dX28_fill_8 rfl ?_
      refine g_aload_n 1 dX28_fill_10 rfl rfl ?_
      refine co_get_manyN q274 dX28_fill_11 ?_
      refine g_icmp_ge_n (tgt := 50) dX28_fill_14 (by decide) (by omega) (by omega) (fun c14 => ?_) (fun c14 => ?_)
      · skip
        exact g_vret (heaps, rows1) dX28_fill_50 (Nat.le_refl _) (Nat.le_refl _) (by have e9 : w = many := (by omega); rw [e9] at hi; exact FD.ofRT hi (fun w9 hw9 => by show decide (m < xs w9 + ys w9) = _; rw [← (hE.2.2.1 w9 hw9).1, ← (hE.2.2.1 w9 hw9).2.1]; rfl)) (fun _ h => h)
      · skip
        refine g_aload_n 0 dX28_fill_17 rfl rfl ?_
        refine g_aload_n 1 dX28_fill_18 rfl rfl ?_
        refine co_get_xN q254 dX28_fill_19 ?_
        refine g_iload dX28_fill_22 rfl ?_
        refine co_ld_xs (by omega) dX28_fill_24 ?_
        refine g_aload_n 1 dX28_fill_25 rfl rfl ?_
        refine co_get_yN q257 dX28_fill_26 ?_
        refine g_iload dX28_fill_29 rfl ?_
        refine co_ld_ys (by omega) dX28_fill_31 ?_
        have hx9 := (hE.2.2.1 w c14).2.2.1
        have hy9 := (hE.2.2.1 w c14).2.2.2
        refine h_cAi (ctX31_is _ _ m hx9 hy9 hm (co_has _ hA)) (lw_U q613 q615 q616 q617 q152 q618) q614 hyx_TwoSlips_Plain_is__II_Z rfl ⟨by dsimp only; omega, by dsimp only; omega⟩ ⟨Nat.zero_le _, Nat.zero_le _⟩ rfl (Nat.le_of_ble_eq_true rfl) dX28_fill_32 (fun s H hK hP => va_recv hK (co_has _ hA H hP) (ci := 31) rfl (q0 := 0) rfl) (fun r u hp => ?_)
        obtain rfl := hp
        refine g_if_eq_b (tgt := 44) dX28_fill_35 (by decide) (fun c35 => ?_) (fun c35 => ?_)
        · skip
          refine g_iinc_n (b := 1) (L' := [(0, _), (1, _), (2, _), (3, _), (4, _)]) dX28_fill_44 rfl rfl (by decide) rfl rfl ?_
          refine g_goto (tgt := 8) dX28_fill_47 (by decide) ?_
          first
            | exact ih8 (w + 1) _ (by omega) (by omega) (RT_y hi hp c35)
            | exact ih8 (w + 1) _ (by omega) (by omega) (RT_n hi c35)
        · skip
          refine g_aload_n 3 dX28_fill_38 rfl rfl ?_
          refine g_iload dX28_fill_39 rfl ?_
          refine h_cMv (ctX1_puts w (CoL_row (r := b + 21 + j) (by omega)) (CoL_setrow (r := b + 21 + j) (by omega)) (by omega)) q576 q625 q106 q575 hy_X1_puts rfl ⟨by dsimp only; omega, by dsimp only; omega⟩ ⟨Nat.zero_le _, Nat.zero_le _⟩ rfl (Nat.le_of_ble_eq_true rfl) dX28_fill_41 (fun uP hp => ?_)
          refine g_iinc_n (b := 1) (L' := [(0, _), (1, _), (2, _), (3, _), (4, _)]) dX28_fill_44 rfl rfl (by decide) rfl rfl ?_
          refine g_goto (tgt := 8) dX28_fill_47 (by decide) ?_
          first
            | exact ih8 (w + 1) _ (by omega) (by omega) (RT_y hi hp c35)
            | exact ih8 (w + 1) _ (by omega) (by omega) (RT_n hi c35)
  exact loop8 (many + 1) 0 _ (by omega) (by omega) RT_z
set_option maxHeartbeats 4000000 in
/-- knows -/
theorem ctX25_fill {ca ra : Nat → Nat} {b : Nat} {many used : Nat} {liar : Int32} {xs ys heaps : Nat → Nat} {slips : Nat → Nat → Nat} {rows : Nat → Nat → Int64} {W : va_W} {T : Talk} {ta : Nat → Nat} {E : SE} {k d j t a : Nat} (s0 : Nat) (hT : TalkL Y T ta W) (hE : EnvC T b many xs ys slips rows E t) (hall : isRow (rows (b + 69)) (fun w => decide (w < many))) (hb : b + 70 ≤ 156) (hj : j < used) (hu : used + d ≤ 48) (hA : (a, .inr (25, [.int (nI s0)])) ∈ W) (hs : s0 < tNS T) : CT l D clX (tyX Y) yX25_fill cX25_fill 4 none ({ frames := 10 + 2 * k, cells := 0, slots := 0, locals := 300 + 60 * k } : Room) [.ref a, .ref (ca 0), .int (nI t), .ref (ra (b + 21 + j))] (HW D clX A (CoL Y ca ra b (some (ta 0)) many used liar xs ys heaps slips rows W)) (Qv (fun (u : (Nat → Nat) × (Nat → Nat → Int64)) => FD rows u.2 b j used many (sKnows s0 E t)) (fun (u : (Nat → Nat) × (Nat → Nat → Int64)) => HW D clX A (CoL Y ca ra b (some (ta 0)) many used liar xs ys u.1 slips u.2 W)) A) A := by
  refine CT.of (L := [(0, .ref a), (1, .ref (ca 0)), (2, .int (nI t)), (3, .ref (ra (b + 21 + j)))]) rfl (by decide +kernel) rfl (Nat.le_of_ble_eq_true rfl) ?_
  refine g_aload_n 1 dX25_fill_0 rfl rfl ?_
  refine g_aload_n 0 dX25_fill_1 rfl rfl ?_
  refine g_getf (C := RX25) (T := TX25) (N := 1) 0 in_X25 rfl (by decide) q1259 rfl dX25_fill_2 (co_has _ hA) rfl ?_
  refine g_aload_n 1 dX25_fill_5 rfl rfl ?_
  refine g_aload_n 0 dX25_fill_6 rfl rfl ?_
  refine g_getf (C := RX25) (T := TX25) (N := 1) 0 in_X25 rfl (by decide) q1259 rfl dX25_fill_7 (co_has _ hA) rfl ?_
  refine g_iload_n 2 dX25_fill_10 rfl rfl ?_
  refine h_cVi (ctX3_heard s0 t hT hs) (lw_V q630 q603 q604 q111 q605) ⟨rfl, hy_X3_heard⟩ rfl ⟨by dsimp only; omega, by dsimp only; omega⟩ ⟨Nat.zero_le _, Nat.zero_le _⟩ rfl (Nat.le_of_ble_eq_true rfl) dX25_fill_11 co_rec (fun r u hp => ?_)
  obtain rfl := hp
  have hle := tHear_le T s0 t
  refine g_aload_n 3 dX25_fill_14 rfl rfl ?_
  refine h_cVv (ctX3_knows s0 (tHear T s0 t) (b + 21 + j) (tNS T) hE.1 hs hE.2.2.2.1 hb (by have := hE.2.2.2.2.2.1; omega) (by omega) (by have := hE.2.2.2.2.2.1; omega)) (lw_V q631 q632 q633 q111 q634) ⟨rfl, hy_X3_knows⟩ rfl ⟨by dsimp only; omega, by dsimp only; omega⟩ ⟨Nat.zero_le _, Nat.zero_le _⟩ rfl (Nat.le_of_ble_eq_true rfl) dX25_fill_15 co_rec (fun u3 hu3 => ?_)
  exact g_vret u3 dX25_fill_18 (Nat.le_refl _) (Nat.le_refl _) (FD.ofRT hu3 (fun w9 hw9 => knows_env hE hs hle hw9)) (fun _ h => h)
set_option maxHeartbeats 4000000 in
/-- where one sees it -/
theorem ctX3_sees {ca ra : Nat → Nat} {b : Nat} {many used : Nat} {liar : Int32} {xs ys heaps : Nat → Nat} {slips : Nat → Nat → Nat} {rows : Nat → Nat → Int64} {W : va_W} {T : Talk} {ta : Nat → Nat} {E : SE} {k d j t a : Nat} (s0 : Nat) (g : Sem) (ih : FillOK l D Y A k) (hT : TalkL Y T ta W) (hE : EnvC T b many xs ys slips rows E t) (hall : isRow (rows (b + 69)) (fun w => decide (w < many))) (hb : b + 70 ≤ 156) (hj : j < used) (hu : used + (d + 1) ≤ 48) (hs : s0 < tNS T) (hS : SayL (tNS T) W k d g a) : CT l D clX (tyX Y) yX3_sees cX3_sees 8 none ({ frames := 11 + 2 * k, cells := 0, slots := 0, locals := 331 + 60 * k } : Room) [.ref (ca 0), .int (nI s0), .ref a, .int (nI t), .ref (ra (b + 21 + j))] (HW D clX A (CoL Y ca ra b (some (ta 0)) many used liar xs ys heaps slips rows W)) (Qv (fun (u : (Nat → Nat) × (Nat → Nat → Int64)) => FD rows u.2 b j used many (sSees s0 g E t)) (fun (u : (Nat → Nat) × (Nat → Nat → Int64)) => HW D clX A (CoL Y ca ra b (some (ta 0)) many used liar xs ys u.1 slips u.2 W)) A) A := by
  have hP : many ≤ 1830 := hE.1.1
  have hO := hE.1
  have h6 := hE.2.2.2.1
  have ht20 := hE.2.2.2.2.2.1
  refine CT.of (L := [(0, .ref (ca 0)), (1, .int (nI s0)), (2, .ref a), (3, .int (nI t)), (4, .ref (ra (b + 21 + j)))]) rfl (by decide +kernel) rfl (Nat.le_of_ble_eq_true rfl) ?_
  refine g_aload_n 0 dX3_sees_0 rfl rfl ?_
  refine g_iload_n 1 dX3_sees_1 rfl rfl ?_
  refine g_iload_n 3 dX3_sees_2 rfl rfl ?_
  refine h_cVi (ctX3_heard s0 t hT hs) (lw_V q602 q603 q604 q111 q605) ⟨rfl, hy_X3_heard⟩ rfl ⟨by dsimp only; omega, by dsimp only; omega⟩ ⟨Nat.zero_le _, Nat.zero_le _⟩ rfl (Nat.le_of_ble_eq_true rfl) dX3_sees_3 co_rec (fun r u hp => ?_)
  obtain rfl := hp
  have hle := tHear_le T s0 t
  refine g_istore (L' := [(0, _), (1, _), (2, _), (3, _), (4, _), (5, _)]) dX3_sees_6 (by decide) rfl rfl ?_
  refine g_aload_n 0 dX3_sees_8 rfl rfl ?_
  refine h_cVo (ctX3_taken (by omega)) (lw_V q590 q591 q592 q111 q593) ⟨rfl, hy_X3_taken⟩ rfl ⟨by dsimp only; omega, by dsimp only; omega⟩ ⟨Nat.zero_le _, Nat.zero_le _⟩ rfl (Nat.le_of_ble_eq_true rfl) dX3_sees_9 co_rec (fun u hp => ?_)
  refine g_astore (L' := [(0, _), (1, _), (2, _), (3, _), (4, _), (5, _), (6, _)]) dX3_sees_12 (by decide) rfl rfl ?_
  refine g_aload_n 2 dX3_sees_14 rfl rfl ?_
  refine g_aload_n 0 dX3_sees_15 rfl rfl ?_
  refine g_iload dX3_sees_16 rfl ?_
  refine g_aload dX3_sees_18 rfl ?_
  refine g_fill q606 ih hT (hE.rst hle) hall hb (Nat.lt_succ_self used) (by omega) hS ⟨by dsimp only; omega, by dsimp only; omega⟩ ⟨Nat.zero_le _, Nat.zero_le _⟩ (Nat.le_of_ble_eq_true rfl) dX3_sees_20 (fun u3 hu3 => ?_)
  obtain ⟨heaps2, rows2⟩ := u3
  refine g_aload_n 0 dX3_sees_23 rfl rfl ?_
  refine co_get_heaps q259 dX3_sees_24 ?_
  refine g_iconst (v := nI 0) dX3_sees_27 (by decide +kernel) ?_
  refine h_cSv (ctJ14_fill_2 (N := 7300) (f := fun j => nI (heaps2 j)) (nI 0) 0 rfl (by decide) (q0 := 3) (a := ca 3) rfl (ws2 := CoL Y ca ra b (some (ta 0)) many (used + 1) liar xs ys (fun j => if j < 7300 then 0 else heaps2 j) slips rows2 W) (by rw [fill0]; rfl)) (lw_S q643 q644 q141 q645) hy_J14_fill_2 rfl ⟨by dsimp only; omega, by dsimp only; omega⟩ ⟨Nat.zero_le _, Nat.zero_le _⟩ rfl (Nat.le_of_ble_eq_true rfl) dX3_sees_28 (fun uF hF => ?_)
  refine g_iconst (v := nI 0) dX3_sees_31 (by decide +kernel) ?_
  refine g_istore (L' := [(0, _), (1, _), (2, _), (3, _), (4, _), (5, _), (6, _), (7, _)]) dX3_sees_32 (by decide) rfl rfl ?_
  have loop34 : ∀ (q34 : Nat) (w : Nat) (heaps3 : Nat → Nat), many - w < q34 → (w ≤ many) → (heapsAt heaps3 many w (slips s0) (fun v => lbt (rows2 (b + tHear T s0 t)) v && !lbt (rows2 (b + 21 + used)) v)) → GG l D clX (tyX Y) cX3_sees 8 none RX3 ({ frames := 11 + 2 * k, cells := 0, slots := 0, locals := 331 + 60 * k } : Room) A MT (QM (Qv (fun (u : (Nat → Nat) × (Nat → Nat → Int64)) => FD rows u.2 b j used many (sSees s0 g E t)) (fun (u : (Nat → Nat) × (Nat → Nat → Int64)) => HW D clX A (CoL Y ca ra b (some (ta 0)) many used liar xs ys u.1 slips u.2 W)) A) 0 0 A) (HW D clX A (CoL Y ca ra b (some (ta 0)) many (used + 1) liar xs ys heaps3 slips rows2 W)) 0 0 34 [(0, .ref (ca 0)), (1, .int (nI s0)), (2, .ref a), (3, .int (nI t)), (4, .ref (ra (b + 21 + j))), (5, .int (nI (tHear T s0 t))), (6, .ref (ra (b + 21 + used))), (7, .int (nI w))] [] := by
    intro q34
    induction q34 with
    | zero => intro w heaps3 hq34; exact absurd hq34 (Nat.not_lt_zero _)
    | succ q34 ih34 =>
      intro w heaps3 hq34 hw hi
      refine g_iload dX3_sees_34 rfl ?_
      refine g_aload_n 0 dX3_sees_36 rfl rfl ?_
      refine co_get_many q275 dX3_sees_37 ?_
      refine g_icmp_ge_n (tgt := 92) dX3_sees_40 (by decide) (by omega) (by omega) (fun c40 => ?_) (fun c40 => ?_)
      · skip
        have e34 : w = many := by omega
        rw [e34] at hi
        refine g_aload dX3_sees_92 rfl ?_
        refine g_lconst (v := lN 0) dX3_sees_94 (by decide +kernel) ?_
        refine h_cSv (ctJ14_fill (lN 0) 1 rfl (by decide) (CoL_row (r := b + 21 + j) (by omega)) (CoL_setrow (r := b + 21 + j) (by omega) _)) (lw_S q518 q519 q141 q520) hy_J14_fill rfl ⟨by dsimp only; omega, by dsimp only; omega⟩ ⟨Nat.zero_le _, Nat.zero_le _⟩ rfl (Nat.le_of_ble_eq_true rfl) dX3_sees_95 (fun uF hF => ?_)
        refine g_iconst (v := nI 0) dX3_sees_98 (by decide +kernel) ?_
        refine g_istore (L' := [(0, _), (1, _), (2, _), (3, _), (4, _), (5, _), (6, _), (7, _)]) dX3_sees_99 (by decide) rfl rfl ?_
        have loop101 : ∀ (q101 : Nat) (w : Nat) (rows4 : Nat → Nat → Int64), many - w < q101 → (w ≤ many) → (RT rows2 rows4 (b + 21 + j) (fun w' => decide (w' < w) && (seeF many (slips s0) (lbt (rows2 (b + tHear T s0 t))) (lbt (rows2 (b + 21 + used)))) w')) → GG l D clX (tyX Y) cX3_sees 8 none RX3 ({ frames := 11 + 2 * k, cells := 0, slots := 0, locals := 331 + 60 * k } : Room) A MT (QM (Qv (fun (u : (Nat → Nat) × (Nat → Nat → Int64)) => FD rows u.2 b j used many (sSees s0 g E t)) (fun (u : (Nat → Nat) × (Nat → Nat → Int64)) => HW D clX A (CoL Y ca ra b (some (ta 0)) many used liar xs ys u.1 slips u.2 W)) A) 0 0 A) (HW D clX A (CoL Y ca ra b (some (ta 0)) many (used + 1) liar xs ys heaps3 slips rows4 W)) 0 0 101 [(0, .ref (ca 0)), (1, .int (nI s0)), (2, .ref a), (3, .int (nI t)), (4, .ref (ra (b + 21 + j))), (5, .int (nI (tHear T s0 t))), (6, .ref (ra (b + 21 + used))), (7, .int (nI w))] [] := by
          intro q101
          induction q101 with
          | zero => intro w rows4 hq101; exact absurd hq101 (Nat.not_lt_zero _)
          | succ q101 ih101 =>
            intro w rows4 hq101 hw4 hi4
            refine g_iload dX3_sees_101 rfl ?_
            refine g_aload_n 0 dX3_sees_103 rfl rfl ?_
            refine co_get_many q275 dX3_sees_104 ?_
            refine g_icmp_ge_n (tgt := 140) dX3_sees_107 (by decide) (by omega) (by omega) (fun c107 => ?_) (fun c107 => ?_)
            · skip
              refine g_aload_n 0 dX3_sees_140 rfl rfl ?_
              refine h_cVv (ctX3_given (by omega)) (lw_V q675 q667 q668 q111 q669) ⟨rfl, hy_X3_given⟩ rfl ⟨by dsimp only; omega, by dsimp only; omega⟩ ⟨Nat.zero_le _, Nat.zero_le _⟩ rfl (Nat.le_of_ble_eq_true rfl) dX3_sees_141 co_rec (fun u hp => ?_)
              refine GG.hp (congrArg (fun z9 => HW D clX A (CoL Y ca ra b (some (ta 0)) many z9 liar xs ys heaps3 slips rows4 W)) (Nat.add_sub_cancel used 1)) ?_
              exact g_vret (heaps3, rows4) dX3_sees_144 (Nat.le_refl _) (Nat.le_refl _) (by have e9 : w = many := (by omega); rw [e9] at hi4; exact sees_fin hE hs hle hb hj (by omega) hu3 hi4) (fun _ h => h)
            · skip
              refine g_aload_n 0 dX3_sees_110 rfl rfl ?_
              refine co_get_heaps q259 dX3_sees_111 ?_
              refine g_aload_n 0 dX3_sees_114 rfl rfl ?_
              refine co_get_slips q261 dX3_sees_115 ?_
              refine g_iload_n 1 dX3_sees_118 rfl rfl ?_
              refine co_ld_slips (by omega) dX3_sees_119 ?_
              refine g_iload dX3_sees_120 rfl ?_
              refine co_ld_slip (by omega) (by omega) dX3_sees_122 ?_
              refine co_ld_heaps (hO.2 _ _ hs c107) dX3_sees_123 ?_
              refine g_if_ne_n (tgt := 134) dX3_sees_124 (by decide) (by rw [hi w c107]; have := likeN_le many (slips s0) (fun v => lbt (rows2 (b + tHear T s0 t)) v && !lbt (rows2 (b + 21 + used)) v) w; omega) (fun c124 => ?_) (fun c124 => ?_)
              · skip
                refine g_iinc_n (b := 1) (L' := [(0, _), (1, _), (2, _), (3, _), (4, _), (5, _), (6, _), (7, _)]) dX3_sees_134 rfl rfl (by decide) rfl rfl ?_
                refine g_goto (tgt := 101) dX3_sees_137 (by decide) ?_
                first
                  | exact ih101 (w + 1) _ (by omega) (by omega) (RT_y hi4 hp (by unfold seeF; rw [← hi w c107]; exact decide_eq_true c124))
                  | exact ih101 (w + 1) _ (by omega) (by omega) (RT_n hi4 (by unfold seeF; rw [← hi w c107]; exact decide_eq_false c124))
              · skip
                refine g_aload dX3_sees_127 rfl ?_
                refine g_iload dX3_sees_129 rfl ?_
                refine h_cMv (ctX1_puts w (CoL_row (r := b + 21 + j) (by omega)) (CoL_setrow (r := b + 21 + j) (by omega)) (by omega)) q576 q574 q106 q575 hy_X1_puts rfl ⟨by dsimp only; omega, by dsimp only; omega⟩ ⟨Nat.zero_le _, Nat.zero_le _⟩ rfl (Nat.le_of_ble_eq_true rfl) dX3_sees_131 (fun uP hp => ?_)
                refine g_iinc_n (b := 1) (L' := [(0, _), (1, _), (2, _), (3, _), (4, _), (5, _), (6, _), (7, _)]) dX3_sees_134 rfl rfl (by decide) rfl rfl ?_
                refine g_goto (tgt := 101) dX3_sees_137 (by decide) ?_
                first
                  | exact ih101 (w + 1) _ (by omega) (by omega) (RT_y hi4 hp (by unfold seeF; rw [← hi w c107]; exact decide_eq_true c124))
                  | exact ih101 (w + 1) _ (by omega) (by omega) (RT_n hi4 (by unfold seeF; rw [← hi w c107]; exact decide_eq_false c124))
        exact loop101 (many + 1) 0 _ (by omega) (by omega) RT_z
      · skip
        refine g_aload_n 0 dX3_sees_43 rfl rfl ?_
        refine co_get_left q268 dX3_sees_44 ?_
        refine g_iload dX3_sees_47 rfl ?_
        refine co_ld_left (by omega) dX3_sees_49 ?_
        refine g_iload dX3_sees_50 rfl ?_
        refine h_cMi (ctX1_has w (f := rows2 (b + tHear T s0 t)) (hw_ix (CoL_row (r := b + tHear T s0 t) (by omega))) (by omega)) q648 q646 q106 q647 hy_X1_has rfl ⟨by dsimp only; omega, by dsimp only; omega⟩ ⟨Nat.zero_le _, Nat.zero_le _⟩ rfl (Nat.le_of_ble_eq_true rfl) dX3_sees_52 (fun r u hp => ?_)
        obtain rfl := hp
        refine g_if_eq_b (tgt := 86) dX3_sees_55 (by decide) (fun c55 => ?_) (fun c55 => ?_)
        · skip
          refine g_iinc_n (b := 1) (L' := [(0, _), (1, _), (2, _), (3, _), (4, _), (5, _), (6, _), (7, _)]) dX3_sees_86 rfl rfl (by decide) rfl rfl ?_
          refine g_goto (tgt := 34) dX3_sees_89 (by decide) ?_
          first
            | exact ih34 (w + 1) _ (by omega) (by omega) (heapsAt_up hi c40 (by show (_ && !_) = true; rw [c55, c65]; rfl))
            | exact ih34 (w + 1) _ (by omega) (by omega) (heapsAt_skip hi (by show (_ && !_) = false; rw [c55, c65]; rfl))
            | exact ih34 (w + 1) _ (by omega) (by omega) (heapsAt_skip hi (by show (_ && !_) = false; rw [c55]; rfl))
        · skip
          refine g_aload dX3_sees_58 rfl ?_
          refine g_iload dX3_sees_60 rfl ?_
          refine h_cMi (ctX1_has w (f := rows2 (b + 21 + used)) (hw_ix (CoL_row (r := b + 21 + used) (by omega))) (by omega)) q648 q646 q106 q647 hy_X1_has rfl ⟨by dsimp only; omega, by dsimp only; omega⟩ ⟨Nat.zero_le _, Nat.zero_le _⟩ rfl (Nat.le_of_ble_eq_true rfl) dX3_sees_62 (fun r u hp => ?_)
          obtain rfl := hp
          refine g_if_ne_b (tgt := 86) dX3_sees_65 (by decide) (fun c65 => ?_) (fun c65 => ?_)
          · skip
            refine g_iinc_n (b := 1) (L' := [(0, _), (1, _), (2, _), (3, _), (4, _), (5, _), (6, _), (7, _)]) dX3_sees_86 rfl rfl (by decide) rfl rfl ?_
            refine g_goto (tgt := 34) dX3_sees_89 (by decide) ?_
            first
              | exact ih34 (w + 1) _ (by omega) (by omega) (heapsAt_up hi c40 (by show (_ && !_) = true; rw [c55, c65]; rfl))
              | exact ih34 (w + 1) _ (by omega) (by omega) (heapsAt_skip hi (by show (_ && !_) = false; rw [c55, c65]; rfl))
              | exact ih34 (w + 1) _ (by omega) (by omega) (heapsAt_skip hi (by show (_ && !_) = false; rw [c55]; rfl))
          · skip
            refine g_aload_n 0 dX3_sees_68 rfl rfl ?_
            refine co_get_heaps q259 dX3_sees_69 ?_
            refine g_aload_n 0 dX3_sees_72 rfl rfl ?_
            refine co_get_slips q261 dX3_sees_73 ?_
            refine g_iload_n 1 dX3_sees_76 rfl rfl ?_
            refine co_ld_slips (by omega) dX3_sees_77 ?_
            refine g_iload dX3_sees_78 rfl ?_
            refine co_ld_slip (by omega) (by omega) dX3_sees_80 ?_
            refine g_dup2_11 dX3_sees_81 rfl rfl ?_
            refine co_ld_heaps (hO.2 _ _ hs c40) dX3_sees_82 ?_
            refine g_iconst (v := nI 1) dX3_sees_83 (by decide +kernel) ?_
            refine g_iadd_n dX3_sees_84 ?_
            refine co_st_heaps (hO.2 _ _ hs c40) dX3_sees_85 ?_
            refine g_iinc_n (b := 1) (L' := [(0, _), (1, _), (2, _), (3, _), (4, _), (5, _), (6, _), (7, _)]) dX3_sees_86 rfl rfl (by decide) rfl rfl ?_
            refine g_goto (tgt := 34) dX3_sees_89 (by decide) ?_
            first
              | exact ih34 (w + 1) _ (by omega) (by omega) (heapsAt_up hi c40 (by show (_ && !_) = true; rw [c55, c65]; rfl))
              | exact ih34 (w + 1) _ (by omega) (by omega) (heapsAt_skip hi (by show (_ && !_) = false; rw [c55, c65]; rfl))
              | exact ih34 (w + 1) _ (by omega) (by omega) (heapsAt_skip hi (by show (_ && !_) = false; rw [c55]; rfl))
  exact loop34 (many + 1) 0 _ (by omega) (by omega) (fun v hv => by rw [likeN_0]; exact if_pos (hO.2 _ _ hs hv))
set_option maxHeartbeats 4000000 in
/-- sees -/
theorem ctX26_fill {ca ra : Nat → Nat} {b : Nat} {many used : Nat} {liar : Int32} {xs ys heaps : Nat → Nat} {slips : Nat → Nat → Nat} {rows : Nat → Nat → Int64} {W : va_W} {T : Talk} {ta : Nat → Nat} {E : SE} {k d j t a : Nat} (s0 p : Nat) (g : Sem) (ih : FillOK l D Y A k) (hT : TalkL Y T ta W) (hE : EnvC T b many xs ys slips rows E t) (hall : isRow (rows (b + 69)) (fun w => decide (w < many))) (hb : b + 70 ≤ 156) (hj : j < used) (hu : used + (d + 1) ≤ 48) (hA : (a, .inr (26, [.int (nI s0), .ref p])) ∈ W) (hs : s0 < tNS T) (hS : SayL (tNS T) W k d g p) : CT l D clX (tyX Y) yX26_fill cX26_fill 4 none ({ frames := 10 + 2 * (k + 1), cells := 0, slots := 0, locals := 300 + 60 * (k + 1) } : Room) [.ref a, .ref (ca 0), .int (nI t), .ref (ra (b + 21 + j))] (HW D clX A (CoL Y ca ra b (some (ta 0)) many used liar xs ys heaps slips rows W)) (Qv (fun (u : (Nat → Nat) × (Nat → Nat → Int64)) => FD rows u.2 b j used many (sSees s0 g E t)) (fun (u : (Nat → Nat) × (Nat → Nat → Int64)) => HW D clX A (CoL Y ca ra b (some (ta 0)) many used liar xs ys u.1 slips u.2 W)) A) A := by
  refine CT.of (L := [(0, .ref a), (1, .ref (ca 0)), (2, .int (nI t)), (3, .ref (ra (b + 21 + j)))]) rfl (by decide +kernel) rfl (Nat.le_of_ble_eq_true rfl) ?_
  refine g_aload_n 1 dX26_fill_0 rfl rfl ?_
  refine g_aload_n 0 dX26_fill_1 rfl rfl ?_
  refine g_getf (C := RX26) (T := TX26) (N := 2) 0 in_X26 rfl (by decide) q1270 rfl dX26_fill_2 (co_has _ hA) rfl ?_
  refine g_aload_n 0 dX26_fill_5 rfl rfl ?_
  refine g_getf (C := RX26) (T := TX26) (N := 2) 1 in_X26 rfl (by decide) q1271 rfl dX26_fill_6 (co_has _ hA) rfl ?_
  refine g_iload_n 2 dX26_fill_9 rfl rfl ?_
  refine g_aload_n 3 dX26_fill_10 rfl rfl ?_
  refine h_cVv (ctX3_sees s0 g ih hT hE hall hb hj hu hs hS) (lw_V q658 q599 q600 q111 q601) ⟨rfl, hy_X3_sees⟩ rfl ⟨by dsimp only; omega, by dsimp only; omega⟩ ⟨Nat.zero_le _, Nat.zero_le _⟩ rfl (Nat.le_of_ble_eq_true rfl) dX26_fill_11 co_rec (fun u3 hu3 => ?_)
  exact g_vret u3 dX26_fill_14 (Nat.le_refl _) (Nat.le_refl _) (hu3) (fun _ h => h)
set_option maxHeartbeats 4000000 in
/-- was -/
theorem ctX27_fill {ca ra : Nat → Nat} {b : Nat} {many used : Nat} {liar : Int32} {xs ys heaps : Nat → Nat} {slips : Nat → Nat → Nat} {rows : Nat → Nat → Int64} {W : va_W} {T : Talk} {ta : Nat → Nat} {E : SE} {k d j t a : Nat} (m p : Nat) (g : Sem) (ih : FillOK l D Y A k) (hT : TalkL Y T ta W) (hE : EnvC T b many xs ys slips rows E t) (hall : isRow (rows (b + 69)) (fun w => decide (w < many))) (hb : b + 70 ≤ 156) (hj : j < used) (hu : used + d ≤ 48) (hA : (a, .inr (27, [.int (nI m), .ref p])) ∈ W) (hm : m ≤ 20) (hS : SayL (tNS T) W k d g p) : CT l D clX (tyX Y) yX27_fill cX27_fill 4 none ({ frames := 10 + 2 * (k + 1), cells := 0, slots := 0, locals := 300 + 60 * (k + 1) } : Room) [.ref a, .ref (ca 0), .int (nI t), .ref (ra (b + 21 + j))] (HW D clX A (CoL Y ca ra b (some (ta 0)) many used liar xs ys heaps slips rows W)) (Qv (fun (u : (Nat → Nat) × (Nat → Nat → Int64)) => FD rows u.2 b j used many (sWas m g E t)) (fun (u : (Nat → Nat) × (Nat → Nat → Int64)) => HW D clX A (CoL Y ca ra b (some (ta 0)) many used liar xs ys u.1 slips u.2 W)) A) A := by
  have ht20 := hE.2.2.2.2.2.1
  refine CT.of (L := [(0, .ref a), (1, .ref (ca 0)), (2, .int (nI t)), (3, .ref (ra (b + 21 + j)))]) rfl (by decide +kernel) rfl (Nat.le_of_ble_eq_true rfl) ?_
  refine g_aload_n 0 dX27_fill_0 rfl rfl ?_
  refine g_getf (C := RX27) (T := TX27) (N := 2) 1 in_X27 rfl (by decide) q1285 rfl dX27_fill_1 (co_has _ hA) rfl ?_
  refine g_aload_n 1 dX27_fill_4 rfl rfl ?_
  refine g_iload_n 2 dX27_fill_5 rfl rfl ?_
  refine g_aload_n 0 dX27_fill_6 rfl rfl ?_
  refine g_getf (C := RX27) (T := TX27) (N := 2) 0 in_X27 rfl (by decide) q1284 rfl dX27_fill_7 (co_has _ hA) rfl ?_
  refine g_min q661 q662 q129 q663 (Nat.le_trans (by decide : 1 ≤ 10) (Nat.le_add_right 10 _)) (Nat.le_trans (Nat.le_of_ble_eq_true rfl) (Nat.le_add_right 300 _)) (Nat.zero_le _) (Nat.zero_le _) dX27_fill_10 ?_
  refine GG.topi (y := nI (min m t)) (min_nI (by omega) (by omega)) ?_
  refine g_aload_n 3 dX27_fill_13 rfl rfl ?_
  refine g_fill q664 ih hT (hE.rst (Nat.min_le_right m t)) hall hb hj hu hS ⟨by dsimp only; omega, by dsimp only; omega⟩ ⟨Nat.zero_le _, Nat.zero_le _⟩ (Nat.le_of_ble_eq_true rfl) dX27_fill_14 (fun u3 hu3 => ?_)
  obtain ⟨heaps2, rows2⟩ := u3
  exact g_vret (heaps2, rows2) dX27_fill_17 (Nat.le_refl _) (Nat.le_refl _) (hu3) (fun _ h => h)
set_option maxHeartbeats 4000000 in
/-- not -/
theorem ctX24_fill {ca ra : Nat → Nat} {b : Nat} {many used : Nat} {liar : Int32} {xs ys heaps : Nat → Nat} {slips : Nat → Nat → Nat} {rows : Nat → Nat → Int64} {W : va_W} {T : Talk} {ta : Nat → Nat} {E : SE} {k d j t a : Nat} (p : Nat) (g : Sem) (ih : FillOK l D Y A k) (hT : TalkL Y T ta W) (hE : EnvC T b many xs ys slips rows E t) (hall : isRow (rows (b + 69)) (fun w => decide (w < many))) (hb : b + 70 ≤ 156) (hj : j < used) (hu : used + d ≤ 48) (hA : (a, .inr (24, [.ref p])) ∈ W) (hS : SayL (tNS T) W k d g p) : CT l D clX (tyX Y) yX24_fill cX24_fill 5 none ({ frames := 10 + 2 * (k + 1), cells := 0, slots := 0, locals := 300 + 60 * (k + 1) } : Room) [.ref a, .ref (ca 0), .int (nI t), .ref (ra (b + 21 + j))] (HW D clX A (CoL Y ca ra b (some (ta 0)) many used liar xs ys heaps slips rows W)) (Qv (fun (u : (Nat → Nat) × (Nat → Nat → Int64)) => FD rows u.2 b j used many (sNot g E t)) (fun (u : (Nat → Nat) × (Nat → Nat → Int64)) => HW D clX A (CoL Y ca ra b (some (ta 0)) many used liar xs ys u.1 slips u.2 W)) A) A := by
  refine CT.of (L := [(0, .ref a), (1, .ref (ca 0)), (2, .int (nI t)), (3, .ref (ra (b + 21 + j)))]) rfl (by decide +kernel) rfl (Nat.le_of_ble_eq_true rfl) ?_
  refine g_aload_n 0 dX24_fill_0 rfl rfl ?_
  refine g_getf (C := RX24) (T := TX24) (N := 1) 0 in_X24 rfl (by decide) q1248 rfl dX24_fill_1 (co_has _ hA) rfl ?_
  refine g_aload_n 1 dX24_fill_4 rfl rfl ?_
  refine g_iload_n 2 dX24_fill_5 rfl rfl ?_
  refine g_aload_n 3 dX24_fill_6 rfl rfl ?_
  refine g_fill q652 ih hT hE hall hb hj hu hS ⟨by dsimp only; omega, by dsimp only; omega⟩ ⟨Nat.zero_le _, Nat.zero_le _⟩ (Nat.le_of_ble_eq_true rfl) dX24_fill_7 (fun u3 hu3 => ?_)
  obtain ⟨heaps2, rows2⟩ := u3
  refine g_iconst (v := nI 0) dX24_fill_10 (by decide +kernel) ?_
  refine g_istore (L' := [(0, _), (1, _), (2, _), (3, _), (4, _)]) dX24_fill_11 (by decide) rfl rfl ?_
  have loop13 : ∀ (q13 : Nat) (w : Nat) (rows1 : Nat → Nat → Int64), 29 - w < q13 → (w ≤ 29) → (RK rows2 rows1 (b + 21 + j) w (fun w' => !lbt (rows2 (b + 21 + j)) w' && lbt (rows2 (b + 69)) w')) → GG l D clX (tyX Y) cX24_fill 5 none RX24 ({ frames := 10 + 2 * (k + 1), cells := 0, slots := 0, locals := 300 + 60 * (k + 1) } : Room) A MT (QM (Qv (fun (u : (Nat → Nat) × (Nat → Nat → Int64)) => FD rows u.2 b j used many (sNot g E t)) (fun (u : (Nat → Nat) × (Nat → Nat → Int64)) => HW D clX A (CoL Y ca ra b (some (ta 0)) many used liar xs ys u.1 slips u.2 W)) A) 0 0 A) (HW D clX A (CoL Y ca ra b (some (ta 0)) many used liar xs ys heaps2 slips rows1 W)) 0 0 13 [(0, .ref a), (1, .ref (ca 0)), (2, .int (nI t)), (3, .ref (ra (b + 21 + j))), (4, .int (nI w))] [] := by
    intro q13
    induction q13 with
    | zero => intro w rows1 hq13; exact absurd hq13 (Nat.not_lt_zero _)
    | succ q13 ih13 =>
      intro w rows1 hq13 hw hi
      refine g_iload dX24_fill_13 rfl ?_
      refine g_bipush (v := nI 29) dX24_fill_15 (by decide +kernel) ?_
      refine g_icmp_ge_n (tgt := 46) dX24_fill_17 (by decide) (by omega) (by omega) (fun c17 => ?_) (fun c17 => ?_)
      · skip
        exact g_vret (heaps2, rows1) dX24_fill_46 (Nat.le_refl _) (Nat.le_refl _) (by have e9 : w = 29 := (by omega); rw [e9] at hi; exact not_fin hall hj (by omega) hu3 (RK_e hi)) (fun _ h => h)
      · skip
        refine g_aload_n 3 dX24_fill_20 rfl rfl ?_
        refine g_iload dX24_fill_21 rfl ?_
        refine g_aload_n 3 dX24_fill_23 rfl rfl ?_
        refine g_iload dX24_fill_24 rfl ?_
        refine co_ld_row (by omega) (by omega) dX24_fill_26 ?_
        refine g_ldc2 (v := -1) dX24_fill_27 q670 ?_
        refine g_lxor dX24_fill_30 ?_
        refine g_aload_n 1 dX24_fill_31 rfl rfl ?_
        refine co_get_allN q265 dX24_fill_32 ?_
        refine g_iload dX24_fill_35 rfl ?_
        refine co_ld_row (by omega) (by omega) dX24_fill_37 ?_
        refine g_land dX24_fill_38 ?_
        refine co_st_row (by omega) (by omega) dX24_fill_39 ?_
        refine g_iinc_n (b := 1) (L' := [(0, _), (1, _), (2, _), (3, _), (4, _)]) dX24_fill_40 rfl rfl (by decide) rfl rfl ?_
        refine g_goto (tgt := 13) dX24_fill_43 (by decide) ?_
        exact ih13 (w + 1) _ (by omega) (by omega) (RK_s hi (fun i hi9 => by rw [bx_and, bx_not _ hi9, RK_l hi c17 hi9, hi.2 (b + 69) (by omega), lb_l _ hi9]))
  exact loop13 30 0 _ (by omega) (by omega) RK_0
set_option maxHeartbeats 4000000 in
/-- both, either -/
theorem ctX32_fill {ca ra : Nat → Nat} {b : Nat} {many used : Nat} {liar : Int32} {xs ys heaps : Nat → Nat} {slips : Nat → Nat → Nat} {rows : Nat → Nat → Int64} {W : va_W} {T : Talk} {ta : Nat → Nat} {E : SE} {k d j t a : Nat} (bo : Bool) (x y : Nat) (g h : Sem) (ih : FillOK l D Y A k) (hT : TalkL Y T ta W) (hE : EnvC T b many xs ys slips rows E t) (hall : isRow (rows (b + 69)) (fun w => decide (w < many))) (hb : b + 70 ≤ 156) (hj : j < used) (hu : used + (d + 1) ≤ 48) (hA : (a, .inr (32, [.int (bI bo), .ref x, .ref y])) ∈ W) (hS : SayL (tNS T) W k (d + 1) g x) (hS2 : SayL (tNS T) W k d h y) : CT l D clX (tyX Y) yX32_fill cX32_fill 6 none ({ frames := 10 + 2 * (k + 1), cells := 0, slots := 0, locals := 300 + 60 * (k + 1) } : Room) [.ref a, .ref (ca 0), .int (nI t), .ref (ra (b + 21 + j))] (HW D clX A (CoL Y ca ra b (some (ta 0)) many used liar xs ys heaps slips rows W)) (Qv (fun (u : (Nat → Nat) × (Nat → Nat → Int64)) => FD rows u.2 b j used many (sPair bo g h E t)) (fun (u : (Nat → Nat) × (Nat → Nat → Int64)) => HW D clX A (CoL Y ca ra b (some (ta 0)) many used liar xs ys u.1 slips u.2 W)) A) A := by
  refine CT.of (L := [(0, .ref a), (1, .ref (ca 0)), (2, .int (nI t)), (3, .ref (ra (b + 21 + j)))]) rfl (by decide +kernel) rfl (Nat.le_of_ble_eq_true rfl) ?_
  refine g_aload_n 0 dX32_fill_0 rfl rfl ?_
  refine g_getf (C := RX32) (T := TX32) (N := 3) 1 in_X32 rfl (by decide) q1329 rfl dX32_fill_1 (co_has _ hA) rfl ?_
  refine g_aload_n 1 dX32_fill_4 rfl rfl ?_
  refine g_iload_n 2 dX32_fill_5 rfl rfl ?_
  refine g_aload_n 3 dX32_fill_6 rfl rfl ?_
  refine g_fill q655 ih hT hE hall hb hj hu hS ⟨by dsimp only; omega, by dsimp only; omega⟩ ⟨Nat.zero_le _, Nat.zero_le _⟩ (Nat.le_of_ble_eq_true rfl) dX32_fill_7 (fun u3 hu3 => ?_)
  obtain ⟨heaps2, rows2⟩ := u3
  refine g_aload_n 1 dX32_fill_10 rfl rfl ?_
  refine h_cVo (ctX3_taken (by omega)) (lw_V q665 q591 q592 q111 q593) ⟨rfl, hy_X3_taken⟩ rfl ⟨by dsimp only; omega, by dsimp only; omega⟩ ⟨Nat.zero_le _, Nat.zero_le _⟩ rfl (Nat.le_of_ble_eq_true rfl) dX32_fill_11 co_rec (fun u hp => ?_)
  refine g_astore (L' := [(0, _), (1, _), (2, _), (3, _), (4, _)]) dX32_fill_14 (by decide) rfl rfl ?_
  refine g_aload_n 0 dX32_fill_16 rfl rfl ?_
  refine g_getf (C := RX32) (T := TX32) (N := 3) 2 in_X32 rfl (by decide) q1330 rfl dX32_fill_17 (co_has _ hA) rfl ?_
  refine g_aload_n 1 dX32_fill_20 rfl rfl ?_
  refine g_iload_n 2 dX32_fill_21 rfl rfl ?_
  refine g_aload dX32_fill_22 rfl ?_
  refine g_fill q655 ih hT (hu3.env hE) (by rw [hu3.all hj (by omega)]; exact hall) hb (Nat.lt_succ_self used) (by omega) hS2 ⟨by dsimp only; omega, by dsimp only; omega⟩ ⟨Nat.zero_le _, Nat.zero_le _⟩ (Nat.le_of_ble_eq_true rfl) dX32_fill_24 (fun u4 hu4 => ?_)
  obtain ⟨heaps3, rows3⟩ := u4
  refine g_iconst (v := nI 0) dX32_fill_27 (by decide +kernel) ?_
  refine g_istore (L' := [(0, _), (1, _), (2, _), (3, _), (4, _), (5, _)]) dX32_fill_28 (by decide) rfl rfl ?_
  have loop30 : ∀ (q30 : Nat) (w : Nat) (rows1 : Nat → Nat → Int64), 29 - w < q30 → (w ≤ 29) → (RK rows3 rows1 (b + 21 + j) w (fun w' => if bo = true then (lbt (rows3 (b + 21 + j)) w' && lbt (rows3 (b + 21 + used)) w') else (lbt (rows3 (b + 21 + j)) w' || lbt (rows3 (b + 21 + used)) w'))) → GG l D clX (tyX Y) cX32_fill 6 none RX32 ({ frames := 10 + 2 * (k + 1), cells := 0, slots := 0, locals := 300 + 60 * (k + 1) } : Room) A MT (QM (Qv (fun (u : (Nat → Nat) × (Nat → Nat → Int64)) => FD rows u.2 b j used many (sPair bo g h E t)) (fun (u : (Nat → Nat) × (Nat → Nat → Int64)) => HW D clX A (CoL Y ca ra b (some (ta 0)) many used liar xs ys u.1 slips u.2 W)) A) 0 0 A) (HW D clX A (CoL Y ca ra b (some (ta 0)) many (used + 1) liar xs ys heaps3 slips rows1 W)) 0 0 30 [(0, .ref a), (1, .ref (ca 0)), (2, .int (nI t)), (3, .ref (ra (b + 21 + j))), (4, .ref (ra (b + 21 + used))), (5, .int (nI w))] [] := by
    intro q30
    induction q30 with
    | zero => intro w rows1 hq30; exact absurd hq30 (Nat.not_lt_zero _)
    | succ q30 ih30 =>
      intro w rows1 hq30 hw hi
      refine g_iload dX32_fill_30 rfl ?_
      refine g_bipush (v := nI 29) dX32_fill_32 (by decide +kernel) ?_
      refine g_icmp_ge_n (tgt := 77) dX32_fill_34 (by decide) (by omega) (by omega) (fun c34 => ?_) (fun c34 => ?_)
      · skip
        refine g_aload_n 1 dX32_fill_77 rfl rfl ?_
        refine h_cVv (ctX3_given (by omega)) (lw_V q666 q667 q668 q111 q669) ⟨rfl, hy_X3_given⟩ rfl ⟨by dsimp only; omega, by dsimp only; omega⟩ ⟨Nat.zero_le _, Nat.zero_le _⟩ rfl (Nat.le_of_ble_eq_true rfl) dX32_fill_78 co_rec (fun u hp => ?_)
        refine GG.hp (congrArg (fun z9 => HW D clX A (CoL Y ca ra b (some (ta 0)) many z9 liar xs ys heaps3 slips rows1 W)) (Nat.add_sub_cancel used 1)) ?_
        exact g_vret (heaps3, rows1) dX32_fill_81 (Nat.le_refl _) (Nat.le_refl _) (by have e9 : w = 29 := (by omega); rw [e9] at hi; exact pair_fin hj (by omega) hu3 hu4 (RK_e hi)) (fun _ h => h)
      · skip
        refine g_aload_n 3 dX32_fill_37 rfl rfl ?_
        refine g_iload dX32_fill_38 rfl ?_
        refine g_aload_n 0 dX32_fill_40 rfl rfl ?_
        refine g_getf (C := RX32) (T := TX32) (N := 3) 0 in_X32 rfl (by decide) q1328 rfl dX32_fill_41 (co_has _ hA) rfl ?_
        refine g_if_eq_b (tgt := 60) dX32_fill_44 (by decide) (fun c44 => ?_) (fun c44 => ?_)
        · skip
          refine g_aload_n 3 dX32_fill_60 rfl rfl ?_
          refine g_iload dX32_fill_61 rfl ?_
          refine co_ld_row (by omega) (by omega) dX32_fill_63 ?_
          refine g_aload dX32_fill_64 rfl ?_
          refine g_iload dX32_fill_66 rfl ?_
          refine co_ld_row (by omega) (by omega) dX32_fill_68 ?_
          refine g_lor dX32_fill_69 ?_
          refine co_st_row (by omega) (by omega) dX32_fill_70 ?_
          refine g_iinc_n (b := 1) (L' := [(0, _), (1, _), (2, _), (3, _), (4, _), (5, _)]) dX32_fill_71 rfl rfl (by decide) rfl rfl ?_
          refine g_goto (tgt := 30) dX32_fill_74 (by decide) ?_
          subst c44
          exact ih30 (w + 1) _ (by omega) (by omega) (RK_s hi (fun i hi9 => by rw [bx_or, RK_l hi c34 hi9, hi.2 (b + 21 + used) (by omega), lb_l _ hi9]; rfl))
        · skip
          refine g_aload_n 3 dX32_fill_47 rfl rfl ?_
          refine g_iload dX32_fill_48 rfl ?_
          refine co_ld_row (by omega) (by omega) dX32_fill_50 ?_
          refine g_aload dX32_fill_51 rfl ?_
          refine g_iload dX32_fill_53 rfl ?_
          refine co_ld_row (by omega) (by omega) dX32_fill_55 ?_
          refine g_land dX32_fill_56 ?_
          refine g_goto (tgt := 70) dX32_fill_57 (by decide) ?_
          refine co_st_row (by omega) (by omega) dX32_fill_70 ?_
          refine g_iinc_n (b := 1) (L' := [(0, _), (1, _), (2, _), (3, _), (4, _), (5, _)]) dX32_fill_71 rfl rfl (by decide) rfl rfl ?_
          refine g_goto (tgt := 30) dX32_fill_74 (by decide) ?_
          subst c44
          exact ih30 (w + 1) _ (by omega) (by omega) (RK_s hi (fun i hi9 => by rw [bx_and, RK_l hi c34 hi9, hi.2 (b + 21 + used) (by omega), lb_l _ hi9]; rfl))
  exact loop30 30 0 _ (by omega) (by omega) RK_0
theorem fill_all : ∀ k, FillOK l D Y A k
  | 0 => trivial
  | k + 1 => by
    have ih := fill_all k
    intro hT hE hall hb hj hu
    refine ⟨?_, ?_, ?_, ?_, ?_, ?_, ?_, ?_⟩
    · rintro ⟨h, rfl⟩; exact ctX28_fill29 hT hE hall hb hj hu h
    · rintro ⟨h, rfl⟩; exact ctX28_fill30 hT hE hall hb hj hu h
    · rintro ⟨n, h, hn, rfl⟩; exact ctX28_fill31 n hT hE hall hb hj hu h hn
    · rintro ⟨s, h, hs, rfl⟩; exact ctX25_fill s hT hE hall hb hj hu h hs
    · rintro ⟨s, p, d2, g, h, hs, rfl, hS, rfl⟩; exact ctX26_fill s p g ih hT hE hall hb hj hu h hs hS
    · rintro ⟨n, p, g, h, hn, hS, rfl⟩; exact ctX27_fill n p g ih hT hE hall hb hj hu h hn hS
    · rintro ⟨p, g, h, hS, rfl⟩; exact ctX24_fill p g ih hT hE hall hb hj hu h hS
    · rintro ⟨bo, x, y, d2, g, h2, h, rfl, hS, hS2, rfl⟩; exact ctX32_fill bo x y g h2 ih hT hE hall hb hj hu h hS hS2
end
