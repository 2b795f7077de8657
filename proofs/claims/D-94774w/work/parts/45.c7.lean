/-! THE COMPONENT, 7: the course: may, says, goes, worlds -/
set_option maxRecDepth 100000
theorem g_copyl {l : Launch} {D : va_G} {cl : List vw_C} {tys : List (ClassId × FieldType)} {cc : ByteArray} {nL : Nat} {rt : Option FieldType} {own : String} {R : Room} {A : Nat → Prop} {MX : Heap → Method → Code → Prop} {QF : List Frame → Array Value → State → State → Prop} {k n pc : Nat} {L : List (Nat × Value)} {st : List Value} {ws ws2 : va_W} {idx sp dp m a0 a n0 n1 : Nat} {c0 : ClassId} {f g : Nat → Int64} (hq : Cond.methodLink own idx arraycopyName ∈ lw_all) (h2 : Cond.native arraycopyName ∈ lw_all) (h3 : Cond.static arraycopyName ∈ lw_all) (h4 : Cond.initialized "java/lang/System" ∈ lw_all) (q0 q1 t0 : Nat) (ht : tys[t0]? = some (c0, .long)) (he0 : ws[q0]? = some (a0, .inl (c0, n0, .inr (.inl f)))) (he1 : ws[q1]? = some (a, .inl (c0, n1, .inr (.inl g)))) (h5 : sp + m ≤ n0) (h6 : dp + m ≤ n1) (h7 : n0 < 2 ^ 31) (h8 : n1 < 2 ^ 31) (hw : ws.set q1 (a, .inl (c0, n1, .inr (.inl (va_cpy f g sp dp m)))) = ws2) (hf : 1 ≤ R.frames) (hlo : (st.map fun v => v.category).sum + (nativeFrameWords "java/lang/System" "arraycopy" 5 + 11) ≤ R.locals) (hd : decode cc pc = .ok (.invokestatic idx, 3))
    (K : GG l D cl tys cc nL rt own R A MX QF (HW D cl A ws2) k n (pc + 3) L st) : GG l D cl tys cc nL rt own R A MX QF (HW D cl A ws) k n pc L (.int (nI m) :: .int (nI dp) :: .ref a :: .int (nI sp) :: .ref a0 :: st) := by
  subst hw
  have e1 : (nI sp).toNatClampNeg = sp := nI_clamp (by omega)
  have e2 : (nI dp).toNatClampNeg = dp := nI_clamp (by omega)
  have e3 : (nI m).toNatClampNeg = m := nI_clamp (by omega)
  exact fun p e s m' args below meth c H locs ls B hP hS hl => va_copyl B.1 B.2.1 (B.2.2.1.trans hl.1.symm) B.2.2.2.2.2.1 (B.2.2.2.2.2.2.1 _ hq) (B.2.2.2.2.2.2.1 _ h2) (B.2.2.2.2.2.2.1 _ h3) (B.2.2.2.2.2.2.1 _ h4) B.2.2.2.2.2.2.2.1 hP.1 hP.2 hS q0 q1 t0 t0 he0 he1 ht ht rfl (nI_pos (by omega)) (nI_pos (by omega)) (nI_pos (by omega)) (by rw [e1, e3]; exact h5) (by rw [e2, e3]; exact h6) (fun i _ => rfl) hf hlo hd (fun H1 locs1 hP1 hD1 hS1 => K p e s m' args below meth c H1 locs1 ls B (by rw [e1, e2, e3] at hP1 hD1; exact ⟨hP1, hD1⟩) hS1 hl)
def liF (T : Talk) (liar : Int32) (s : Nat) : Bool := if liar = -1 then tLiar T s else decide (liar = nI s)
def mayG (T : Talk) (liar : Int32) (s : Nat) (g : Sem) (E : SE) (t w : Nat) : Bool := if liF T liar s = true then !sSees s g E t w else sSees s g E t w
theorem may_fin {T : Talk} {b many t j used : Nat} {liar : Int32} {rows rows2 rows4 : Nat → Nat → Int64} {E : SE} {s0 : Nat} {g : Sem} (hall : isRow (rows (b + 69)) (fun w => decide (w < many))) (hj : j < used) (hu : used ≤ 48) (hl : liF T liar s0 = true) (h2 : FD rows rows2 b j used many (sSees s0 g E t)) (h4 : RT rows2 rows4 (b + 21 + j) (fun w' => !lbt (rows2 (b + 21 + j)) w' && lbt (rows2 (b + 69)) w')) : FD rows rows4 b j used many (mayG T liar s0 g E t) := by
  have h := not_fin hall hj hu h2 h4
  refine ⟨h.1.congr (fun w _ => ?_), h.2⟩
  unfold mayG; rw [if_pos hl]
theorem may_not {T : Talk} {b many t j used : Nat} {liar : Int32} {rows rows2 : Nat → Nat → Int64} {E : SE} {s0 : Nat} {g : Sem} (hl : liF T liar s0 = false) (h2 : FD rows rows2 b j used many (sSees s0 g E t)) : FD rows rows2 b j used many (mayG T liar s0 g E t) := by
  refine ⟨h2.1.congr (fun w _ => ?_), h2.2⟩
  unfold mayG; rw [if_neg (by rw [hl]; decide)]
/-- one turn more is laid -/
def SD (rows rows2 : Nat → Nat → Int64) (b t used many : Nat) (g : Nat → Bool) : Prop := isRow (rows2 (b + (t + 1))) (fun w => decide (w < many) && g w) ∧ ∀ r, ¬ r = b + (t + 1) → ¬ (b + 21 + used ≤ r ∧ r < b + 69) → rows2 r = rows r
theorem says_fin {T : Talk} {b many t used : Nat} {xs ys : Nat → Nat} {slips : Nat → Nat → Nat} {rows rows2 rows4 : Nat → Nat → Int64} {E : SE} {G : Nat → Bool} (hE : EnvC T b many xs ys slips rows E t) (ht : t < 20) (hu : used + 1 ≤ 48) (h2 : FD rows rows2 b used (used + 1) many G) (h4 : RT rows2 rows4 (b + (t + 1)) (fun w' => lbt (rows2 (b + t)) w' && lbt (rows2 (b + 21 + used)) w')) : SD rows rows4 b t used many (fun w => E.2.2.2.2.2 t w && G w) := by
  refine ⟨fun w hw => ?_, fun r h5 h6 => ?_⟩
  · rw [h4.1 w hw]
    dsimp only
    rw [h2.1 w hw, h2.left (by omega), hE.2.2.2.2.2.2 t (Nat.le_refl _) w hw]
    dsimp only
    cases decide (w < many) <;> simp
  · rw [h4.2 r h5, h2.2 r (by omega) (by omega)]
/-- the worlds of T are laid -/
def CoWd (T : Talk) (b many : Nat) (xs ys : Nat → Nat) (slips : Nat → Nat → Nat) (rows : Nat → Nat → Int64) : Prop := many = tP T ∧ (∀ w, w < many → xs w = tX T w ∧ ys w = tY T w) ∧ (∀ s w, s < tNS T → w < many → slips s w = tSl T s w) ∧ isRow (rows (b + 69)) (fun w => decide (w < many)) ∧ isRow (rows b) (fun w => decide (w < many))
theorem talk_sight {Y : Nat → ClassId} {T : Talk} {ta : Nat → Nat} {W : va_W} (h : TalkL Y T ta W) {s : Nat} (hs : s < tNS T) : (ta (20 + s), sgE (tKind T s)) ∈ W := (h.2.2.2.1 s hs).2
abbrev xSlip : MethodName := ({ cls := "TwoSlips$Sight", name := "slip", desc := "(II)I" } : Jvm.MethodName)
/-- T2 is T but for its worlds, for who says what, for who lies -/
def Sib (T T2 : Talk) (turn by_ liar : Int32) : Prop := tNS T2 = tNS T ∧ tNT T2 = tNT T ∧ tSem T2 = tSem T ∧ tDeaf T2 = tDeaf T ∧ tKind T2 = tKind T ∧ (∀ s, s < tNS T → tLiar T2 s = liF T liar s) ∧ ∀ t, t < tNT T → (if nI t = turn then by_ else nI (tWho T t)) = nI (tWho T2 t) ∧ tWho T2 t < tNS T
/-- what is left stands in the rows of a course, behind up to n turns -/
def CoLf (T : Talk) (b many : Nat) (rows : Nat → Nat → Int64) (n : Nat) : Prop := ∀ t, t ≤ n → isRow (rows (b + t)) (fun w => decide (w < many) && leftT T t w)
theorem CoWd.env {T T2 : Talk} {turn by_ liar : Int32} {b many t : Nat} {xs ys : Nat → Nat} {slips : Nat → Nat → Nat} {rows rows1 : Nat → Nat → Int64} (hS : Sib T T2 turn by_ liar) (hok : TOK T2) (h : CoWd T2 b many xs ys slips rows) (ht : t ≤ 20) (hl : CoLf T2 b many rows1 t) : EnvC T b many xs ys slips rows1 (tE T2 (leftT T2)) t := by
  obtain ⟨h1, h2, h3, h4, h5⟩ := h
  obtain ⟨s1, s2, s3, s4, s5, s6, s7⟩ := hS
  have hw : wOK many (tX T2) (tY T2) := by
    have hl : layd (tX T2) (tY T2) many (tW T2) := ⟨h1, fun w p hp => by unfold tX tY wX wY; rw [List.getD_eq_getElem?_getD, hp]; exact ⟨rfl, rfl⟩⟩
    exact layd_OK hl hok.1 hok.2.2.1
  refine ⟨⟨hw.1, fun s w hs hw9 => ?_⟩, h1.symm, fun w hw9 => ?_, by rw [← s1]; exact hok.2.2.2.2.2.1, fun s hs => ⟨fun w hw9 => ?_, ?_⟩, ht, fun t' ht' => hl t' ht'⟩
  · rw [h3 s w (by rw [s1]; exact hs) hw9]
    have := slW_lt (kd := tKind T2 s) hw hw9
    show slW _ _ _ _ < 7300
    omega
  · rw [(h2 w hw9).1, (h2 w hw9).2]
    exact ⟨rfl, rfl, (hw.2 w hw9).1, (hw.2 w hw9).2.1⟩
  · rw [h3 s w (by rw [s1]; exact hs) hw9]; rfl
  · show tDeaf T2 s = tDeaf T s
    rw [s4]
theorem goes_step {T T2 : Talk} {turn by_ liar : Int32} {b many t used : Nat} {rows1 rows2 : Nat → Nat → Int64} (hS : Sib T T2 turn by_ liar) (ht : t < tNT T) (ht20 : tNT T ≤ 20) (hl : CoLf T2 b many rows1 t) (h : SD rows1 rows2 b t used many (fun w => (tE T2 (leftT T2)).2.2.2.2.2 t w && mayG T liar (tWho T2 t) (tSem T t) (tE T2 (leftT T2)) t w)) : CoLf T2 b many rows2 (t + 1) := by
  obtain ⟨s1, s2, s3, s4, s5, s6, s7⟩ := hS
  intro t' ht'
  rcases Nat.lt_or_ge t' (t + 1) with q | q
  · rw [h.2 (b + t') (by omega) (by omega)]
    exact hl t' (by omega)
  · rw [show t' = t + 1 by omega]
    refine h.1.congr (fun w _ => ?_)
    rw [leftT_succ]
    congr 2
    unfold mayG mayL mayT
    rw [← s6 _ (s7 t ht).2, ← s3]
    rfl

theorem hyx_TwoSlips_Sight_slip__II_I : "TwoSlips$Sight" ≠ "java/lang/invoke/MethodHandle" ∧ "TwoSlips$Sight" ≠ "java/lang/invoke/VarHandle" ∧ (parseMethodDescriptor "(II)I").map (fun d => d.parameters.length) = some 2 := by decide +kernel
theorem hy_X3_isLiar : yX3_isLiar.cls ≠ "java/lang/invoke/MethodHandle" ∧ yX3_isLiar.cls ≠ "java/lang/invoke/VarHandle" ∧ (parseMethodDescriptor yX3_isLiar.desc).map (fun d => d.parameters.length) = some 1 := by decide +kernel
theorem hy_X3_may : yX3_may.cls ≠ "java/lang/invoke/MethodHandle" ∧ yX3_may.cls ≠ "java/lang/invoke/VarHandle" ∧ (parseMethodDescriptor yX3_may.desc).map (fun d => d.parameters.length) = some 4 := by decide +kernel
theorem hy_X3_says : yX3_says.cls ≠ "java/lang/invoke/MethodHandle" ∧ yX3_says.cls ≠ "java/lang/invoke/VarHandle" ∧ (parseMethodDescriptor yX3_says.desc).map (fun d => d.parameters.length) = some 3 := by decide +kernel
section
variable {l : Launch} {D : va_G} {Y : Nat → ClassId} {A : Nat → Prop}
/-- what a sight tells -/
theorem g_sight {HP : Heap → Prop} {cc : ByteArray} {nL : Nat} {rt : Option FieldType} {own : String} {R : Room} {MX : Heap → Method → Code → Prop} {QF : List Frame → Array Value → State → State → Prop} {kk nn pc idx : Nat} {L : List (Nat × Value)} {rest : List Value} {kd x y a : Nat} (hq : Cond.methodLink own idx xSlip ∈ lw_all) (hkd : kd ≤ 8) (hxy : x ≤ y) (hy : y ≤ 60) (hc : ∀ H, HP H → va_P D clX [(a, sgE kd)] H) (hR : 3 ≤ R.frames ∧ 100 ≤ R.locals) (hf : kk ≤ R.cells ∧ nn ≤ R.slots) (hcat : (rest.map fun v => v.category).sum ≤ 8) (hd : decode cc pc = .ok (.invokevirtual idx, 3))
    (K : GG l D clX (tyX Y) cc nL rt own R A MX QF HP kk nn (pc + 3) L (.int (nI (slipN kd x y)) :: rest)) : GG l D clX (tyX Y) cc nL rt own R A MX QF HP kk nn pc L (.int (nI y) :: .int (nI x) :: .ref a :: rest) := by
  rcases (show kd = 0 ∨ kd = 1 ∨ kd = 2 ∨ kd = 3 ∨ kd = 4 ∨ kd = 5 ∨ kd = 6 ∨ kd = 7 ∨ kd = 8 by omega) with rfl | rfl | rfl | rfl | rfl | rfl | rfl | rfl | rfl
  · refine h_cAi (As := [.int (nI x), .int (nI y)]) (ctX15_slip x y) (lw_U hq q546 q573 q568 q133 q569) q545 hyx_TwoSlips_Sight_slip__II_I rfl ⟨by dsimp only; omega, by dsimp only; omega⟩ ⟨hf.1, hf.2⟩ rfl hcat hd (fun s H hK hP => va_recv hK (hc H hP) (ci := 15) rfl (q0 := 0) rfl) (fun r u hp => ?_)
    obtain rfl := hp
    exact K
  · refine h_cAi (As := [.int (nI x), .int (nI y)]) (ctX16_slip x y) (lw_U hq q546 q560 q561 q134 q562) q545 hyx_TwoSlips_Sight_slip__II_I rfl ⟨by dsimp only; omega, by dsimp only; omega⟩ ⟨hf.1, hf.2⟩ rfl hcat hd (fun s H hK hP => va_recv hK (hc H hP) (ci := 16) rfl (q0 := 0) rfl) (fun r u hp => ?_)
    obtain rfl := hp
    exact K
  · refine h_cAi (As := [.int (nI x), .int (nI y)]) (ctX18_slip x y (ci9 := 18) rfl (fun s H hK hP => va_recv hK (hc H hP) (ci := 18) rfl (q0 := 0) rfl)) (lw_U hq q546 q558 q552 q136 q553) q545 hyx_TwoSlips_Sight_slip__II_I rfl ⟨by dsimp only; omega, by dsimp only; omega⟩ ⟨hf.1, hf.2⟩ rfl hcat hd (fun s H hK hP => va_recv hK (hc H hP) (ci := 18) rfl (q0 := 0) rfl) (fun r u hp => ?_)
    obtain rfl := hp
    exact K
  · refine h_cAi (As := [.int (nI x), .int (nI y)]) (ctX17_slip x y) (lw_U hq q546 q559 q556 q135 q557) q545 hyx_TwoSlips_Sight_slip__II_I rfl ⟨by dsimp only; omega, by dsimp only; omega⟩ ⟨hf.1, hf.2⟩ rfl hcat hd (fun s H hK hP => va_recv hK (hc H hP) (ci := 17) rfl (q0 := 0) rfl) (fun r u hp => ?_)
    obtain rfl := hp
    exact K
  · refine h_cAi (As := [.int (nI x), .int (nI y)]) (ctX19_slip x y (ci9 := 19) rfl (fun s H hK hP => va_recv hK (hc H hP) (ci := 19) rfl (q0 := 0) rfl) hxy) (lw_U hq q546 q547 q548 q137 q549) q545 hyx_TwoSlips_Sight_slip__II_I rfl ⟨by dsimp only; omega, by dsimp only; omega⟩ ⟨hf.1, hf.2⟩ rfl hcat hd (fun s H hK hP => va_recv hK (hc H hP) (ci := 19) rfl (q0 := 0) rfl) (fun r u hp => ?_)
    obtain rfl := hp
    exact K
  · refine h_cAi (As := [.int (nI x), .int (nI y)]) (ctX20_slip x y) (lw_U hq q546 q570 q571 q138 q572) q545 hyx_TwoSlips_Sight_slip__II_I rfl ⟨by dsimp only; omega, by dsimp only; omega⟩ ⟨hf.1, hf.2⟩ rfl hcat hd (fun s H hK hP => va_recv hK (hc H hP) (ci := 20) rfl (q0 := 0) rfl) (fun r u hp => ?_)
    obtain rfl := hp
    exact K
  · refine h_cAi (As := [.int (nI x), .int (nI y)]) (ctX21_slip x y 2 (ci9 := 21) rfl (fun s H hK hP => va_recv hK (hc H hP) (ci := 21) rfl (q0 := 0) rfl) hc (by decide) (by decide) (by omega)) (lw_U hq q546 q563 q564 q139 q565) q545 hyx_TwoSlips_Sight_slip__II_I rfl ⟨by dsimp only; omega, by dsimp only; omega⟩ ⟨hf.1, hf.2⟩ rfl hcat hd (fun s H hK hP => va_recv hK (hc H hP) (ci := 21) rfl (q0 := 0) rfl) (fun r u hp => ?_)
    obtain rfl := hp
    exact K
  · refine h_cAi (As := [.int (nI x), .int (nI y)]) (ctX21_slip x y 10 (ci9 := 21) rfl (fun s H hK hP => va_recv hK (hc H hP) (ci := 21) rfl (q0 := 0) rfl) hc (by decide) (by decide) (by omega)) (lw_U hq q546 q563 q564 q139 q565) q545 hyx_TwoSlips_Sight_slip__II_I rfl ⟨by dsimp only; omega, by dsimp only; omega⟩ ⟨hf.1, hf.2⟩ rfl hcat hd (fun s H hK hP => va_recv hK (hc H hP) (ci := 21) rfl (q0 := 0) rfl) (fun r u hp => ?_)
    obtain rfl := hp
    exact K
  · refine h_cAi (As := [.int (nI x), .int (nI y)]) (ctX21_slip x y 1 (ci9 := 21) rfl (fun s H hK hP => va_recv hK (hc H hP) (ci := 21) rfl (q0 := 0) rfl) hc (by decide) (by decide) (by omega)) (lw_U hq q546 q563 q564 q139 q565) q545 hyx_TwoSlips_Sight_slip__II_I rfl ⟨by dsimp only; omega, by dsimp only; omega⟩ ⟨hf.1, hf.2⟩ rfl hcat hd (fun s H hK hP => va_recv hK (hc H hP) (ci := 21) rfl (q0 := 0) rfl) (fun r u hp => ?_)
    obtain rfl := hp
    rw [Nat.mod_one]; exact K

set_option maxHeartbeats 4000000 in
/-- where one may say it -/
theorem ctX3_may {ca ra : Nat → Nat} {b : Nat} {many used : Nat} {liar : Int32} {xs ys heaps : Nat → Nat} {slips : Nat → Nat → Nat} {rows : Nat → Nat → Int64} {W : va_W} {T : Talk} {ta : Nat → Nat} {E : SE} {k d j t a : Nat} (s0 : Nat) (g : Sem) (ih : FillOK l D Y A k) (hT : TalkL Y T ta W) (hE : EnvC T b many xs ys slips rows E t) (hall : isRow (rows (b + 69)) (fun w => decide (w < many))) (hb : b + 70 ≤ 156) (hj : j < used) (hu : used + (d + 1) ≤ 48) (hs : s0 < tNS T) (hS : SayL (tNS T) W k d g a) (hl9 : liar = -1 ∨ ∃ i, i < 6 ∧ liar = nI i) : CT l D clX (tyX Y) yX3_may cX3_may 6 none ({ frames := 12 + 2 * k, cells := 0, slots := 0, locals := 360 + 60 * k } : Room) [.ref (ca 0), .int (nI s0), .ref a, .int (nI t), .ref (ra (b + 21 + j))] (HW D clX A (CoL Y ca ra b (some (ta 0)) many used liar xs ys heaps slips rows W)) (Qv (fun (u : (Nat → Nat) × (Nat → Nat → Int64)) => FD rows u.2 b j used many (mayG T liar s0 g E t)) (fun (u : (Nat → Nat) × (Nat → Nat → Int64)) => HW D clX A (CoL Y ca ra b (some (ta 0)) many used liar xs ys u.1 slips u.2 W)) A) A := by
  refine CT.of (L := [(0, .ref (ca 0)), (1, .int (nI s0)), (2, .ref a), (3, .int (nI t)), (4, .ref (ra (b + 21 + j)))]) rfl (by decide +kernel) rfl (Nat.le_of_ble_eq_true rfl) ?_
  refine g_aload_n 0 dX3_may_0 rfl rfl ?_
  refine g_iload_n 1 dX3_may_1 rfl rfl ?_
  refine g_aload_n 2 dX3_may_2 rfl rfl ?_
  refine g_iload_n 3 dX3_may_3 rfl rfl ?_
  refine g_aload dX3_may_4 rfl ?_
  refine h_cVv (ctX3_sees s0 g ih hT hE hall hb hj hu hs hS) (lw_V q598 q599 q600 q111 q601) ⟨rfl, hy_X3_sees⟩ rfl ⟨by dsimp only; omega, by dsimp only; omega⟩ ⟨Nat.zero_le _, Nat.zero_le _⟩ rfl (Nat.le_of_ble_eq_true rfl) dX3_may_6 co_rec (fun u3 hu3 => ?_)
  obtain ⟨heaps2, rows2⟩ := u3
  refine g_aload_n 0 dX3_may_9 rfl rfl ?_
  refine g_iload_n 1 dX3_may_10 rfl rfl ?_
  refine h_cVi (ctX3_isLiar s0 hT hs hE.2.2.2.1 hl9) (lw_V q676 q678 qs4 q111 q679) ⟨rfl, hy_X3_isLiar⟩ rfl ⟨by dsimp only; omega, by dsimp only; omega⟩ ⟨Nat.zero_le _, Nat.zero_le _⟩ rfl (Nat.le_of_ble_eq_true rfl) dX3_may_11 co_rec (fun r u hp => ?_)
  have hp : r = bI (liF T liar s0) := hp
  obtain rfl := hp
  refine g_if_ne_b (tgt := 18) dX3_may_14 (by decide) (fun c14 => ?_) (fun c14 => ?_)
  · skip
    refine g_iconst (v := nI 0) dX3_may_18 (by decide +kernel) ?_
    refine g_istore (L' := [(0, _), (1, _), (2, _), (3, _), (4, _), (5, _)]) dX3_may_19 (by decide) rfl rfl ?_
    have loop21 : ∀ (q21 : Nat) (w : Nat) (rows1 : Nat → Nat → Int64), 29 - w < q21 → (w ≤ 29) → (RK rows2 rows1 (b + 21 + j) w (fun w' => !lbt (rows2 (b + 21 + j)) w' && lbt (rows2 (b + 69)) w')) → GG l D clX (tyX Y) cX3_may 6 none RX3 ({ frames := 12 + 2 * k, cells := 0, slots := 0, locals := 360 + 60 * k } : Room) A MT (QM (Qv (fun (u : (Nat → Nat) × (Nat → Nat → Int64)) => FD rows u.2 b j used many (mayG T liar s0 g E t)) (fun (u : (Nat → Nat) × (Nat → Nat → Int64)) => HW D clX A (CoL Y ca ra b (some (ta 0)) many used liar xs ys u.1 slips u.2 W)) A) 0 0 A) (HW D clX A (CoL Y ca ra b (some (ta 0)) many used liar xs ys heaps2 slips rows1 W)) 0 0 21 [(0, .ref (ca 0)), (1, .int (nI s0)), (2, .ref a), (3, .int (nI t)), (4, .ref (ra (b + 21 + j))), (5, .int (nI w))] [] := by
      intro q21
      induction q21 with
      | zero => intro w rows1 hq21; exact absurd hq21 (Nat.not_lt_zero _)
      | succ q21 ih21 =>
        intro w rows1 hq21 hw hi
        refine g_iload dX3_may_21 rfl ?_
        refine g_bipush (v := nI 29) dX3_may_23 (by decide +kernel) ?_
        refine g_icmp_ge_n (tgt := 56) dX3_may_25 (by decide) (by omega) (by omega) (fun c25 => ?_) (fun c25 => ?_)
        · skip
          exact g_vret (heaps2, rows1) dX3_may_56 (Nat.le_refl _) (Nat.le_refl _) (by have e9 : w = 29 := (by omega); rw [e9] at hi; exact may_fin hall hj (by omega) c14 hu3 (RK_e hi)) (fun _ h => h)
        · skip
          refine g_aload dX3_may_28 rfl ?_
          refine g_iload dX3_may_30 rfl ?_
          refine g_aload dX3_may_32 rfl ?_
          refine g_iload dX3_may_34 rfl ?_
          refine co_ld_row (by omega) (by omega) dX3_may_36 ?_
          refine g_ldc2 (v := -1) dX3_may_37 q680 ?_
          refine g_lxor dX3_may_40 ?_
          refine g_aload_n 0 dX3_may_41 rfl rfl ?_
          refine co_get_all q263 dX3_may_42 ?_
          refine g_iload dX3_may_45 rfl ?_
          refine co_ld_row (by omega) (by omega) dX3_may_47 ?_
          refine g_land dX3_may_48 ?_
          refine co_st_row (by omega) (by omega) dX3_may_49 ?_
          refine g_iinc_n (b := 1) (L' := [(0, _), (1, _), (2, _), (3, _), (4, _), (5, _)]) dX3_may_50 rfl rfl (by decide) rfl rfl ?_
          refine g_goto (tgt := 21) dX3_may_53 (by decide) ?_
          exact ih21 (w + 1) _ (by omega) (by omega) (RK_s hi (fun i hi9 => by rw [bx_and, bx_not _ hi9, RK_l hi c25 hi9, hi.2 (b + 69) (by omega), lb_l _ hi9]))
    exact loop21 30 0 _ (by omega) (by omega) RK_0
  · skip
    exact g_vret (heaps2, rows2) dX3_may_17 (Nat.le_refl _) (Nat.le_refl _) (may_not c14 hu3) (fun _ h => h)
set_option maxHeartbeats 4000000 in
/-- one turn more -/
theorem ctX3_says {ca ra : Nat → Nat} {b : Nat} {many used : Nat} {liar : Int32} {xs ys heaps : Nat → Nat} {slips : Nat → Nat → Nat} {rows : Nat → Nat → Int64} {W : va_W} {T : Talk} {ta : Nat → Nat} {E : SE} {k d t a : Nat} (s0 : Nat) (g : Sem) (ih : FillOK l D Y A k) (hT : TalkL Y T ta W) (hE : EnvC T b many xs ys slips rows E t) (hall : isRow (rows (b + 69)) (fun w => decide (w < many))) (hb : b + 70 ≤ 156) (hu : used + (d + 2) ≤ 48) (hs : s0 < tNS T) (hS : SayL (tNS T) W k d g a) (hl9 : liar = -1 ∨ ∃ i, i < 6 ∧ liar = nI i) (ht : t < 20) : CT l D clX (tyX Y) yX3_says cX3_says 6 none ({ frames := 13 + 2 * k, cells := 0, slots := 0, locals := 390 + 60 * k } : Room) [.ref (ca 0), .int (nI s0), .ref a, .int (nI t)] (HW D clX A (CoL Y ca ra b (some (ta 0)) many used liar xs ys heaps slips rows W)) (Qv (fun (u : (Nat → Nat) × (Nat → Nat → Int64)) => SD rows u.2 b t used many (fun w => E.2.2.2.2.2 t w && mayG T liar s0 g E t w)) (fun (u : (Nat → Nat) × (Nat → Nat → Int64)) => HW D clX A (CoL Y ca ra b (some (ta 0)) many used liar xs ys u.1 slips u.2 W)) A) A := by
  refine CT.of (L := [(0, .ref (ca 0)), (1, .int (nI s0)), (2, .ref a), (3, .int (nI t))]) rfl (by decide +kernel) rfl (Nat.le_of_ble_eq_true rfl) ?_
  refine g_aload_n 0 dX3_says_0 rfl rfl ?_
  refine h_cVo (ctX3_taken (by omega)) (lw_V q590 q591 q592 q111 q593) ⟨rfl, hy_X3_taken⟩ rfl ⟨by dsimp only; omega, by dsimp only; omega⟩ ⟨Nat.zero_le _, Nat.zero_le _⟩ rfl (Nat.le_of_ble_eq_true rfl) dX3_says_1 co_rec (fun u hp => ?_)
  refine g_astore (L' := [(0, _), (1, _), (2, _), (3, _), (4, _)]) dX3_says_4 (by decide) rfl rfl ?_
  refine g_aload_n 0 dX3_says_6 rfl rfl ?_
  refine g_iload_n 1 dX3_says_7 rfl rfl ?_
  refine g_aload_n 2 dX3_says_8 rfl rfl ?_
  refine g_iload_n 3 dX3_says_9 rfl rfl ?_
  refine g_aload dX3_says_10 rfl ?_
  refine h_cVv (ctX3_may s0 g ih hT hE hall hb (Nat.lt_succ_self used) (by omega) hs hS hl9) (lw_V q594 q595 q596 q111 q597) ⟨rfl, hy_X3_may⟩ rfl ⟨by dsimp only; omega, by dsimp only; omega⟩ ⟨Nat.zero_le _, Nat.zero_le _⟩ rfl (Nat.le_of_ble_eq_true rfl) dX3_says_12 co_rec (fun u3 hu3 => ?_)
  obtain ⟨heaps2, rows2⟩ := u3
  refine g_iconst (v := nI 0) dX3_says_15 (by decide +kernel) ?_
  refine g_istore (L' := [(0, _), (1, _), (2, _), (3, _), (4, _), (5, _)]) dX3_says_16 (by decide) rfl rfl ?_
  have loop18 : ∀ (q18 : Nat) (w : Nat) (rows1 : Nat → Nat → Int64), 29 - w < q18 → (w ≤ 29) → (RK rows2 rows1 (b + (t + 1)) w (fun w' => lbt (rows2 (b + t)) w' && lbt (rows2 (b + 21 + used)) w')) → GG l D clX (tyX Y) cX3_says 6 none RX3 ({ frames := 13 + 2 * k, cells := 0, slots := 0, locals := 390 + 60 * k } : Room) A MT (QM (Qv (fun (u : (Nat → Nat) × (Nat → Nat → Int64)) => SD rows u.2 b t used many (fun w => E.2.2.2.2.2 t w && mayG T liar s0 g E t w)) (fun (u : (Nat → Nat) × (Nat → Nat → Int64)) => HW D clX A (CoL Y ca ra b (some (ta 0)) many used liar xs ys u.1 slips u.2 W)) A) 0 0 A) (HW D clX A (CoL Y ca ra b (some (ta 0)) many (used + 1) liar xs ys heaps2 slips rows1 W)) 0 0 18 [(0, .ref (ca 0)), (1, .int (nI s0)), (2, .ref a), (3, .int (nI t)), (4, .ref (ra (b + 21 + used))), (5, .int (nI w))] [] := by
    intro q18
    induction q18 with
    | zero => intro w rows1 hq18; exact absurd hq18 (Nat.not_lt_zero _)
    | succ q18 ih18 =>
      intro w rows1 hq18 hw hi
      refine g_iload dX3_says_18 rfl ?_
      refine g_bipush (v := nI 29) dX3_says_20 (by decide +kernel) ?_
      refine g_icmp_ge_n (tgt := 57) dX3_says_22 (by decide) (by omega) (by omega) (fun c22 => ?_) (fun c22 => ?_)
      · skip
        refine g_aload_n 0 dX3_says_57 rfl rfl ?_
        refine h_cVv (ctX3_given (by omega)) (lw_V q675 q667 q668 q111 q669) ⟨rfl, hy_X3_given⟩ rfl ⟨by dsimp only; omega, by dsimp only; omega⟩ ⟨Nat.zero_le _, Nat.zero_le _⟩ rfl (Nat.le_of_ble_eq_true rfl) dX3_says_58 co_rec (fun u hp => ?_)
        refine GG.hp (congrArg (fun z9 => HW D clX A (CoL Y ca ra b (some (ta 0)) many z9 liar xs ys heaps2 slips rows1 W)) (Nat.add_sub_cancel used 1)) ?_
        exact g_vret (heaps2, rows1) dX3_says_61 (Nat.le_refl _) (Nat.le_refl _) (by have e9 : w = 29 := (by omega); rw [e9] at hi; exact says_fin hE ht (by omega) hu3 (RK_e hi)) (fun _ h => h)
      · skip
        refine g_aload_n 0 dX3_says_25 rfl rfl ?_
        refine co_get_left q268 dX3_says_26 ?_
        refine g_iload_n 3 dX3_says_29 rfl rfl ?_
        refine g_iconst (v := nI 1) dX3_says_30 (by decide +kernel) ?_
        refine g_iadd_n dX3_says_31 ?_
        refine co_ld_left (by omega) dX3_says_32 ?_
        refine g_iload dX3_says_33 rfl ?_
        refine g_aload_n 0 dX3_says_35 rfl rfl ?_
        refine co_get_left q268 dX3_says_36 ?_
        refine g_iload_n 3 dX3_says_39 rfl rfl ?_
        refine co_ld_left (by omega) dX3_says_40 ?_
        refine g_iload dX3_says_41 rfl ?_
        refine co_ld_row (by omega) (by omega) dX3_says_43 ?_
        refine g_aload dX3_says_44 rfl ?_
        refine g_iload dX3_says_46 rfl ?_
        refine co_ld_row (by omega) (by omega) dX3_says_48 ?_
        refine g_land dX3_says_49 ?_
        refine co_st_row (by omega) (by omega) dX3_says_50 ?_
        refine g_iinc_n (b := 1) (L' := [(0, _), (1, _), (2, _), (3, _), (4, _), (5, _)]) dX3_says_51 rfl rfl (by decide) rfl rfl ?_
        refine g_goto (tgt := 18) dX3_says_54 (by decide) ?_
        exact ih18 (w + 1) _ (by omega) (by omega) (RK_s hi (fun i hi9 => by rw [bx_and, hi.2 (b + t) (by omega), hi.2 (b + 21 + used) (by omega), lb_l _ hi9, lb_l _ hi9]))
  exact loop18 30 0 _ (by omega) (by omega) RK_0
set_option maxHeartbeats 4000000 in
/-- all turns -/
theorem ctX3_goes {ca ra : Nat → Nat} {b : Nat} {many used : Nat} {liar : Int32} {xs ys heaps : Nat → Nat} {slips : Nat → Nat → Nat} {rows : Nat → Nat → Int64} {W : va_W} {T T2 : Talk} {ta : Nat → Nat} {turn0 by0 : Int32}  (hT : TalkL Y T ta W) (hSib : Sib T T2 turn0 by0 liar) (hok : TOK T2) (hW : CoWd T2 b many xs ys slips rows) (hb : b + 70 ≤ 156) (hu : used + 42 ≤ 48) (hl9 : liar = -1 ∨ ∃ i, i < 6 ∧ liar = nI i) : CT l D clX (tyX Y) yX3_goes cX3_goes 4 (Option.some (Jvm.ClassFile.FieldType.object "TwoSlips$Course")) ({ frames := 1814, cells := 0, slots := 0, locals := 54500 } : Room) [.ref (ca 0), .int turn0, .int by0] (HW D clX A (CoL Y ca ra b (some (ta 0)) many used liar xs ys heaps slips rows W)) (Qo (fun (u : (Nat → Nat) × (Nat → Nat → Int64)) => CoLf T2 b many u.2 (tNT T) ∧ u.2 (b + 69) = rows (b + 69) ∧ ∀ r, ¬ (b ≤ r ∧ r < b + 70) → u.2 r = rows r) (fun (u : (Nat → Nat) × (Nat → Nat → Int64)) => HW D clX A (CoL Y ca ra b (some (ta 0)) many used liar xs ys u.1 slips u.2 W)) (fun (u : (Nat → Nat) × (Nat → Nat → Int64)) => ca 0) A) A := by
  obtain ⟨ea2, na2, mc2, hL2⟩ := hT.2.2.1
  have hnT : tNT T ≤ 20 := by rw [← hSib.2.1]; exact hok.2.2.2.2.2.2.1
  refine CT.of (L := [(0, .ref (ca 0)), (1, .int turn0), (2, .int by0)]) rfl (by decide +kernel) rfl (Nat.le_of_ble_eq_true rfl) ?_
  refine g_iconst (v := nI 0) dX3_goes_0 (by decide +kernel) ?_
  refine g_istore_n (L' := [(0, _), (1, _), (2, _), (3, _)]) 3 dX3_goes_1 rfl (by decide) rfl rfl ?_
  have loop2 : ∀ (q2 : Nat) (t : Nat) (heaps1 : Nat → Nat) (rows1 : Nat → Nat → Int64), tNT T - t < q2 → (t ≤ tNT T) → (CoLf T2 b many rows1 t) → (rows1 (b + 69) = rows (b + 69)) → (∀ r, ¬ (b ≤ r ∧ r < b + 70) → rows1 r = rows r) → GG l D clX (tyX Y) cX3_goes 4 (Option.some (Jvm.ClassFile.FieldType.object "TwoSlips$Course")) RX3 ({ frames := 1814, cells := 0, slots := 0, locals := 54500 } : Room) A MT (QM (Qo (fun (u : (Nat → Nat) × (Nat → Nat → Int64)) => CoLf T2 b many u.2 (tNT T) ∧ u.2 (b + 69) = rows (b + 69) ∧ ∀ r, ¬ (b ≤ r ∧ r < b + 70) → u.2 r = rows r) (fun (u : (Nat → Nat) × (Nat → Nat → Int64)) => HW D clX A (CoL Y ca ra b (some (ta 0)) many used liar xs ys u.1 slips u.2 W)) (fun (u : (Nat → Nat) × (Nat → Nat → Int64)) => ca 0) A) 0 0 A) (HW D clX A (CoL Y ca ra b (some (ta 0)) many used liar xs ys heaps1 slips rows1 W)) 0 0 2 [(0, .ref (ca 0)), (1, .int turn0), (2, .int by0), (3, .int (nI t))] [] := by
    intro q2
    induction q2 with
    | zero => intro t heaps1 rows1 hq2; exact absurd hq2 (Nat.not_lt_zero _)
    | succ q2 ih2 =>
      intro t heaps1 rows1 hq2 ht hi ha ho
      refine g_iload_n 3 dX3_goes_2 rfl rfl ?_
      refine g_aload_n 0 dX3_goes_3 rfl rfl ?_
      refine co_get_talk q272 dX3_goes_4 ?_
      refine g_getfN (C := RX2) (T := TX2) (N := 7) 1 in_X2 rfl (by decide) q210 rfl dX3_goes_7 (co_has _ hT.1) rfl ?_
      refine h_cVi (ctJ2_size (co_has _ hL2.1)) (lw_V q521 q522 q523 q110 q524) ⟨rfl, hy_J2_size⟩ rfl ⟨Nat.le_of_ble_eq_true rfl, Nat.le_of_ble_eq_true rfl⟩ ⟨Nat.zero_le _, Nat.zero_le _⟩ rfl (Nat.le_of_ble_eq_true rfl) dX3_goes_10 (fun s H hK hP => va_recv hK (co_has _ hL2.1 H hP) (ci := 33) rfl (q0 := 0) rfl) (fun r u hp => ?_)
      obtain rfl := hp
      refine g_icmp_ge_n (tgt := 70) dX3_goes_13 (by decide) (by omega) (by omega) (fun c13 => ?_) (fun c13 => ?_)
      · skip
        refine g_aload_n 0 dX3_goes_70 rfl rfl ?_
        exact g_areto (heaps1, rows1) dX3_goes_71 (Or.inl ⟨_, rfl⟩) (Nat.le_refl _) (Nat.le_refl _) (by have e9 : t = tNT T := (by omega); rw [e9] at hi; exact ⟨hi, ha, ho⟩) rfl (fun _ h => h)
      · skip
        obtain ⟨g9, hg1, hg2, hg3, hg4⟩ := hL2.2 (by omega)
        refine g_aload_n 0 dX3_goes_16 rfl rfl ?_
        refine g_iload_n 3 dX3_goes_17 rfl rfl ?_
        refine g_iload_n 1 dX3_goes_18 rfl rfl ?_
        refine g_icmp_ne (tgt := 26) dX3_goes_19 (by decide) (fun c19 => ?_) (fun c19 => ?_)
        · skip
          have hwho := (hSib.2.2.2.2.2.2 t c13).1
          rw [if_neg c19] at hwho
          refine g_aload_n 0 dX3_goes_26 rfl rfl ?_
          refine co_get_talk q272 dX3_goes_27 ?_
          refine g_getfN (C := RX2) (T := TX2) (N := 7) 1 in_X2 rfl (by decide) q210 rfl dX3_goes_30 (co_has _ hT.1) rfl ?_
          refine g_iload_n 3 dX3_goes_33 rfl rfl ?_
          refine h_cVo (ctJ2_get t _ (co_has _ hL2.1) (co_has _ hg1) hg3 hg2 c13 (congrArg va_rf (hg4 _ c13))) (lw_V q584 q530 q531 q110 q532) ⟨rfl, hy_J2_get⟩ rfl ⟨Nat.le_of_ble_eq_true rfl, Nat.le_of_ble_eq_true rfl⟩ ⟨Nat.zero_le _, Nat.zero_le _⟩ rfl (Nat.le_of_ble_eq_true rfl) dX3_goes_34 (fun s H hK hP => va_recv hK (co_has _ hL2.1 H hP) (ci := 33) rfl (q0 := 0) rfl) (fun u hp => ?_)
          refine g_castS (r := (RX22, TX22, 2)) q585 rfl dX3_goes_37 (co_has _ (hT.2.2.2.2 t c13).1) ?_
          refine g_getfN (C := RX22) (T := TX22) (N := 2) 0 in_X22 rfl (by decide) q1345 rfl dX3_goes_40 (co_has _ (hT.2.2.2.2 t c13).1) rfl ?_
          refine GG.topi hwho ?_
          refine g_aload_n 0 dX3_goes_43 rfl rfl ?_
          refine co_get_talk q272 dX3_goes_44 ?_
          refine g_getfN (C := RX2) (T := TX2) (N := 7) 1 in_X2 rfl (by decide) q210 rfl dX3_goes_47 (co_has _ hT.1) rfl ?_
          refine g_iload_n 3 dX3_goes_50 rfl rfl ?_
          refine h_cVo (ctJ2_get t _ (co_has _ hL2.1) (co_has _ hg1) hg3 hg2 c13 (congrArg va_rf (hg4 _ c13))) (lw_V q584 q530 q531 q110 q532) ⟨rfl, hy_J2_get⟩ rfl ⟨Nat.le_of_ble_eq_true rfl, Nat.le_of_ble_eq_true rfl⟩ ⟨Nat.zero_le _, Nat.zero_le _⟩ rfl (Nat.le_of_ble_eq_true rfl) dX3_goes_51 (fun s H hK hP => va_recv hK (co_has _ hL2.1 H hP) (ci := 33) rfl (q0 := 0) rfl) (fun u hp => ?_)
          refine g_castS (r := (RX22, TX22, 2)) q585 rfl dX3_goes_54 (co_has _ (hT.2.2.2.2 t c13).1) ?_
          refine g_getfN (C := RX22) (T := TX22) (N := 2) 1 in_X22 rfl (by decide) q1349 rfl dX3_goes_57 (co_has _ (hT.2.2.2.2 t c13).1) rfl ?_
          refine g_iload_n 3 dX3_goes_60 rfl rfl ?_
          refine h_cVv (ctX3_says (tWho T2 t) (tSem T t) (@fill_all l D Y A 900) hT (CoWd.env hSib hok hW (by omega) hi) (by rw [ha]; exact hW.2.2.2.1) hb (by omega) (hSib.2.2.2.2.2.2 t c13).2 (hT.2.2.2.2 t c13).2 hl9 (by omega)) (lw_V q586 q587 q588 q111 q589) ⟨rfl, hy_X3_says⟩ rfl ⟨Nat.le_of_ble_eq_true rfl, Nat.le_of_ble_eq_true rfl⟩ ⟨Nat.zero_le _, Nat.zero_le _⟩ rfl (Nat.le_of_ble_eq_true rfl) dX3_goes_61 co_rec (fun u3 hu3 => ?_)
          obtain ⟨heaps2, rows2⟩ := u3
          refine g_iinc_n (b := 1) (L' := [(0, _), (1, _), (2, _), (3, _)]) dX3_goes_64 rfl rfl (by decide) rfl rfl ?_
          refine g_goto (tgt := 2) dX3_goes_67 (by decide) ?_
          exact ih2 (t + 1) heaps2 rows2 (by omega) (by omega) (goes_step hSib c13 hnT hi hu3) ((hu3.2 _ (by omega) (by omega)).trans ha) (fun r hr => (hu3.2 r (by omega) (by omega)).trans (ho r hr))
        · skip
          have hwho := (hSib.2.2.2.2.2.2 t c13).1
          rw [if_pos c19] at hwho
          refine g_iload_n 2 dX3_goes_22 rfl rfl ?_
          refine g_goto (tgt := 43) dX3_goes_23 (by decide) ?_
          refine GG.topi hwho ?_
          refine g_aload_n 0 dX3_goes_43 rfl rfl ?_
          refine co_get_talk q272 dX3_goes_44 ?_
          refine g_getfN (C := RX2) (T := TX2) (N := 7) 1 in_X2 rfl (by decide) q210 rfl dX3_goes_47 (co_has _ hT.1) rfl ?_
          refine g_iload_n 3 dX3_goes_50 rfl rfl ?_
          refine h_cVo (ctJ2_get t _ (co_has _ hL2.1) (co_has _ hg1) hg3 hg2 c13 (congrArg va_rf (hg4 _ c13))) (lw_V q584 q530 q531 q110 q532) ⟨rfl, hy_J2_get⟩ rfl ⟨Nat.le_of_ble_eq_true rfl, Nat.le_of_ble_eq_true rfl⟩ ⟨Nat.zero_le _, Nat.zero_le _⟩ rfl (Nat.le_of_ble_eq_true rfl) dX3_goes_51 (fun s H hK hP => va_recv hK (co_has _ hL2.1 H hP) (ci := 33) rfl (q0 := 0) rfl) (fun u hp => ?_)
          refine g_castS (r := (RX22, TX22, 2)) q585 rfl dX3_goes_54 (co_has _ (hT.2.2.2.2 t c13).1) ?_
          refine g_getfN (C := RX22) (T := TX22) (N := 2) 1 in_X22 rfl (by decide) q1349 rfl dX3_goes_57 (co_has _ (hT.2.2.2.2 t c13).1) rfl ?_
          refine g_iload_n 3 dX3_goes_60 rfl rfl ?_
          refine h_cVv (ctX3_says (tWho T2 t) (tSem T t) (@fill_all l D Y A 900) hT (CoWd.env hSib hok hW (by omega) hi) (by rw [ha]; exact hW.2.2.2.1) hb (by omega) (hSib.2.2.2.2.2.2 t c13).2 (hT.2.2.2.2 t c13).2 hl9 (by omega)) (lw_V q586 q587 q588 q111 q589) ⟨rfl, hy_X3_says⟩ rfl ⟨Nat.le_of_ble_eq_true rfl, Nat.le_of_ble_eq_true rfl⟩ ⟨Nat.zero_le _, Nat.zero_le _⟩ rfl (Nat.le_of_ble_eq_true rfl) dX3_goes_61 co_rec (fun u3 hu3 => ?_)
          obtain ⟨heaps2, rows2⟩ := u3
          refine g_iinc_n (b := 1) (L' := [(0, _), (1, _), (2, _), (3, _)]) dX3_goes_64 rfl rfl (by decide) rfl rfl ?_
          refine g_goto (tgt := 2) dX3_goes_67 (by decide) ?_
          exact ih2 (t + 1) heaps2 rows2 (by omega) (by omega) (goes_step hSib c13 hnT hi hu3) ((hu3.2 _ (by omega) (by omega)).trans ha) (fun r hr => (hu3.2 r (by omega) (by omega)).trans (ho r hr))
  exact loop2 (tNT T + 1) 0 heaps rows (by omega) (by omega) (fun t9 ht9 => by rw [show t9 = 0 by omega]; exact hW.2.2.2.2.congr (fun w _ => by rw [leftT_0, Bool.and_true])) rfl (fun _ _ => rfl)
end
