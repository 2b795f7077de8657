/-! TWOSLIPS, 10: orders -/
set_option maxRecDepth 100000
theorem g_copyi {l : Launch} {D : va_G} {cl : List vw_C} {tys : List (ClassId × FieldType)} {cc : ByteArray} {nL : Nat} {rt : Option FieldType} {own : String} {R : Room} {A : Nat → Prop} {MX : Heap → Method → Code → Prop} {QF : List Frame → Array Value → State → State → Prop} {k n pc : Nat} {L : List (Nat × Value)} {st : List Value} {ws ws2 : va_W} {idx sp dp m a0 a n0 n1 : Nat} {c0 : ClassId} {f g : Nat → Int32} (hq : Cond.methodLink own idx arraycopyName ∈ lw_all) (h2 : Cond.native arraycopyName ∈ lw_all) (h3 : Cond.static arraycopyName ∈ lw_all) (h4 : Cond.initialized "java/lang/System" ∈ lw_all) (q0 q1 t0 : Nat) (ht : tys[t0]? = some (c0, .int)) (he0 : ws[q0]? = some (a0, .inl (c0, n0, .inl f))) (he1 : ws[q1]? = some (a, .inl (c0, n1, .inl g))) (h5 : sp + m ≤ n0) (h6 : dp + m ≤ n1) (h7 : n0 < 2 ^ 31) (h8 : n1 < 2 ^ 31) (hw : ws.set q1 (a, .inl (c0, n1, .inl (va_cpy f g sp dp m))) = ws2) (hf : 1 ≤ R.frames) (hlo : (st.map fun v => v.category).sum + (nativeFrameWords "java/lang/System" "arraycopy" 5 + 11) ≤ R.locals) (hd : decode cc pc = .ok (.invokestatic idx, 3))
    (K : GG l D cl tys cc nL rt own R A MX QF (HW D cl A ws2) k n (pc + 3) L st) : GG l D cl tys cc nL rt own R A MX QF (HW D cl A ws) k n pc L (.int (nI m) :: .int (nI dp) :: .ref a :: .int (nI sp) :: .ref a0 :: st) := by
  subst hw
  have e1 : (nI sp).toNatClampNeg = sp := nI_clamp (by omega)
  have e2 : (nI dp).toNatClampNeg = dp := nI_clamp (by omega)
  have e3 : (nI m).toNatClampNeg = m := nI_clamp (by omega)
  exact fun p e s m' args below meth c H locs ls B hP hS hl => va_copyi B.1 B.2.1 (B.2.2.1.trans hl.1.symm) B.2.2.2.2.2.1 (B.2.2.2.2.2.2.1 _ hq) (B.2.2.2.2.2.2.1 _ h2) (B.2.2.2.2.2.2.1 _ h3) (B.2.2.2.2.2.2.1 _ h4) B.2.2.2.2.2.2.2.1 hP.1 hP.2 hS q0 q1 t0 t0 he0 he1 ht ht rfl (nI_pos (by omega)) (nI_pos (by omega)) (nI_pos (by omega)) (by rw [e1, e3]; exact h5) (by rw [e2, e3]; exact h6) (fun i _ => rfl) hf hlo hd (fun H1 locs1 hP1 hD1 hS1 => K p e s m' args below meth c H1 locs1 ls B (by rw [e1, e2, e3] at hP1 hD1; exact ⟨hP1, hD1⟩) hS1 hl)
def mayO (T : Talk) (LF : Nat → Nat → Bool) (x t w : Nat) : Bool :=
  let b := seeF (tP T) (tSl T (tWho T x)) (LF (tHear T (tWho T x) t)) (tSem T x (rstE (tE T LF) (tHear T (tWho T x) t)) (tHear T (tWho T x) t)) w
  if tLiar T (tWho T x) = true then !b else b
theorem mayT_ord {T : Talk} {o : List Nat} {LF : Nat → Nat → Bool} {t w : Nat} : mayT (tOrd T o) LF t w = mayO T LF (o.getD t 0) t w := rfl
theorem lefts_ord {T : Talk} {o o2 : List Nat} : ∀ {n : Nat}, (∀ k, k < n → o.getD k 0 = o2.getD k 0) → lefts (tOrd T o) n = lefts (tOrd T o2) n
  | 0, _ => rfl
  | n + 1, h => by
    have ih := lefts_ord (T := T) (n := n) (fun k hk => h k (by omega))
    funext t' w
    show (if t' ≤ n then lefts (tOrd T o) n t' w else (lefts (tOrd T o) n n w && mayT (tOrd T o) (lefts (tOrd T o) n) n w)) = (if t' ≤ n then lefts (tOrd T o2) n t' w else (lefts (tOrd T o2) n n w && mayT (tOrd T o2) (lefts (tOrd T o2) n) n w))
    rw [ih, mayT_ord, mayT_ord, h n (Nat.lt_succ_self n)]
theorem leftT_ord {T : Talk} {o o2 : List Nat} {n w : Nat} (h : ∀ k, k < n → o.getD k 0 = o2.getD k 0) : leftT (tOrd T o) n w = leftT (tOrd T o2) n w := by
  unfold leftT; rw [lefts_ord h]
theorem leftT_pre {T : Talk} {o : List Nat} {t n w : Nat} (h : n ≤ o.length) : leftT (tOrd T (o ++ [t])) n w = leftT (tOrd T o) n w := leftT_ord (fun k hk => by rw [getD_snoc, if_neg (by omega)])
theorem ordL_nil {T : Talk} {w n : Nat} (hn : tNT T = n) : ∀ {d : Nat} {o : List Nat}, o.length + d = n → leftT (tOrd T o) o.length w = false → ordL (ordP T w) n d o = []
  | 0, o, h, hl => by
    unfold ordL
    rw [if_neg (by unfold ordP; rw [hn, ← h, Nat.add_zero, hl]; decide)]
  | d + 1, o, h, hl => by
    unfold ordL
    rw [List.flatMap_eq_nil_iff]
    intro t _
    by_cases c : decide (t ∈ o) = true
    · rw [if_pos c]
    · rw [if_neg c]
      refine ordL_nil hn (by rw [List.length_append]; show o.length + 1 + d = n; omega) ?_
      rw [show (o ++ [t]).length = o.length + 1 by rw [List.length_append]; rfl, leftT_succ, leftT_pre (Nat.le_refl _), hl, Bool.false_and]
theorem TOK.ord {T : Talk} {o : List Nat} (h : TOK T) (hm : ∀ x, x ∈ o → x < tNT T) : TOK (tOrd T o) := by
  obtain ⟨o1, o2, o3, o4, o5, o6, o7, o8, o9, o10⟩ := h
  refine ⟨o1, o2, o3, o4, o5, o6, o7, o8, fun z hz => ?_, o10⟩
  have hz : z < tNT T := hz
  refine o9 _ ?_
  rcases Nat.lt_or_ge z o.length with q | q
  · rw [List.getD_eq_getElem?_getD, List.getElem?_eq_getElem q]
    exact hm _ (List.getElem_mem q)
  · rw [List.getD_eq_getElem?_getD, List.getElem?_eq_none q]
    show 0 < tNT T; omega
theorem CoLf.snoc {T : Talk} {b many n t : Nat} {rows : Nat → Nat → Int64} {o : List Nat} (h : CoLf (tOrd T o) b many rows n) (hn : n ≤ o.length) : CoLf (tOrd T (o ++ [t])) b many rows n := fun k hk w hw => by
  rw [h k hk w hw]
  show (_ && leftT (tOrd T o) k w) = (_ && leftT (tOrd T (o ++ [t])) k w)
  rw [leftT_pre (by omega)]
theorem says_ord {T : Talk} {o : List Nat} {t many used b : Nat} {rows rows2 : Nat → Nat → Int64} (h : SD rows rows2 b o.length used many (fun w => (tE T (leftT (tOrd T (o ++ [t])))).2.2.2.2.2 o.length w && mayG T (-1) (tWho T t) (tSem T t) (tE T (leftT (tOrd T (o ++ [t])))) o.length w)) (hc : CoLf (tOrd T o) b many rows o.length) (hu : o.length + 1 < 21) (hb : b + 70 ≤ 156) : CoLf (tOrd T (o ++ [t])) b many rows2 (o ++ [t]).length := by
  intro k hk w hw
  rw [List.length_append] at hk
  have hk : k ≤ o.length + 1 := hk
  rcases Nat.lt_or_ge k (o.length + 1) with q | q
  · rw [h.2 (b + k) (by omega) (by omega)]
    exact hc.snoc (Nat.le_refl _) k (by omega) w hw
  · rw [show k = o.length + 1 by omega, h.1 w hw]
    have e := @mayG_L (tOrd T (o ++ [t])) o.length w
    have e1 : tWho (tOrd T (o ++ [t])) o.length = tWho T t := by show tWho T ((o ++ [t]).getD o.length 0) = _; rw [getD_snoc, if_pos rfl]
    have e2 : tSem (tOrd T (o ++ [t])) o.length = tSem T t := by show tSem T ((o ++ [t]).getD o.length 0) = _; rw [getD_snoc, if_pos rfl]
    rw [e1, e2] at e
    show (decide (w < many) && (leftT (tOrd T (o ++ [t])) o.length w && mayG T (-1) (tWho T t) (tSem T t) (tE T (leftT (tOrd T (o ++ [t])))) o.length w)) = (decide (w < many) && leftT (tOrd T (o ++ [t])) (o.length + 1) w)
    rw [leftT_succ, ← e]; rfl

/-- the object of Orders and its arrays -/
def OrL (Y : Nat → ClassId) (xa : Nat → Nat) (found wd : Nat) (nowf firstf : Nat → Nat) (W : va_W) : va_W :=
  (xa 13, .inr (8, [.ref (xa 14), .ref (xa 15), .int (nI found), .int (nI wd), .ref (xa 0)])) :: (xa 14, inC Y 6 nowf) :: (xa 15, inC Y 6 firstf) :: W
theorem or_tl {Y : Nat → ClassId} {xa : Nat → Nat} {found wd : Nat} {nowf firstf : Nat → Nat} {W : va_W} {q : Nat × va_E} (h : q ∈ W) : q ∈ OrL Y xa found wd nowf firstf W := List.mem_cons_of_mem _ (List.mem_cons_of_mem _ (List.mem_cons_of_mem _ h))
theorem or_up {Y : Nat → ClassId} {T : Talk} {ta xa : Nat → Nat} {found wd : Nat} {nowf firstf : Nat → Nat} {W : va_W} (h : TalkL Y T ta W) : TalkL Y T ta (OrL Y xa found wd nowf firstf W) := h.up (fun _ => or_tl)
theorem cpy_nI {f g : Nat → Nat} {a b n : Nat} : va_cpy (fun j => nI (f j)) (fun j => nI (g j)) a b n = fun j => nI (va_cpy f g a b n j) := by
  funext j; unfold va_cpy; split <;> rfl
section OrRows
variable {l : Launch} {D : va_G} {Y : Nat → ClassId} {A : Nat → Prop} {cf xa ca cb ra : Nat → Nat} {b tx : Nat} {bL : Bool} {tk : Option Nat} {many used : Nat} {liar : Int32} {xs ys heaps : Nat → Nat} {slips : Nat → Nat → Nat} {rows : Nat → Nat → Int64} {taped fk : Nat} {fa : Int32} {an nx : Nat} {images : Nat → Option Nat} {tape : Nat → Int32} {W : va_W} {found wd : Nat} {nowf firstf : Nat → Nat}
variable {cc : ByteArray} {nL : Nat} {rt : Option FieldType} {own : String} {R : Room} {MX : Heap → Method → Code → Prop} {QF : List Frame → Array Value → State → State → Prop} {k n pc mc ms : Nat} {L L' : List (Nat × Value)} {st : List Value}
theorem or_put_found {z : Nat} {idx : Nat} (hq : Cond.fieldLink own idx RX8 "found" "I" ∈ lw_all) (hd : decode cc pc = .ok (.putfield idx, 3)) (K : GG l D clX (tyX Y) cc nL rt own R A MX QF (HW D clX A (CoL Y cf ra b tk many used liar xs ys heaps slips rows (XoL Y xa ca cb ra tx bL taped fk fa an nx images tape (OrL Y xa z wd nowf firstf W)))) k n (pc + 3) L st) : GG l D clX (tyX Y) cc nL rt own R A MX QF (HW D clX A (CoL Y cf ra b tk many used liar xs ys heaps slips rows (XoL Y xa ca cb ra tx bL taped fk fa an nx images tape (OrL Y xa found wd nowf firstf W)))) k n pc L (.int (nI z) :: .ref (xa 13) :: st) :=
  w_putf (C := RX8) (T := TX8) (N := 5) (ty := .int) 2 in_X8 rfl (by decide) hq rfl rfl tyX8 tyX8_ok nmX8 (by decide +kernel) rfl rfl 172 (CoL_at (i := 3)) (CoL_setW (i := 3)) (Nat.le_of_ble_eq_true rfl) hd K
theorem or_put_world {z : Nat} {idx : Nat} (hq : Cond.fieldLink own idx RX8 "world" "I" ∈ lw_all) (hd : decode cc pc = .ok (.putfield idx, 3)) (K : GG l D clX (tyX Y) cc nL rt own R A MX QF (HW D clX A (CoL Y cf ra b tk many used liar xs ys heaps slips rows (XoL Y xa ca cb ra tx bL taped fk fa an nx images tape (OrL Y xa found z nowf firstf W)))) k n (pc + 3) L st) : GG l D clX (tyX Y) cc nL rt own R A MX QF (HW D clX A (CoL Y cf ra b tk many used liar xs ys heaps slips rows (XoL Y xa ca cb ra tx bL taped fk fa an nx images tape (OrL Y xa found wd nowf firstf W)))) k n pc L (.int (nI z) :: .ref (xa 13) :: st) :=
  w_putf (C := RX8) (T := TX8) (N := 5) (ty := .int) 3 in_X8 rfl (by decide) hq rfl rfl tyX8 tyX8_ok nmX8 (by decide +kernel) rfl rfl 172 (CoL_at (i := 3)) (CoL_setW (i := 3)) (Nat.le_of_ble_eq_true rfl) hd K
theorem or_st_now {i z : Nat} (hi : i < 6) (hd : decode cc pc = .ok (.iastore, 1)) (K : GG l D clX (tyX Y) cc nL rt own R A MX QF (HW D clX A (CoL Y cf ra b tk many used liar xs ys heaps slips rows (XoL Y xa ca cb ra tx bL taped fk fa an nx images tape (OrL Y xa found wd (up nowf i z) firstf W)))) k n (pc + 1) L st) : GG l D clX (tyX Y) cc nL rt own R A MX QF (HW D clX A (CoL Y cf ra b tk many used liar xs ys heaps slips rows (XoL Y xa ca cb ra tx bL taped fk fa an nx images tape (OrL Y xa found wd nowf firstf W)))) k n pc L (.int (nI z) :: .int (nI i) :: .ref (xa 14) :: st) := w_sti (cA := Y 0) 0 rfl hi (by decide) 173 (CoL_at (i := 4)) (by rw [upd_nI]; exact CoL_setW (i := 4)) hd K
theorem or_ld_first {i : Nat} (hi : i < 6) (hd : decode cc pc = .ok (.iaload, 1)) (K : GG l D clX (tyX Y) cc nL rt own R A MX QF (HW D clX A (CoL Y cf ra b tk many used liar xs ys heaps slips rows (XoL Y xa ca cb ra tx bL taped fk fa an nx images tape (OrL Y xa found wd nowf firstf W)))) k n (pc + 1) L (.int (nI (firstf i)) :: st)) : GG l D clX (tyX Y) cc nL rt own R A MX QF (HW D clX A (CoL Y cf ra b tk many used liar xs ys heaps slips rows (XoL Y xa ca cb ra tx bL taped fk fa an nx images tape (OrL Y xa found wd nowf firstf W)))) k n pc L (.int (nI i) :: .ref (xa 15) :: st) := g_ldi (cA := Y 0) 0 rfl hi (by decide) hd (hw_mem (co_tl (xo_tl (List.mem_cons_of_mem _ (List.mem_cons_of_mem _ List.mem_cons_self))))) K
theorem or_rec : ∀ (s : State) (H : Heap), va_K D clX (tyX Y) s → HW D clX A (CoL Y cf ra b tk many used liar xs ys heaps slips rows (XoL Y xa ca cb ra tx bL taped fk fa an nx images tape (OrL Y xa found wd nowf firstf W))) H → ∃ cell : Cell, H[xa 13]? = some cell ∧ cell.vm.isStatics = false ∧ s.vm.findClass RX8 = some cell.cls := fun s H hK hP => va_recv hK (hw_mem (co_tl (xo_tl List.mem_cons_self)) H hP) (ci := 8) rfl (q0 := 0) rfl
end OrRows
section
variable {l : Launch} {D : va_G} {Y : Nat → ClassId} {A : Nat → Prop}
end
