/-! THE TEXT, 2: the reader ends; lines, the whole text -/
set_option maxRecDepth 100000
def rnk (c : Nat) : Nat := if c = 0 then 1 else if c = 2 then 2 else if c = 4 then 3 else 0
theorem rnk_le (c : Nat) : rnk c ≤ 3 := by
  unfold rnk
  split
  · omega
  · split
    · omega
    · split <;> omega
def okK (r : PR Sem) : Prop := ∀ k l, r = PR.no k l → ¬ k = 9
theorem okK_bind {α : Type} {r : PR α} {f : α → Nat → PR Sem} (h : ∀ k l, r = PR.no k l → ¬ k = 9) (h2 : ∀ a p, r = PR.ok a p → okK (f a p)) : okK (PR.bind r f) := by
  rcases r with ⟨k, l⟩ | ⟨a, p⟩
  · intro k' l' e
    obtain ⟨e1, e2⟩ := PR.injN e
    subst e1; exact h _ _ rfl
  · exact h2 _ _ rfl
theorem okK_ok {f : Sem} {p : Nat} : okK (PR.ok f p) := fun k l e => (PR.ne e.symm).elim
theorem okK_no {k l : Nat} (h : ¬ k = 9) : okK (PR.no k l) := fun k' l' e => by obtain ⟨e1, e2⟩ := PR.injN e; subst e1; exact h
theorem okK_wrong {X : Txt} {p : Nat} : okK (pWrong X p) := okK_no (by split <;> decide)
theorem pNum_9 {X : Txt} {lo hi p : Nat} : ∀ k l, pNum X lo hi p = PR.no k l → ¬ k = 9 := by
  intro k l h
  unfold pNum at h
  by_cases h1 : tkK X p = 2
  · rw [if_pos h1] at h
    by_cases h2 : lo ≤ tkV X p ∧ tkV X p < hi
    · rw [if_pos h2] at h; exact (PR.ne h.symm).elim
    · rw [if_neg h2] at h
      obtain ⟨e1, e2⟩ := PR.injN h
      omega
  · rw [if_neg h1] at h
    unfold pWrong at h
    obtain ⟨e1, e2⟩ := PR.injN h
    split at e1 <;> omega
/-- the reader ends -/
theorem pE_ends {X : Txt} {ns : Nat} : ∀ (n c o : Nat) (acc : List Sem) (p : Nat), p ≤ X.2 → 4 * (X.2 - p) + rnk c < n → okK (pE X ns n c o acc p)
  | 0, _, _, _, _, _, h => absurd h (Nat.not_lt_zero _)
  | n + 1, c, o, acc, p, hp, hn => by
    have ih := pE_ends (X := X) (ns := ns) n
    show okK (pStep X ns (pE X ns n) c o acc p)
    have R := rnk_le
    have go : ∀ (c' o' : Nat) (acc' : List Sem) (p' : Nat), p < p' → p' ≤ X.2 → okK (pE X ns n c' o' acc' p') := fun c' o' acc' p' h1 h2 => ih _ _ _ _ h2 (by have := R c'; omega)
    have W : ∀ {w : List Nat}, isW X w p = true → ∀ (c' o' : Nat) (acc' : List Sem), okK (pE X ns n c' o' acc' (tkE X p)) := fun h c' o' acc' => go _ _ _ _ (isW_go h).1 (isW_go h).2
    unfold pStep
    by_cases c0 : c = 0
    · subst c0
      rw [if_pos rfl]
      by_cases w0 : isW X wNot p = true
      · rw [if_pos w0]
        by_cases o8 : o = 8
        · rw [if_pos o8]; exact okK_no (by decide)
        · rw [if_neg o8]; exact okK_bind (W w0 _ _ _) (fun _ _ _ => okK_ok)
      · rw [if_neg w0]
        by_cases w1 : isS X 40 p = true
        · rw [if_pos w1]; exact ih _ _ _ _ hp (by show 4 * (X.2 - p) + 0 < n; have : rnk 0 = 1 := rfl; omega)
        · rw [if_neg w1]
          by_cases w2 : isW X wKnows p = true
          · rw [if_pos w2]; exact okK_bind pNum_9 (fun _ _ _ => okK_ok)
          · rw [if_neg w2]
            by_cases w3 : isW X wSees p = true
            · rw [if_pos w3]
              exact okK_bind pNum_9 (fun s q e => okK_bind (go _ _ _ _ (by have := isW_go w3; have := pNum_go e; omega) (pNum_go e).2) (fun _ _ _ => okK_ok))
            · rw [if_neg w3]
              by_cases w4 : isW X wWas p = true
              · rw [if_pos w4]
                exact okK_bind pNum_9 (fun s q e => okK_bind (go _ _ _ _ (by have := isW_go w4; have := pNum_go e; omega) (pNum_go e).2) (fun _ _ _ => okK_ok))
              · rw [if_neg w4]
                by_cases w5 : isW X wEven p = true
                · rw [if_pos w5]; exact okK_ok
                · rw [if_neg w5]
                  by_cases w6 : isW X wSame p = true
                  · rw [if_pos w6]; exact okK_ok
                  · rw [if_neg w6]
                    by_cases w7 : isW X wAbove p = true
                    · rw [if_pos w7]; exact okK_bind pNum_9 (fun _ _ _ => okK_ok)
                    · rw [if_neg w7]; exact okK_wrong
    · rw [if_neg c0]
      by_cases c1 : c = 1
      · rw [if_pos c1]
        by_cases w1 : isS X 40 p = true
        · rw [if_pos w1]
          by_cases o8 : o = 8
          · rw [if_pos o8]; exact okK_no (by decide)
          · rw [if_neg o8]
            refine okK_bind (go _ _ _ _ (isS_go w1).1 (isS_go w1).2) (fun f q e => ?_)
            by_cases w2 : isS X 41 q = true
            · rw [if_pos w2]; exact okK_ok
            · rw [if_neg w2]; exact okK_wrong
        · rw [if_neg w1]; exact okK_wrong
      · rw [if_neg c1]
        by_cases c2 : c = 2
        · rw [if_pos c2]
          subst c2
          refine okK_bind (ih _ _ _ _ hp (by show 4 * (X.2 - p) + 1 < n; have : rnk 2 = 2 := rfl; omega)) (fun f q e => ?_)
          have g := pE_go _ _ _ _ _ _ _ e hp
          exact go _ _ _ _ (g.2.2 (by omega)) g.2.1
        · rw [if_neg c2]
          by_cases c3 : c = 3
          · rw [if_pos c3]
            by_cases w1 : isW X wAnd p = true
            · rw [if_pos w1]
              refine okK_bind (W w1 _ _ _) (fun f q e => ?_)
              have g := pE_go _ _ _ _ _ _ _ e (isW_go w1).2
              have g1 := isW_go w1
              exact go _ _ _ _ (by omega) g.2.1
            · rw [if_neg w1]; exact okK_ok
          · rw [if_neg c3]
            by_cases c4 : c = 4
            · rw [if_pos c4]
              subst c4
              refine okK_bind (ih _ _ _ _ hp (by show 4 * (X.2 - p) + 2 < n; have : rnk 4 = 3 := rfl; omega)) (fun f q e => ?_)
              have g := pE_go _ _ _ _ _ _ _ e hp
              exact go _ _ _ _ (g.2.2 (by omega)) g.2.1
            · rw [if_neg c4]
              by_cases w1 : isW X wOr p = true
              · rw [if_pos w1]
                refine okK_bind (W w1 _ _ _) (fun f q e => ?_)
                have g := pE_go _ _ _ _ _ _ _ e (isW_go w1).2
                have g1 := isW_go w1
                exact go _ _ _ _ (by omega) g.2.1
              · rw [if_neg w1]; exact okK_ok
/-- what is said at p -/
def FUEL : Nat := 4000
def pSay (X : Txt) (ns p : Nat) : PR Sem := pE X ns FUEL 4 0 [] p
theorem pSay_ends {X : Txt} {ns p : Nat} (h : X.2 ≤ 900) (hp : p ≤ X.2) : okK (pSay X ns p) := pE_ends _ _ _ _ _ hp (by show 4 * (X.2 - p) + 3 < 4000; omega)
/-- sights by their words -/
def sgtW : List (List Nat) := [wSum, wProduct, wGreater, wLess, wDifference, wSquares, wOdd, wDigit, wNothing]
def sightOf (X : Txt) (p : Nat) : Option Nat := if isW X wSum p = true then some 0 else if isW X wProduct p = true then some 1 else if isW X wGreater p = true then some 2 else if isW X wLess p = true then some 3 else if isW X wDifference p = true then some 4 else if isW X wSquares p = true then some 5 else if isW X wOdd p = true then some 6 else if isW X wDigit p = true then some 7 else if isW X wNothing p = true then some 8 else none
theorem sightOf_le {X : Txt} {p k : Nat} (h : sightOf X p = some k) : k ≤ 8 ∧ tkK X p = 1 := by
  unfold sightOf at h
  by_cases h0 : isW X wSum p = true
  · rw [if_pos h0] at h; cases h; exact ⟨by decide, isW_K h0⟩
  · rw [if_neg h0] at h
    by_cases h0 : isW X wProduct p = true
    · rw [if_pos h0] at h; cases h; exact ⟨by decide, isW_K h0⟩
    · rw [if_neg h0] at h
      by_cases h0 : isW X wGreater p = true
      · rw [if_pos h0] at h; cases h; exact ⟨by decide, isW_K h0⟩
      · rw [if_neg h0] at h
        by_cases h0 : isW X wLess p = true
        · rw [if_pos h0] at h; cases h; exact ⟨by decide, isW_K h0⟩
        · rw [if_neg h0] at h
          by_cases h0 : isW X wDifference p = true
          · rw [if_pos h0] at h; cases h; exact ⟨by decide, isW_K h0⟩
          · rw [if_neg h0] at h
            by_cases h0 : isW X wSquares p = true
            · rw [if_pos h0] at h; cases h; exact ⟨by decide, isW_K h0⟩
            · rw [if_neg h0] at h
              by_cases h0 : isW X wOdd p = true
              · rw [if_pos h0] at h; cases h; exact ⟨by decide, isW_K h0⟩
              · rw [if_neg h0] at h
                by_cases h0 : isW X wDigit p = true
                · rw [if_pos h0] at h; cases h; exact ⟨by decide, isW_K h0⟩
                · rw [if_neg h0] at h
                  by_cases h0 : isW X wNothing p = true
                  · rw [if_pos h0] at h; cases h; exact ⟨by decide, isW_K h0⟩
                  · rw [if_neg h0] at h; cases h
/-- changes of a talk -/
def tNums (T : Talk) (lo hi : Nat) : Talk := (tLines T, lo, hi, T.2.2.2)
def tMostTo (T : Talk) (v : Nat) : Talk := (tLines T, tLow T, tHigh T, v, T.2.2.2.2)
def tUnTo (T : Talk) : Talk := (tLines T, tLow T, tHigh T, tMost T, 1, T.2.2.2.2.2)
def tSpk (T : Talk) (k : Nat) (li de : Bool) : Talk := (tLines T, tLow T, tHigh T, tMost T, tUn T, tNS T + 1, up (tKind T) (tNS T) k, up (tLiar T) (tNS T) li, up (tDeaf T) (tNS T) de, tNT T, tWho T, tSem T)
def tTurn (T : Talk) (s : Nat) (f : Sem) : Talk := (tLines T, tLow T, tHigh T, tMost T, tUn T, tNS T, tKind T, tLiar T, tDeaf T, tNT T + 1, up (tWho T) (tNT T) s, up (tSem T) (tNT T) f)
def tLine (T : Talk) : Talk := (tLines T + 1, T.2)
/-- a word that may stand there -/
def opt (X : Txt) (w : List Nat) (p : Nat) : Nat := if isW X w p = true then tkE X p else p
def pBody (X : Txt) (T : Talk) (p : Nat) : PR Talk :=
  if isW X wNumbers p = true then PR.bind (pNum X 1 61 (tkE X p)) fun lo q => if isW X wTo q = true then PR.bind (pNum X lo 61 (tkE X q)) fun hi r => PR.ok (tNums T lo hi) r else pWrong X q
  else if isW X wMost p = true then PR.bind (pNum X 2 121 (tkE X p)) fun v q => PR.ok (tMostTo T v) q
  else if isW X wUnlike p = true then PR.ok (tUnTo T) (tkE X p)
  else if isW X wSpeaker p = true then (if tNS T = 6 then PR.no 4 (tkB X p) else match sightOf X (tkE X p) with
    | none => pWrong X (tkE X p)
    | some k => PR.ok (tSpk T k (isW X wLiar (tkE X (tkE X p))) (isW X wDeaf (opt X wLiar (tkE X (tkE X p))))) (opt X wDeaf (opt X wLiar (tkE X (tkE X p)))))
  else if isW X wSay p = true then (if tNT T = 20 then PR.no 4 (tkB X p) else PR.bind (pNum X 0 (tNS T) (tkE X p)) fun s q => PR.bind (pSay X (tNS T) q) fun f r => PR.ok (tTurn T s f) r)
  else pWrong X p
def pLine (X : Txt) (T : Talk) (p : Nat) : PR Talk := PR.bind (pBody X T p) fun T2 q => if isS X 59 q = true then PR.ok (tLine T2) (tkE X q) else pWrong X q
def pText (X : Txt) : Nat → Talk → Nat → PR Talk
  | 0, _, _ => PR.no 9 0
  | n + 1, T, p => if tkK X p = 0 then PR.ok T p else PR.bind (pLine X T p) fun T2 q => pText X n T2 q
def parse (X : Txt) : PR Talk := pText X 902 talk0 0
theorem opt_go {X : Txt} {w : List Nat} {p : Nat} (hp : p ≤ X.2) : p ≤ opt X w p ∧ opt X w p ≤ X.2 := by
  unfold opt; split
  · rename_i h; have := isW_go h; omega
  · omega
theorem pBody_go {X : Txt} {T T2 : Talk} {p q : Nat} (h : pBody X T p = PR.ok T2 q) (hp : p ≤ X.2) : p < q ∧ q ≤ X.2 := by
  unfold pBody at h
  by_cases h0 : isW X wNumbers p = true
  · rw [if_pos h0] at h
    obtain ⟨lo, q1, e1, e2⟩ := PR.bind_eq h
    have g0 := isW_go h0
    have g1 := pNum_go e1
    by_cases h1 : isW X wTo q1 = true
    · rw [if_pos h1] at e2
      obtain ⟨hi, q2, e3, e4⟩ := PR.bind_eq e2
      have g2 := isW_go h1
      have g3 := pNum_go e3
      obtain ⟨e5, e6⟩ := PR.inj e4
      omega
    · rw [if_neg h1] at e2; exact (PR.ne e2).elim
  · rw [if_neg h0] at h
    by_cases h0 : isW X wMost p = true
    · rw [if_pos h0] at h
      obtain ⟨v, q1, e1, e2⟩ := PR.bind_eq h
      have g0 := isW_go h0
      have g1 := pNum_go e1
      obtain ⟨e5, e6⟩ := PR.inj e2
      omega
    · rw [if_neg h0] at h
      by_cases h0 : isW X wUnlike p = true
      · rw [if_pos h0] at h
        have g0 := isW_go h0
        obtain ⟨e5, e6⟩ := PR.inj h
        omega
      · rw [if_neg h0] at h
        by_cases h0 : isW X wSpeaker p = true
        · rw [if_pos h0] at h
          have g0 := isW_go h0
          by_cases h6 : tNS T = 6
          · rw [if_pos h6] at h; exact (PR.ne h).elim
          · rw [if_neg h6] at h
            cases hs : sightOf X (tkE X p) with
            | none => rw [hs] at h; exact (PR.ne h).elim
            | some k =>
              rw [hs] at h
              obtain ⟨e5, e6⟩ := PR.inj h
              have g1 := tk_go (X := X) (p := tkE X p) (by rw [(sightOf_le hs).2]; decide)
              have g2 := opt_go (w := wLiar) g1.2
              have g3 := opt_go (w := wDeaf) g2.2
              omega
        · rw [if_neg h0] at h
          by_cases h0 : isW X wSay p = true
          · rw [if_pos h0] at h
            have g0 := isW_go h0
            by_cases h6 : tNT T = 20
            · rw [if_pos h6] at h; exact (PR.ne h).elim
            · rw [if_neg h6] at h
              obtain ⟨s, q1, e1, e2⟩ := PR.bind_eq h
              obtain ⟨f, q2, e3, e4⟩ := PR.bind_eq e2
              have g1 := pNum_go e1
              have g2 := pE_go _ _ _ _ _ _ _ e3 g1.2
              obtain ⟨e5, e6⟩ := PR.inj e4
              omega
          · rw [if_neg h0] at h; exact (PR.ne h).elim
theorem pLine_go {X : Txt} {T T2 : Talk} {p q : Nat} (h : pLine X T p = PR.ok T2 q) (hp : p ≤ X.2) : p < q ∧ q ≤ X.2 := by
  obtain ⟨T3, q1, e1, e2⟩ := PR.bind_eq h
  have g := pBody_go e1 hp
  by_cases h1 : isS X 59 q1 = true
  · rw [if_pos h1] at e2
    have g1 := isS_go h1
    obtain ⟨e5, e6⟩ := PR.inj e2
    omega
  · rw [if_neg h1] at e2; exact (PR.ne e2).elim
