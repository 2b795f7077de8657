/-! THE TEXT: tokens, and one reader for both sides -/
set_option maxRecDepth 100000
/-- letters, how many -/
abbrev Txt : Type := (Nat → Nat) × Nat
def isLet (c : Nat) : Bool := decide (97 ≤ c ∧ c ≤ 122)
def isDig (c : Nat) : Bool := decide (48 ≤ c ∧ c ≤ 57)
def isWs (c : Nat) : Bool := decide (c = 32 ∨ c = 10)
def isSg (c : Nat) : Bool := decide (c = 59 ∨ c = 40 ∨ c = 41)
theorem isLet_iff {c : Nat} : isLet c = true ↔ 97 ≤ c ∧ c ≤ 122 := decide_eq_true_iff
theorem isDig_iff {c : Nat} : isDig c = true ↔ 48 ≤ c ∧ c ≤ 57 := decide_eq_true_iff
theorem isWs_iff {c : Nat} : isWs c = true ↔ c = 32 ∨ c = 10 := decide_eq_true_iff
def runN (P : Nat → Bool) (X : Txt) : Nat → Nat → Nat
  | 0, p => p
  | n + 1, p => if p < X.2 ∧ P (X.1 p) = true then runN P X n (p + 1) else p
/-- the first place from p on where it isn't so -/
def run (P : Nat → Bool) (X : Txt) (p : Nat) : Nat := runN P X (X.2 - p) p
theorem run_y {P : Nat → Bool} {X : Txt} {p : Nat} (h : p < X.2) (h2 : P (X.1 p) = true) : run P X p = run P X (p + 1) := by
  unfold run
  rw [show X.2 - p = (X.2 - (p + 1)) + 1 by omega]
  show (if _ then _ else _) = _
  rw [if_pos ⟨h, h2⟩]
theorem run_n {P : Nat → Bool} {X : Txt} {p : Nat} (h : ¬ (p < X.2 ∧ P (X.1 p) = true)) : run P X p = p := by
  unfold run
  cases X.2 - p with
  | zero => rfl
  | succ n => show (if _ then _ else _) = _; rw [if_neg h]
theorem run_spec (P : Nat → Bool) (X : Txt) : ∀ (n p : Nat), X.2 - p ≤ n → p ≤ run P X p ∧ (p ≤ X.2 → run P X p ≤ X.2) ∧ ¬ (run P X p < X.2 ∧ P (X.1 (run P X p)) = true) ∧ ∀ j, p ≤ j → j < run P X p → j < X.2 ∧ P (X.1 j) = true
  | 0, p, h => by
    have h1 : ¬ (p < X.2 ∧ P (X.1 p) = true) := fun q => by omega
    rw [run_n h1]
    exact ⟨Nat.le_refl _, fun h => h, h1, fun j h2 h3 => absurd h2 (by omega)⟩
  | n + 1, p, h => by
    by_cases q : p < X.2 ∧ P (X.1 p) = true
    · rw [run_y q.1 q.2]
      obtain ⟨a, b, c, d⟩ := run_spec P X n (p + 1) (by omega)
      refine ⟨by omega, fun _ => b (by omega), c, fun j h2 h3 => ?_⟩
      by_cases e : j = p
      · rw [e]; exact q
      · exact d j (by omega) h3
    · rw [run_n q]
      exact ⟨Nat.le_refl _, fun h => h, q, fun j h2 h3 => absurd h2 (by omega)⟩
theorem run_ge (P : Nat → Bool) (X : Txt) (p : Nat) : p ≤ run P X p := (run_spec P X _ p (Nat.le_refl _)).1
theorem run_le {P : Nat → Bool} {X : Txt} {p : Nat} (h : p ≤ X.2) : run P X p ≤ X.2 := (run_spec P X _ p (Nat.le_refl _)).2.1 h
theorem run_stop (P : Nat → Bool) (X : Txt) (p : Nat) : ¬ (run P X p < X.2 ∧ P (X.1 (run P X p)) = true) := (run_spec P X _ p (Nat.le_refl _)).2.2.1
theorem run_in {P : Nat → Bool} {X : Txt} {p j : Nat} (h : p ≤ j) (h2 : j < run P X p) : j < X.2 ∧ P (X.1 j) = true := (run_spec P X _ p (Nat.le_refl _)).2.2.2 j h h2
theorem run_up {P : Nat → Bool} {X : Txt} {p : Nat} (h : p < X.2) (h2 : P (X.1 p) = true) : p < run P X p := by
  rw [run_y h h2]; exact run_ge P X (p + 1)
/-- the token from p on: where it begins, where it ends, its kind (0 the end, 1 a word, 2 a number, 3 a sign, 4 none), its value -/
def tkB (X : Txt) (p : Nat) : Nat := run isWs X p
def tkE (X : Txt) (p : Nat) : Nat := if X.2 ≤ tkB X p then tkB X p else if isLet (X.1 (tkB X p)) = true then run isLet X (tkB X p) else if isDig (X.1 (tkB X p)) = true then run isDig X (tkB X p) else tkB X p + 1
def tkK (X : Txt) (p : Nat) : Nat := if X.2 ≤ tkB X p then 0 else if isLet (X.1 (tkB X p)) = true then 1 else if isDig (X.1 (tkB X p)) = true then (if 3 < run isDig X (tkB X p) - tkB X p then 4 else 2) else if isSg (X.1 (tkB X p)) = true then 3 else 4
def numV (X : Txt) (b : Nat) : Nat → Nat
  | 0 => 0
  | j + 1 => if j < 3 then 10 * numV X b j + (X.1 (b + j) - 48) else numV X b j
def tkV (X : Txt) (p : Nat) : Nat := if isDig (X.1 (tkB X p)) = true then numV X (tkB X p) (tkE X p - tkB X p) else X.1 (tkB X p)
theorem tkB_ge (X : Txt) (p : Nat) : p ≤ tkB X p := run_ge _ _ _
theorem tkB_le {X : Txt} {p : Nat} (h : p ≤ X.2) : tkB X p ≤ X.2 := run_le h
theorem tkK_0 {X : Txt} {p : Nat} (h : ¬ tkK X p = 0) : tkB X p < X.2 := by
  apply Nat.lt_of_not_le
  intro q
  exact h (if_pos q)
theorem tkE_gt {X : Txt} {p : Nat} (h : tkB X p < X.2) : tkB X p < tkE X p ∧ tkE X p ≤ X.2 := by
  unfold tkE
  rw [if_neg (by omega)]
  by_cases h1 : isLet (X.1 (tkB X p)) = true
  · rw [if_pos h1]; exact ⟨run_up h h1, run_le (by omega)⟩
  · rw [if_neg h1]
    by_cases h2 : isDig (X.1 (tkB X p)) = true
    · rw [if_pos h2]; exact ⟨run_up h h2, run_le (by omega)⟩
    · rw [if_neg h2]; omega
theorem tk_go {X : Txt} {p : Nat} (h : ¬ tkK X p = 0) : p < tkE X p ∧ tkE X p ≤ X.2 := by
  have h1 := tkE_gt (tkK_0 h)
  have h2 := tkB_ge X p
  omega
theorem tkK_le (X : Txt) (p : Nat) : tkK X p ≤ 4 := by
  unfold tkK; split
  · omega
  · split
    · omega
    · split
      · split <;> omega
      · split <;> omega
theorem tkK_word {X : Txt} {p : Nat} : tkK X p = 1 ↔ tkB X p < X.2 ∧ isLet (X.1 (tkB X p)) = true := by
  unfold tkK
  by_cases h : X.2 ≤ tkB X p
  · rw [if_pos h]; exact ⟨fun q => by omega, fun q => absurd q.1 (by omega)⟩
  · rw [if_neg h]
    by_cases h1 : isLet (X.1 (tkB X p)) = true
    · rw [if_pos h1]; exact ⟨fun _ => ⟨by omega, h1⟩, fun _ => rfl⟩
    · rw [if_neg h1]
      refine ⟨fun q => ?_, fun q => absurd q.2 h1⟩
      split at q
      · split at q <;> omega
      · split at q <;> omega
theorem tkK_num {X : Txt} {p : Nat} (h : tkK X p = 2) : tkB X p < X.2 ∧ isDig (X.1 (tkB X p)) = true := by
  unfold tkK at h
  by_cases h0 : X.2 ≤ tkB X p
  · rw [if_pos h0] at h; omega
  · rw [if_neg h0] at h
    by_cases h1 : isLet (X.1 (tkB X p)) = true
    · rw [if_pos h1] at h; omega
    · rw [if_neg h1] at h
      by_cases h2 : isDig (X.1 (tkB X p)) = true
      · exact ⟨by omega, h2⟩
      · rw [if_neg h2] at h; split at h <;> omega
theorem numV_lt (X : Txt) (b : Nat) : ∀ j, (∀ i, i < j → X.1 (b + i) ≤ 57) → numV X b j < 10 ^ min j 3
  | 0, _ => by show 0 < 10 ^ min 0 3; decide
  | j + 1, h => by
    have h1 := numV_lt X b j (fun i hi => h i (by omega))
    have h2 := h j (by omega)
    show (if j < 3 then _ else _) < _
    by_cases q : j < 3
    · rw [if_pos q]
      rcases (show j = 0 ∨ j = 1 ∨ j = 2 by omega) with e | e | e <;> subst e
      · have : numV X b 0 < 10 ^ min 0 3 := h1
        have e1 : 10 ^ min 0 3 = 1 := by decide
        have e2 : 10 ^ min (0 + 1) 3 = 10 := by decide
        omega
      · have e1 : 10 ^ min 1 3 = 10 := by decide
        have e2 : 10 ^ min (1 + 1) 3 = 100 := by decide
        omega
      · have e1 : 10 ^ min 2 3 = 100 := by decide
        have e2 : 10 ^ min (2 + 1) 3 = 1000 := by decide
        omega
    · rw [if_neg q, show min (j + 1) 3 = 3 by omega]
      rw [show min j 3 = 3 by omega] at h1
      exact h1
theorem numV_lt3 (X : Txt) (b j : Nat) (h : ∀ i, i < j → X.1 (b + i) ≤ 57) : numV X b j < 1000 := by
  have h1 := numV_lt X b j h
  rcases (show min j 3 = 0 ∨ min j 3 = 1 ∨ min j 3 = 2 ∨ min j 3 = 3 by omega) with e | e | e | e <;> rw [e] at h1 <;> omega
/-- a token is a word -/
def isW (X : Txt) (w : List Nat) (p : Nat) : Bool := decide (tkK X p = 1) && (decide (tkE X p - tkB X p = w.length) && (List.range w.length).all (fun k => decide (X.1 (tkB X p + k) = w.getD k 0)))
theorem isW_iff {X : Txt} {w : List Nat} {p : Nat} : isW X w p = true ↔ tkK X p = 1 ∧ tkE X p - tkB X p = w.length ∧ ∀ k, k < w.length → X.1 (tkB X p + k) = w.getD k 0 := by
  unfold isW
  rw [Bool.and_eq_true, Bool.and_eq_true, decide_eq_true_iff, decide_eq_true_iff, List.all_eq_true]
  exact ⟨fun h => ⟨h.1, h.2.1, fun k hk => of_decide_eq_true (h.2.2 k (List.mem_range.mpr hk))⟩, fun h => ⟨h.1, h.2.1, fun k hk => decide_eq_true (h.2.2 k (List.mem_range.mp hk))⟩⟩
theorem isW_ne {X : Txt} {a b : List Nat} {p : Nat} (h : isW X a p = true) (hab : ¬ a = b) : isW X b p = false := by
  cases hb : isW X b p with
  | false => rfl
  | true =>
    obtain ⟨-, h2, h3⟩ := isW_iff.mp h
    obtain ⟨-, h5, h6⟩ := isW_iff.mp hb
    refine absurd (List.ext_getElem (by omega) (fun k k1 k2 => ?_)) hab
    have e := (h3 k k1).symm.trans (h6 k k2)
    rw [List.getD_eq_getElem?_getD, List.getD_eq_getElem?_getD, List.getElem?_eq_getElem k1, List.getElem?_eq_getElem k2] at e
    exact e
theorem isW_K {X : Txt} {w : List Nat} {p : Nat} (h : isW X w p = true) : tkK X p = 1 := (isW_iff.mp h).1
/-- a token is a sign -/
def isS (X : Txt) (c p : Nat) : Bool := decide (tkK X p = 3 ∧ tkV X p = c)
theorem isS_iff {X : Txt} {c p : Nat} : isS X c p = true ↔ tkK X p = 3 ∧ tkV X p = c := decide_eq_true_iff
theorem isW_isS {X : Txt} {w : List Nat} {c p : Nat} (h : isW X w p = true) : isS X c p = false := by
  cases hs : isS X c p with
  | false => rfl
  | true => have h1 := isW_K h; have h2 := (isS_iff.mp hs).1; omega
theorem isS_isW {X : Txt} {w : List Nat} {c p : Nat} (h : isS X c p = true) : isW X w p = false := by
  cases hs : isW X w p with
  | false => rfl
  | true => have h1 := isW_K hs; have h2 := (isS_iff.mp h).1; omega
def wNot : List Nat := [110, 111, 116]
def wKnows : List Nat := [107, 110, 111, 119, 115]
def wSees : List Nat := [115, 101, 101, 115]
def wWas : List Nat := [119, 97, 115]
def wEven : List Nat := [101, 118, 101, 110]
def wSame : List Nat := [115, 97, 109, 101]
def wAbove : List Nat := [97, 98, 111, 118, 101]
def wOr : List Nat := [111, 114]
def wAnd : List Nat := [97, 110, 100]
def wNumbers : List Nat := [110, 117, 109, 98, 101, 114, 115]
def wTo : List Nat := [116, 111]
def wMost : List Nat := [109, 111, 115, 116]
def wUnlike : List Nat := [117, 110, 108, 105, 107, 101]
def wSpeaker : List Nat := [115, 112, 101, 97, 107, 101, 114]
def wLiar : List Nat := [108, 105, 97, 114]
def wDeaf : List Nat := [100, 101, 97, 102]
def wSay : List Nat := [115, 97, 121]
def wSum : List Nat := [115, 117, 109]
def wProduct : List Nat := [112, 114, 111, 100, 117, 99, 116]
def wGreater : List Nat := [103, 114, 101, 97, 116, 101, 114]
def wLess : List Nat := [108, 101, 115, 115]
def wDifference : List Nat := [100, 105, 102, 102, 101, 114, 101, 110, 99, 101]
def wSquares : List Nat := [115, 113, 117, 97, 114, 101, 115]
def wOdd : List Nat := [111, 100, 100]
def wDigit : List Nat := [100, 105, 103, 105, 116]
def wNothing : List Nat := [110, 111, 116, 104, 105, 110, 103]
/-- what is read: a fault (its kind, its place), or something and where one stands then -/
abbrev PR (α : Type) : Type := (Nat × Nat) ⊕ (α × Nat)
abbrev PR.no {α : Type} (k l : Nat) : PR α := Sum.inl (k, l)
abbrev PR.ok {α : Type} (a : α) (p : Nat) : PR α := Sum.inr (a, p)
theorem PR.inj {α : Type} {a b : α} {p q : Nat} (h : (PR.ok a p : PR α) = PR.ok b q) : a = b ∧ p = q := by
  injection h with h; injection h with h1 h2; exact ⟨h1, h2⟩
theorem PR.injN {α : Type} {a b p q : Nat} (h : (PR.no a p : PR α) = PR.no b q) : a = b ∧ p = q := by
  injection h with h; injection h with h1 h2; exact ⟨h1, h2⟩
theorem PR.ne {α : Type} {a : α} {p k l : Nat} (h : (PR.no k l : PR α) = PR.ok a p) : False := by cases h
def PR.bind {α β : Type} (r : PR α) (f : α → Nat → PR β) : PR β := match r with
  | Sum.inl (k, l) => PR.no k l
  | Sum.inr (a, p) => f a p
theorem PR.bind_no {α β : Type} {k l : Nat} {f : α → Nat → PR β} : PR.bind (PR.no k l) f = PR.no k l := rfl
theorem PR.bind_ok {α β : Type} {a : α} {p : Nat} {f : α → Nat → PR β} : PR.bind (PR.ok a p) f = f a p := rfl
def pWrong {α : Type} (X : Txt) (p : Nat) : PR α := PR.no (if tkK X p = 4 then 1 else 2) (tkB X p)
def pNum (X : Txt) (lo hi p : Nat) : PR Nat := if tkK X p = 2 then (if lo ≤ tkV X p ∧ tkV X p < hi then PR.ok (tkV X p) (tkE X p) else PR.no 3 (tkB X p)) else pWrong X p
def grp (g : List Sem → Sem) (acc : List Sem) : Sem := match acc with
  | [f] => f
  | _ => g acc
/-- a fact, what is within parentheses, a part and its others, a saying and its others (c: 0 .. 5); o are open -/
def pStep (X : Txt) (ns : Nat) (go : Nat → Nat → List Sem → Nat → PR Sem) (c o : Nat) (acc : List Sem) (p : Nat) : PR Sem :=
  if c = 0 then
    (if isW X wNot p = true then (if o = 8 then PR.no 5 (tkB X p) else PR.bind (go 0 (o + 1) [] (tkE X p)) fun f q => PR.ok (sNot f) q)
    else if isS X 40 p = true then go 1 o [] p
    else if isW X wKnows p = true then PR.bind (pNum X 0 ns (tkE X p)) fun s q => PR.ok (sKnows s) q
    else if isW X wSees p = true then PR.bind (pNum X 0 ns (tkE X p)) fun s q => PR.bind (go 1 o [] q) fun f r => PR.ok (sSees s f) r
    else if isW X wWas p = true then PR.bind (pNum X 0 21 (tkE X p)) fun s q => PR.bind (go 1 o [] q) fun f r => PR.ok (sWas s f) r
    else if isW X wEven p = true then PR.ok sEven (tkE X p)
    else if isW X wSame p = true then PR.ok sSame (tkE X p)
    else if isW X wAbove p = true then PR.bind (pNum X 0 121 (tkE X p)) fun s q => PR.ok (sAbove s) q
    else pWrong X p)
  else if c = 1 then
    (if isS X 40 p = true then (if o = 8 then PR.no 5 (tkB X p) else PR.bind (go 4 (o + 1) [] (tkE X p)) fun f q => if isS X 41 q = true then PR.ok f (tkE X q) else pWrong X q)
    else pWrong X p)
  else if c = 2 then PR.bind (go 0 o [] p) fun f q => go 3 o [f] q
  else if c = 3 then (if isW X wAnd p = true then PR.bind (go 0 o [] (tkE X p)) fun f q => go 3 o (acc ++ [f]) q else PR.ok (grp sAll acc) p)
  else if c = 4 then PR.bind (go 2 o [] p) fun f q => go 5 o [f] q
  else (if isW X wOr p = true then PR.bind (go 2 o [] (tkE X p)) fun f q => go 5 o (acc ++ [f]) q else PR.ok (grp sAny acc) p)
def pE (X : Txt) (ns : Nat) : Nat → Nat → Nat → List Sem → Nat → PR Sem
  | 0, _, _, _, _ => PR.no 9 0
  | n + 1, c, o, acc, p => pStep X ns (pE X ns n) c o acc p
theorem PR.bind_eq {α β : Type} {r : PR α} {f : α → Nat → PR β} {b : β} {q : Nat} (h : PR.bind r f = PR.ok b q) : ∃ a p, r = PR.ok a p ∧ f a p = PR.ok b q := by
  rcases r with ⟨k, l⟩ | ⟨a, p⟩
  · exact (PR.ne h).elim
  · exact ⟨a, p, rfl, h⟩
theorem pNum_ok {X : Txt} {lo hi p v q : Nat} (h : pNum X lo hi p = PR.ok v q) : tkK X p = 2 ∧ v = tkV X p ∧ lo ≤ v ∧ v < hi ∧ q = tkE X p := by
  unfold pNum at h
  by_cases h1 : tkK X p = 2
  · rw [if_pos h1] at h
    by_cases h2 : lo ≤ tkV X p ∧ tkV X p < hi
    · rw [if_pos h2] at h
      obtain ⟨e1, e2⟩ := PR.inj h
      subst e1; subst e2
      exact ⟨h1, rfl, h2.1, h2.2, rfl⟩
    · rw [if_neg h2] at h; exact (PR.ne h).elim
  · rw [if_neg h1] at h; exact (PR.ne h).elim
theorem pNum_go {X : Txt} {lo hi p v q : Nat} (h : pNum X lo hi p = PR.ok v q) : p < q ∧ q ≤ X.2 := by
  obtain ⟨h1, -, -, -, h5⟩ := pNum_ok h
  rw [h5]; exact tk_go (by omega)
theorem isW_go {X : Txt} {w : List Nat} {p : Nat} (h : isW X w p = true) : p < tkE X p ∧ tkE X p ≤ X.2 := tk_go (by rw [isW_K h]; decide)
theorem isS_go {X : Txt} {c p : Nat} (h : isS X c p = true) : p < tkE X p ∧ tkE X p ≤ X.2 := tk_go (by rw [(isS_iff.mp h).1]; decide)
/-- one goes on in the text -/
theorem pE_go {X : Txt} {ns : Nat} : ∀ (n c o : Nat) (acc : List Sem) (p : Nat) (f : Sem) (q : Nat), pE X ns n c o acc p = PR.ok f q → p ≤ X.2 → p ≤ q ∧ q ≤ X.2 ∧ (c = 0 ∨ c = 1 ∨ c = 2 ∨ c = 4 → p < q)
  | 0, _, _, _, _, _, _, h, _ => (PR.ne h).elim
  | n + 1, c, o, acc, p, f, q, h, hp => by
    have ih := pE_go (X := X) (ns := ns) n
    have h : pStep X ns (pE X ns n) c o acc p = PR.ok f q := h
    unfold pStep at h
    by_cases c0 : c = 0
    · subst c0
      rw [if_pos rfl] at h
      suffices hs : p < q ∧ q ≤ X.2 from ⟨by omega, hs.2, fun _ => hs.1⟩
      by_cases w0 : isW X wNot p = true
      · rw [if_pos w0] at h
        have g := isW_go w0
        by_cases o8 : o = 8
        · rw [if_pos o8] at h; exact (PR.ne h).elim
        · rw [if_neg o8] at h
          obtain ⟨f1, q1, e1, e2⟩ := PR.bind_eq h
          obtain ⟨e3, e4⟩ := PR.inj e2
          have := ih _ _ _ _ _ _ e1 g.2
          omega
      · rw [if_neg w0] at h
        by_cases w1 : isS X 40 p = true
        · rw [if_pos w1] at h
          have := ih _ _ _ _ _ _ h hp
          have := this.2.2 (by omega)
          omega
        · rw [if_neg w1] at h
          by_cases w2 : isW X wKnows p = true
          · rw [if_pos w2] at h
            have g := isW_go w2
            obtain ⟨f1, q1, e1, e2⟩ := PR.bind_eq h
            have g1 := pNum_go e1
            obtain ⟨e3, e4⟩ := PR.inj e2
            omega
          · rw [if_neg w2] at h
            by_cases w3 : isW X wSees p = true
            · rw [if_pos w3] at h
              have g := isW_go w3
              obtain ⟨f1, q1, e1, e2⟩ := PR.bind_eq h
              have g1 := pNum_go e1
              obtain ⟨f2, q2, e3, e4⟩ := PR.bind_eq e2
              have g2 := ih _ _ _ _ _ _ e3 g1.2
              obtain ⟨e5, e6⟩ := PR.inj e4
              omega
            · rw [if_neg w3] at h
              by_cases w4 : isW X wWas p = true
              · rw [if_pos w4] at h
                have g := isW_go w4
                obtain ⟨f1, q1, e1, e2⟩ := PR.bind_eq h
                have g1 := pNum_go e1
                obtain ⟨f2, q2, e3, e4⟩ := PR.bind_eq e2
                have g2 := ih _ _ _ _ _ _ e3 g1.2
                obtain ⟨e5, e6⟩ := PR.inj e4
                omega
              · rw [if_neg w4] at h
                by_cases w5 : isW X wEven p = true
                · rw [if_pos w5] at h
                  have g := isW_go w5
                  obtain ⟨e3, e4⟩ := PR.inj h
                  omega
                · rw [if_neg w5] at h
                  by_cases w6 : isW X wSame p = true
                  · rw [if_pos w6] at h
                    have g := isW_go w6
                    obtain ⟨e3, e4⟩ := PR.inj h
                    omega
                  · rw [if_neg w6] at h
                    by_cases w7 : isW X wAbove p = true
                    · rw [if_pos w7] at h
                      have g := isW_go w7
                      obtain ⟨f1, q1, e1, e2⟩ := PR.bind_eq h
                      have g1 := pNum_go e1
                      obtain ⟨e3, e4⟩ := PR.inj e2
                      omega
                    · rw [if_neg w7] at h; exact (PR.ne h).elim
    · rw [if_neg c0] at h
      by_cases c1 : c = 1
      · rw [if_pos c1] at h
        suffices hs : p < q ∧ q ≤ X.2 from ⟨by omega, hs.2, fun _ => hs.1⟩
        by_cases w1 : isS X 40 p = true
        · rw [if_pos w1] at h
          have g := isS_go w1
          by_cases o8 : o = 8
          · rw [if_pos o8] at h; exact (PR.ne h).elim
          · rw [if_neg o8] at h
            obtain ⟨f1, q1, e1, e2⟩ := PR.bind_eq h
            have g1 := ih _ _ _ _ _ _ e1 g.2
            by_cases w2 : isS X 41 q1 = true
            · rw [if_pos w2] at e2
              have g2 := isS_go w2
              obtain ⟨e3, e4⟩ := PR.inj e2
              omega
            · rw [if_neg w2] at e2; exact (PR.ne e2).elim
        · rw [if_neg w1] at h; exact (PR.ne h).elim
      · rw [if_neg c1] at h
        by_cases c2 : c = 2
        · rw [if_pos c2] at h
          obtain ⟨f1, q1, e1, e2⟩ := PR.bind_eq h
          have g1 := ih _ _ _ _ _ _ e1 hp
          have g2 := ih _ _ _ _ _ _ e2 g1.2.1
          have := g1.2.2 (by omega)
          omega
        · rw [if_neg c2] at h
          by_cases c3 : c = 3
          · rw [if_pos c3] at h
            by_cases w1 : isW X wAnd p = true
            · rw [if_pos w1] at h
              have g := isW_go w1
              obtain ⟨f1, q1, e1, e2⟩ := PR.bind_eq h
              have g1 := ih _ _ _ _ _ _ e1 g.2
              have g2 := ih _ _ _ _ _ _ e2 g1.2.1
              omega
            · rw [if_neg w1] at h
              obtain ⟨e3, e4⟩ := PR.inj h
              omega
          · rw [if_neg c3] at h
            by_cases c4 : c = 4
            · rw [if_pos c4] at h
              obtain ⟨f1, q1, e1, e2⟩ := PR.bind_eq h
              have g1 := ih _ _ _ _ _ _ e1 hp
              have g2 := ih _ _ _ _ _ _ e2 g1.2.1
              have := g1.2.2 (by omega)
              omega
            · rw [if_neg c4] at h
              by_cases w1 : isW X wOr p = true
              · rw [if_pos w1] at h
                have g := isW_go w1
                obtain ⟨f1, q1, e1, e2⟩ := PR.bind_eq h
                have g1 := ih _ _ _ _ _ _ e1 g.2
                have g2 := ih _ _ _ _ _ _ e2 g1.2.1
                omega
              · rw [if_neg w1] at h
                obtain ⟨e3, e4⟩ := PR.inj h
                omega
