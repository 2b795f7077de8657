/-! THE TEXT, 3: a reader's place -/
set_option maxRecDepth 100000
theorem isLet_t {c : Nat} (h : 97 ≤ c) (h2 : c ≤ 122) : nI 1 = bI (isLet c) := by rw [isLet_iff.mpr ⟨h, h2⟩]; rfl
theorem isLet_f {c : Nat} (h : ¬ (97 ≤ c ∧ c ≤ 122)) : nI 0 = bI (isLet c) := by
  rw [show isLet c = false from decide_eq_false h]; rfl
theorem isDig_t {c : Nat} (h : 48 ≤ c) (h2 : c ≤ 57) : nI 1 = bI (isDig c) := by rw [isDig_iff.mpr ⟨h, h2⟩]; rfl
theorem isDig_f {c : Nat} (h : ¬ (48 ≤ c ∧ c ≤ 57)) : nI 0 = bI (isDig c) := by
  rw [show isDig c = false from decide_eq_false h]; rfl
theorem seeP_t {P : Nat → Bool} {f : Nat → Nat} {s k : Nat} (h0 : P 0 = false) (h : P (if k < s then f k else 0) = true) : k < s ∧ P (f k) = true := by
  by_cases q : k < s
  · rw [if_pos q] at h; exact ⟨q, h⟩
  · rw [if_neg q, h0] at h; cases h
theorem seeP_f {P : Nat → Bool} {f : Nat → Nat} {s k : Nat} (h : P (if k < s then f k else 0) = false) : ¬ (k < s ∧ P (f k) = true) := by
  intro q
  rw [if_pos q.1, q.2] at h; cases h
/-- where a reader stands: it has read the token from p on -/
def RdP (X : Txt) (p a b t v : Nat) : Prop := a = tkE X p ∧ b = tkB X p ∧ t = tkK X p ∧ (t = 2 ∨ t = 3 → v = tkV X p) ∧ v < 1000
theorem rd_end {X : Txt} {p k v : Nat} (hb : tkB X p = k) (h : X.2 ≤ k) (hv : v < 1000) : RdP X p k k 0 v := by
  subst hb
  refine ⟨?_, rfl, ?_, fun q => by omega, hv⟩
  · unfold tkE; rw [if_pos h]
  · unfold tkK; rw [if_pos h]
theorem rd_word {X : Txt} {p b k v : Nat} (hb : tkB X p = b) (h : b < X.2) (hl : isLet (X.1 b) = true) (hk : run isLet X b = k) (hv : v < 1000) : RdP X p k b 1 v := by
  subst hb; subst hk
  refine ⟨?_, rfl, (tkK_word.mpr ⟨h, hl⟩).symm, fun q => by omega, hv⟩
  unfold tkE; rw [if_neg (by omega), if_pos hl]
theorem rd_num {X : Txt} {p b k v : Nat} (hb : tkB X p = b) (h : b < X.2) (hl : isLet (X.1 b) = false) (hd : isDig (X.1 b) = true) (hk : run isDig X b = k) (hn : v = numV X b (k - b)) (hv : v < 1000) (t : Nat) (ht : t = if 3 < k - b then 4 else 2) : RdP X p k b t v := by
  subst hb; subst hk
  have hE : tkE X p = run isDig X (tkB X p) := by unfold tkE; rw [if_neg (by omega), if_neg (by rw [hl]; decide), if_pos hd]
  refine ⟨hE.symm, rfl, ?_, fun _ => ?_, hv⟩
  · refine ht.trans (Eq.symm ?_); unfold tkK; rw [if_neg (by omega), if_neg (by rw [hl]; decide), if_pos hd]
  · unfold tkV; rw [if_pos hd, hE]; exact hn
theorem rd_sign {X : Txt} {p b v : Nat} (hb : tkB X p = b) (h : b < X.2) (hl : isLet (X.1 b) = false) (hd : isDig (X.1 b) = false) (hn : v = X.1 b) (hv : v < 1000) (t : Nat) (ht : t = if isSg v = true then 3 else 4) : RdP X p (b + 1) b t v := by
  subst hb; subst hn
  have hE : tkE X p = tkB X p + 1 := by unfold tkE; rw [if_neg (by omega), if_neg (by rw [hl]; decide), if_neg (by rw [hd]; decide)]
  refine ⟨hE.symm, rfl, ?_, fun _ => ?_, hv⟩
  · refine ht.trans (Eq.symm ?_); unfold tkK; rw [if_neg (by omega), if_neg (by rw [hl]; decide), if_neg (by rw [hd]; decide)]
  · unfold tkV; rw [if_neg (by rw [hd]; decide)]
theorem isSg_t {c : Nat} (h : c = 59 ∨ c = 40 ∨ c = 41) : 3 = if isSg c = true then 3 else 4 := by rw [show isSg c = true from decide_eq_true h]; rfl
theorem isSg_f {c : Nat} (h : ¬ (c = 59 ∨ c = 40 ∨ c = 41)) : 4 = if isSg c = true then 3 else 4 := by rw [show isSg c = false from decide_eq_false h]; rfl
theorem RdP.t4 {X : Txt} {p a b t v : Nat} (h : RdP X p a b t v) : t ≤ 4 := by rw [h.2.2.1]; exact tkK_le X p
theorem tkE_le {X : Txt} {p : Nat} (hp : p ≤ X.2) : tkE X p ≤ X.2 := by
  by_cases h : X.2 ≤ tkB X p
  · unfold tkE; rw [if_pos h]; exact tkB_le hp
  · exact (tkE_gt (by omega)).2
theorem tkB_E (X : Txt) (p : Nat) : tkB X p ≤ tkE X p := by
  by_cases h : X.2 ≤ tkB X p
  · unfold tkE; rw [if_pos h]; exact Nat.le_refl _
  · have := tkE_gt (X := X) (p := p) (by omega); omega
theorem RdP.le {X : Txt} {p a b t v : Nat} (h : RdP X p a b t v) (hp : p ≤ X.2) : a ≤ X.2 ∧ b ≤ a := by
  rw [h.1, h.2.1]; exact ⟨tkE_le hp, tkB_E X p⟩
/-- behind a step of a reader -/
def RdR {α : Type} (X : Txt) (r : PR α) (a b t v bd bp : Nat) : Prop := t ≤ 4 ∧ v < 1000 ∧ match r with
  | Sum.inl (k, l) => bd = k ∧ bp = l ∧ 0 < bd ∧ bd < 10
  | Sum.inr (_, q) => bd = 0 ∧ RdP X q a b t v ∧ q ≤ X.2
theorem RdR.no {α : Type} {X : Txt} {a b t v bd bp k l : Nat} {r : PR α} (e : r = PR.no k l) (h : t ≤ 4) (h2 : v < 1000) (h3 : bd = k) (h4 : bp = l) (h5 : 0 < bd ∧ bd < 10) : RdR X r a b t v bd bp := by
  subst e; exact ⟨h, h2, h3, h4, h5⟩
theorem RdR.ok {α : Type} {X : Txt} {a b t v bp q : Nat} {x : α} {r : PR α} (e : r = PR.ok x q) (h : RdP X q a b t v) (h2 : q ≤ X.2) : RdR X r a b t v 0 bp := by
  subst e; exact ⟨h.t4, h.2.2.2.2, rfl, h, h2⟩
theorem RdR.isno {α : Type} {X : Txt} {a b t v bd bp k l : Nat} {r : PR α} (h : RdR X r a b t v bd bp) (e : r = PR.no k l) : t ≤ 4 ∧ v < 1000 ∧ bd = k ∧ bp = l ∧ 0 < bd ∧ bd < 10 := by
  subst e; exact h
theorem RdR.isok {α : Type} {X : Txt} {a b t v bd bp q : Nat} {x : α} {r : PR α} (h : RdR X r a b t v bd bp) (e : r = PR.ok x q) : bd = 0 ∧ RdP X q a b t v ∧ q ≤ X.2 := by
  subst e; exact h.2.2
/-- a step of a reader that answers nothing: a sign -/
def pSgn (X : Txt) (c p : Nat) : PR Unit := if isS X c p = true then PR.ok () (tkE X p) else pWrong X p
theorem pWrong_R {α : Type} {X : Txt} {p a b t v bd bp : Nat} {r : PR α} (h : RdP X p a b t v) (e : r = pWrong X p) (h3 : bd = if t = 4 then 1 else 2) (h4 : bp = b) : RdR X r a b t v bd bp := by
  refine RdR.no e h.t4 h.2.2.2.2 (by rw [h3, h.2.2.1]) (by rw [h4, h.2.1]) ?_
  rw [h3]; split <;> decide
/-- a text of the tables is a word -/
def isWd (q : String × Nat × String × Nat × List Int32) (w : List Nat) : Prop := q.2.2.2.1 = w.length ∧ w.length < 100 ∧ ∀ k, k < w.length → q.2.2.2.2.getD k 0 = nI (w.getD k 0) ∧ w.getD k 0 < 128
theorem isW_f1 {X : Txt} {w : List Nat} {p : Nat} (h : ¬ tkK X p = 1) : isW X w p = false := by
  cases q : isW X w p with
  | false => rfl
  | true => exact absurd (isW_K q) h
theorem isW_f2 {X : Txt} {w : List Nat} {p : Nat} (h : ¬ tkE X p - tkB X p = w.length) : isW X w p = false := by
  cases q : isW X w p with
  | false => rfl
  | true => exact absurd (isW_iff.mp q).2.1 h
theorem isW_f3 {X : Txt} {w : List Nat} {p k : Nat} (hk : k < w.length) (h : ¬ X.1 (tkB X p + k) = w.getD k 0) : isW X w p = false := by
  cases q : isW X w p with
  | false => rfl
  | true => exact absurd ((isW_iff.mp q).2.2 k hk) h
theorem wIn_num {v lo hi : Nat} (hv : v < 2 ^ 31) (hl : lo < 2 ^ 31) (hh : hi < 2 ^ 31) : wIn (lN v) (lN lo) (nI hi - nI 1).toInt64 = decide (lo ≤ v ∧ v < hi) := by
  have e : (nI hi - nI 1).toInt64.toInt = (hi : Int) - 1 := by
    rw [i2l_int]
    rcases Nat.eq_zero_or_pos hi with h | h
    · subst h; decide +kernel
    · rw [pk_sub h, nI_toInt (by omega)]; omega
  unfold wIn
  rw [e, lN_toInt hv, lN_toInt hl]
  exact decide_eq_decide.mpr ⟨fun q => by omega, fun q => by omega⟩
