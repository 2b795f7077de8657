/-! THE TEXT, 4: marks made by a reader; how many they may be -/
set_option maxRecDepth 100000
/-- marks beside one another, of a range -/
def ChB (lo hi : Nat) (say : Sem → Nat → Prop) (K : Nat → Int32) : List Sem → Int32 → Prop
  | [], p => p = -1
  | g :: gs, p => ∃ q r : Nat, (lo ≤ q ∧ q < hi) ∧ p = nI q ∧ K (66 + 4 * q + 2) = nI r ∧ say g r ∧ ChB lo hi say K gs (K (66 + 4 * q + 3))
/-- the mark m says f, by marks of a range alone -/
def SayB (nS lo hi : Nat) : Nat → Sem → Nat → (Nat → Int32) → Prop
  | 0, _, _, _ => False
  | d + 1, f, m, K => (lo ≤ m ∧ m < hi) ∧ (
    (K (66 + 4 * m + 0) = nI 6 ∧ f = sEven) ∨ (K (66 + 4 * m + 0) = nI 7 ∧ f = sSame) ∨
    (∃ a : Nat, K (66 + 4 * m + 0) = nI 8 ∧ K (66 + 4 * m + 1) = nI a ∧ a ≤ 120 ∧ f = sAbove a) ∨
    (∃ s : Nat, K (66 + 4 * m + 0) = nI 3 ∧ s < nS ∧ K (66 + 4 * m + 1) = nI s ∧ f = sKnows s) ∨
    (∃ (s p : Nat) (g : Sem), K (66 + 4 * m + 0) = nI 4 ∧ s < nS ∧ K (66 + 4 * m + 1) = nI s ∧ K (66 + 4 * m + 2) = nI p ∧ SayB nS lo hi d g p K ∧ f = sSees s g) ∨
    (∃ (a p : Nat) (g : Sem), K (66 + 4 * m + 0) = nI 5 ∧ a ≤ 20 ∧ K (66 + 4 * m + 1) = nI a ∧ K (66 + 4 * m + 2) = nI p ∧ SayB nS lo hi d g p K ∧ f = sWas a g) ∨
    (∃ (p : Nat) (g : Sem), K (66 + 4 * m + 0) = nI 2 ∧ K (66 + 4 * m + 2) = nI p ∧ SayB nS lo hi d g p K ∧ f = sNot g) ∨
    (∃ gs : List Sem, K (66 + 4 * m + 0) = nI 0 ∧ ChB lo hi (fun g r => SayB nS lo hi d g r K) K gs (K (66 + 4 * m + 2)) ∧ f = sAny gs) ∨
    (∃ gs : List Sem, K (66 + 4 * m + 0) = nI 1 ∧ ChB lo hi (fun g r => SayB nS lo hi d g r K) K gs (K (66 + 4 * m + 2)) ∧ f = sAll gs))
theorem ChB.up {lo hi lo2 hi2 : Nat} {say say2 : Sem → Nat → Prop} {K K2 : Nat → Int32} (h1 : lo2 ≤ lo) (h2 : hi ≤ hi2) (hs : ∀ g r, say g r → say2 g r) (hK : ∀ j, 66 + 4 * lo ≤ j → j < 66 + 4 * hi → K2 j = K j) : ∀ (gs : List Sem) (p : Int32), ChB lo hi say K gs p → ChB lo2 hi2 say2 K2 gs p
  | [], _, h => h
  | g :: gs, p, h => by
    obtain ⟨q, r, ⟨a1, a2⟩, a3, a4, a5, a6⟩ := h
    exact ⟨q, r, ⟨by omega, by omega⟩, a3, by rw [hK _ (by omega) (by omega)]; exact a4, hs _ _ a5, by rw [hK _ (by omega) (by omega)]; exact ChB.up h1 h2 hs hK gs _ a6⟩
theorem SayB.up {nS nS2 lo hi lo2 hi2 : Nat} {K K2 : Nat → Int32} (hn : nS ≤ nS2) (h1 : lo2 ≤ lo) (h2 : hi ≤ hi2) (hK : ∀ j, 66 + 4 * lo ≤ j → j < 66 + 4 * hi → K2 j = K j) : ∀ (d d2 : Nat) (f : Sem) (m : Nat), d ≤ d2 → SayB nS lo hi d f m K → SayB nS2 lo2 hi2 d2 f m K2
  | 0, _, _, _, _, h => h.elim
  | d + 1, 0, _, _, hd, _ => absurd hd (Nat.not_succ_le_zero d)
  | d + 1, d2 + 1, f, m, hd, h => by
    obtain ⟨⟨a1, a2⟩, h⟩ := h
    have e : ∀ i, i < 4 → K2 (66 + 4 * m + i) = K (66 + 4 * m + i) := fun i hi => hK _ (by omega) (by omega)
    have ih := SayB.up (K := K) (K2 := K2) hn h1 h2 hK d d2
    refine ⟨⟨by omega, by omega⟩, ?_⟩
    rw [e 0 (by decide), e 1 (by decide), e 2 (by decide)]
    rcases h with h | h | h | ⟨s, b1, b2, b3, b4⟩ | ⟨s, p, g, b1, b2, b3, b4, b5, b6⟩ | ⟨a, p, g, b1, b2, b3, b4, b5, b6⟩ | ⟨p, g, b1, b2, b3, b4⟩ | ⟨gs, b1, b2, b3⟩ | ⟨gs, b1, b2, b3⟩
    · exact Or.inl h
    · exact Or.inr (Or.inl h)
    · exact Or.inr (Or.inr (Or.inl h))
    · exact Or.inr (Or.inr (Or.inr (Or.inl ⟨s, b1, by omega, b3, b4⟩)))
    · exact Or.inr (Or.inr (Or.inr (Or.inr (Or.inl ⟨s, p, g, b1, by omega, b3, b4, ih _ _ (by omega) b5, b6⟩))))
    · exact Or.inr (Or.inr (Or.inr (Or.inr (Or.inr (Or.inl ⟨a, p, g, b1, b2, b3, b4, ih _ _ (by omega) b5, b6⟩)))))
    · exact Or.inr (Or.inr (Or.inr (Or.inr (Or.inr (Or.inr (Or.inl ⟨p, g, b1, b2, ih _ _ (by omega) b3, b4⟩))))))
    · exact Or.inr (Or.inr (Or.inr (Or.inr (Or.inr (Or.inr (Or.inr (Or.inl ⟨gs, b1, ChB.up h1 h2 (fun g r q => ih g r (by omega) q) hK gs _ b2, b3⟩)))))))
    · exact Or.inr (Or.inr (Or.inr (Or.inr (Or.inr (Or.inr (Or.inr (Or.inr ⟨gs, b1, ChB.up h1 h2 (fun g r q => ih g r (by omega) q) hK gs _ b2, b3⟩)))))))
theorem ChB.toM {lo hi : Nat} {say say2 : Sem → Nat → Prop} {K : Nat → Int32} (h2 : hi ≤ 450) (hs : ∀ g r, say g r → say2 g r) : ∀ (gs : List Sem) (p : Int32), ChB lo hi say K gs p → ChM say2 K gs p
  | [], _, h => h
  | g :: gs, p, h => by
    obtain ⟨q, r, ⟨a1, a2⟩, a3, a4, a5, a6⟩ := h
    exact ⟨q, r, by omega, a3, a4, hs _ _ a5, ChB.toM h2 hs gs _ a6⟩
theorem SayB.toM {nS lo hi : Nat} {K : Nat → Int32} (h2 : hi ≤ 450) : ∀ (d : Nat) (f : Sem) (m : Nat), SayB nS lo hi d f m K → SayM nS d f m K
  | 0, _, _, h => h.elim
  | d + 1, f, m, h => by
    obtain ⟨⟨a1, a2⟩, h⟩ := h
    have ih := SayB.toM (K := K) (nS := nS) (lo := lo) h2 d
    refine ⟨by omega, ?_⟩
    rcases h with h | h | h | h | ⟨s, p, g, b1, b2, b3, b4, b5, b6⟩ | ⟨a, p, g, b1, b2, b3, b4, b5, b6⟩ | ⟨p, g, b1, b2, b3, b4⟩ | ⟨gs, b1, b2, b3⟩ | ⟨gs, b1, b2, b3⟩
    · exact Or.inl h
    · exact Or.inr (Or.inl h)
    · exact Or.inr (Or.inr (Or.inl h))
    · exact Or.inr (Or.inr (Or.inr (Or.inl h)))
    · exact Or.inr (Or.inr (Or.inr (Or.inr (Or.inl ⟨s, p, g, b1, by omega, b3, b4, ih _ _ b5, b6⟩))))
    · exact Or.inr (Or.inr (Or.inr (Or.inr (Or.inr (Or.inl ⟨a, p, g, b1, b2, b3, b4, ih _ _ b5, b6⟩)))))
    · exact Or.inr (Or.inr (Or.inr (Or.inr (Or.inr (Or.inr (Or.inl ⟨p, g, b1, b2, ih _ _ b3, b4⟩))))))
    · exact Or.inr (Or.inr (Or.inr (Or.inr (Or.inr (Or.inr (Or.inr (Or.inl ⟨gs, b1, ChB.toM h2 (fun g r q => ih g r q) gs _ b2, b3⟩)))))))
    · exact Or.inr (Or.inr (Or.inr (Or.inr (Or.inr (Or.inr (Or.inr (Or.inr ⟨gs, b1, ChB.toM h2 (fun g r q => ih g r q) gs _ b2, b3⟩)))))))
/-- marks that are being strung: the first, the last -/
def ChL (lo : Nat) (say : Sem → Nat → Prop) (K : Nat → Int32) : List Sem → Nat → Nat → Prop
  | [], _, _ => False
  | g :: gs, q, last => lo ≤ q ∧ q ≤ last ∧ (∃ r : Nat, K (66 + 4 * q + 2) = nI r ∧ say g r) ∧ ((gs = [] ∧ q = last ∧ K (66 + 4 * q + 3) = -1) ∨ (q < last ∧ ∃ q2 : Nat, K (66 + 4 * q + 3) = nI q2 ∧ ChL lo say K gs q2 last))
theorem ChL.snoc {nS lo d last next r : Nat} {K K2 : Nat → Int32} {g : Sem} (hlt : last < next) (hK : ∀ j, 66 + 4 * lo ≤ j → j < 66 + 4 * last + 3 → K2 j = K j) (hl : K2 (66 + 4 * last + 3) = nI next) (h2 : K2 (66 + 4 * next + 2) = nI r) (h3 : K2 (66 + 4 * next + 3) = -1) (hg : SayB nS lo next d g r K2) : ∀ (gs : List Sem) (q : Nat), ChL lo (fun f m => SayB nS lo last d f m K) K gs q last → ChL lo (fun f m => SayB nS lo next d f m K2) K2 (gs ++ [g]) q next
  | [], _, h => h.elim
  | x :: gs, q, h => by
    obtain ⟨a1, a2, ⟨r1, a3, a4⟩, a5⟩ := h
    refine ⟨a1, by omega, ⟨r1, by rw [hK _ (by omega) (by omega)]; exact a3, SayB.up (Nat.le_refl _) (Nat.le_refl _) (by omega) (fun j j1 j2 => hK j j1 (by omega)) _ _ _ _ (Nat.le_refl _) a4⟩, Or.inr ⟨by omega, ?_⟩⟩
    rcases a5 with ⟨rfl, rfl, a6⟩ | ⟨a6, q2, a7, a8⟩
    · exact ⟨next, hl, ⟨by omega, Nat.le_refl _, ⟨r, h2, hg⟩, Or.inl ⟨rfl, rfl, h3⟩⟩⟩
    · exact ⟨q2, by rw [hK _ (by omega) (by omega)]; exact a7, ChL.snoc hlt hK hl h2 h3 hg gs q2 a8⟩
theorem ChL.toB {lo last hi : Nat} {say : Sem → Nat → Prop} {K : Nat → Int32} (hh : last < hi) : ∀ (gs : List Sem) (q : Nat), ChL lo say K gs q last → ChB lo hi say K gs (nI q)
  | [], _, h => h.elim
  | x :: gs, q, h => by
    obtain ⟨a1, a2, ⟨r1, a3, a4⟩, a5⟩ := h
    refine ⟨q, r1, ⟨a1, by omega⟩, rfl, a3, a4, ?_⟩
    rcases a5 with ⟨rfl, rfl, a6⟩ | ⟨a6, q2, a7, a8⟩
    · exact a6
    · rw [a7]; exact ChL.toB hh gs q2 a8
theorem ChL.up {lo last : Nat} {say say2 : Sem → Nat → Prop} {K K2 : Nat → Int32} (hs : ∀ g r, say g r → say2 g r) (hK : ∀ j, 66 + 4 * lo ≤ j → j < 66 + 4 * (last + 1) → K2 j = K j) : ∀ (gs : List Sem) (q : Nat), ChL lo say K gs q last → ChL lo say2 K2 gs q last
  | [], _, h => h.elim
  | x :: gs, q, h => by
    obtain ⟨a1, a2, ⟨r1, a3, a4⟩, a5⟩ := h
    refine ⟨a1, a2, ⟨r1, by rw [hK _ (by omega) (by omega)]; exact a3, hs _ _ a4⟩, ?_⟩
    rcases a5 with ⟨b1, b2, b3⟩ | ⟨a6, q2, a7, a8⟩
    · exact Or.inl ⟨b1, b2, by rw [hK _ (by omega) (by omega)]; exact b3⟩
    · exact Or.inr ⟨a6, q2, by rw [hK _ (by omega) (by omega)]; exact a7, ChL.up hs hK gs q2 a8⟩
/-! marks made -/
theorem mkM_o {g : Nat → Int32} {M kd nb : Nat} {pt : Int32} {j : Nat} (h : ¬ j = 7) (h2 : j < 66 + 4 * M ∨ 66 + 4 * M + 4 ≤ j) : mkM g M kd nb pt j = g j := by
  unfold mkM; rw [up_n h, up_n (by omega), up_n (by omega), up_n (by omega), up_n (by omega)]
theorem mkM_7 {g : Nat → Int32} {M kd nb : Nat} {pt : Int32} : mkM g M kd nb pt 7 = nI (M + 1) := up_s _ _ _
theorem mkM_0 {g : Nat → Int32} {M kd nb : Nat} {pt : Int32} : mkM g M kd nb pt (66 + 4 * M + 0) = nI kd := by
  unfold mkM; rw [up_n (by omega), up_n (by omega), up_n (by omega), up_n (by omega)]; exact up_s _ _ _
theorem mkM_1 {g : Nat → Int32} {M kd nb : Nat} {pt : Int32} : mkM g M kd nb pt (66 + 4 * M + 1) = nI nb := by
  unfold mkM; rw [up_n (by omega), up_n (by omega), up_n (by omega)]; exact up_s _ _ _
theorem mkM_2 {g : Nat → Int32} {M kd nb : Nat} {pt : Int32} : mkM g M kd nb pt (66 + 4 * M + 2) = pt := by
  unfold mkM; rw [up_n (by omega), up_n (by omega)]; exact up_s _ _ _
theorem mkM_3 {g : Nat → Int32} {M kd nb : Nat} {pt : Int32} : mkM g M kd nb pt (66 + 4 * M + 3) = -1 := by
  unfold mkM; rw [up_n (by omega)]; exact up_s _ _ _
/-! how far: a word's end counts one more -/
def phi (X : Txt) (p : Nat) : Nat := p + if 1 ≤ p ∧ isLet (X.1 (p - 1)) = true then 1 else 0
/-- a place between tokens -/
def bnd (X : Txt) (p : Nat) : Prop := ¬ ((1 ≤ p ∧ isLet (X.1 (p - 1)) = true) ∧ p < X.2 ∧ isLet (X.1 p) = true)
theorem phi_le (X : Txt) (p : Nat) : p ≤ phi X p ∧ phi X p ≤ p + 1 := by unfold phi; split <;> omega
theorem bnd_0 (X : Txt) : bnd X 0 := fun h => absurd h.1.1 (by decide)
theorem bnd_E {X : Txt} {p : Nat} (h : ¬ tkK X p = 0) : bnd X (tkE X p) := by
  intro q
  have h0 := tkK_0 h
  have hE : tkE X p = if isLet (X.1 (tkB X p)) = true then run isLet X (tkB X p) else if isDig (X.1 (tkB X p)) = true then run isDig X (tkB X p) else tkB X p + 1 := by
    unfold tkE; rw [if_neg (by omega)]
  have hg := tkE_gt h0
  by_cases h1 : isLet (X.1 (tkB X p)) = true
  · rw [if_pos h1] at hE
    have := run_stop isLet X (tkB X p)
    rw [← hE] at this
    exact this q.2
  · rw [if_neg h1] at hE
    have hlast : ∀ c, isLet c = true → isDig c = true → False := fun c c1 c2 => by have := isLet_iff.mp c1; have := isDig_iff.mp c2; omega
    by_cases h2 : isDig (X.1 (tkB X p)) = true
    · rw [if_pos h2] at hE
      have := run_in (P := isDig) (X := X) (p := tkB X p) (j := tkE X p - 1) (by omega) (by omega)
      exact hlast _ q.1.2 this.2
    · rw [if_neg h2] at hE
      have e := q.1.2
      rw [hE, Nat.add_sub_cancel] at e
      exact h1 e
theorem phi_any {X : Txt} {p : Nat} (h : ¬ tkK X p = 0) : phi X p ≤ phi X (tkE X p) := by
  have h1 := tk_go h
  have h2 := phi_le X p
  have h3 := phi_le X (tkE X p)
  omega
theorem phi_word {X : Txt} {p : Nat} (hb : bnd X p) (h : tkK X p = 1) : phi X p + (tkE X p - tkB X p) + 1 ≤ phi X (tkE X p) := by
  obtain ⟨h0, hl⟩ := tkK_word.mp h
  have hE : tkE X p = run isLet X (tkB X p) := by unfold tkE; rw [if_neg (by omega), if_pos hl]
  have hg := tkE_gt h0
  have hlast := run_in (P := isLet) (X := X) (p := tkB X p) (j := tkE X p - 1) (by omega) (by omega)
  have e1 : phi X (tkE X p) = tkE X p + 1 := by unfold phi; rw [if_pos ⟨by omega, hlast.2⟩]
  have hge := tkB_ge X p
  by_cases q : 1 ≤ p ∧ isLet (X.1 (p - 1)) = true
  · have e2 : phi X p = p + 1 := by unfold phi; rw [if_pos q]
    have : ¬ p = tkB X p := fun e => hb ⟨q, by omega, by rw [← e] at hl; exact hl⟩
    omega
  · have e2 : phi X p = p := by unfold phi; rw [if_neg q]; rfl
    omega
theorem phi_W {X : Txt} {w : List Nat} {p : Nat} (hb : bnd X p) (h : isW X w p = true) : phi X p + w.length + 1 ≤ phi X (tkE X p) := by
  have h1 := phi_word hb (isW_K h)
  have h2 := (isW_iff.mp h).2.1
  omega
theorem bnd_W {X : Txt} {w : List Nat} {p : Nat} (h : isW X w p = true) : bnd X (tkE X p) := bnd_E (by rw [isW_K h]; decide)
theorem bnd_S {X : Txt} {c p : Nat} (h : isS X c p = true) : bnd X (tkE X p) := bnd_E (by rw [(isS_iff.mp h).1]; decide)
theorem phi_S {X : Txt} {c p : Nat} (h : isS X c p = true) : phi X p ≤ phi X (tkE X p) := phi_any (by rw [(isS_iff.mp h).1]; decide)
theorem pNum_phi {X : Txt} {lo hi p v q : Nat} (h : pNum X lo hi p = PR.ok v q) : bnd X q ∧ phi X p ≤ phi X q := by
  obtain ⟨h1, -, -, -, h5⟩ := pNum_ok h
  rw [h5]
  exact ⟨bnd_E (by omega), phi_any (by omega)⟩
/-- what a reader has read: marks, and how far it is -/
def RdE (X : Txt) (ns d M p : Nat) (r : PR Sem) (fr fr2 : Nat → Int32) (v : Int32) : Prop := ∀ (f : Sem) (q : Nat), r = PR.ok f q → ∃ M2 m : Nat, M ≤ M2 ∧ v = nI m ∧ fr2 7 = nI M2 ∧ SayB ns M M2 d f m fr2 ∧ 2 * M2 + 3 + phi X p ≤ 2 * M + phi X q ∧ bnd X q ∧ ∀ j, ¬ j = 7 → j < 66 + 4 * M → fr2 j = fr j
theorem RdE.no {X : Txt} {ns d M p k l : Nat} {r : PR Sem} {fr fr2 : Nat → Int32} {v : Int32} (h : r = PR.no k l) : RdE X ns d M p r fr fr2 v := fun f q e => by rw [h] at e; exact (PR.ne e).elim
