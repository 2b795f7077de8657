/-! THE TEXT, 5: a talk that is being read -/
set_option maxRecDepth 100000
def LInv (X : Txt) (T : Talk) (M p : Nat) (fr : Nat → Int32) : Prop := TOK T ∧ tLines T ≤ p ∧ 2 * M ≤ phi X p ∧ bnd X p ∧
  (fr 0 = nI (tLines T) ∧ fr 1 = nI (tLow T) ∧ fr 2 = nI (tHigh T) ∧ fr 3 = nI (tMost T) ∧ fr 4 = nI (tUn T) ∧ fr 5 = nI (tNS T) ∧ fr 6 = nI (tNT T) ∧ fr 7 = nI M) ∧
  (∀ s, s < tNS T → fr (8 + 3 * s + 0) = nI (tKind T s) ∧ fr (8 + 3 * s + 1) = bI (tLiar T s) ∧ fr (8 + 3 * s + 2) = bI (tDeaf T s)) ∧
  ∀ t, t < tNT T → fr (26 + 2 * t) = nI (tWho T t) ∧ ∃ m : Nat, fr (26 + 2 * t + 1) = nI m ∧ SayB (tNS T) 0 M 40 (tSem T t) m fr
theorem LInv.K {X : Txt} {T : Talk} {M p : Nat} {fr : Nat → Int32} (h : LInv X T M p fr) (hp : p ≤ 900) : KIs fr T := by
  obtain ⟨h1, h2, h3, h4, ⟨a0, a1, a2, a3, a4, a5, a6, a7⟩, h6, h7⟩ := h
  have := phi_le X p
  exact ⟨h1, a0, a1, a2, a3, a4, a5, a6, h6, fun t ht => ⟨(h7 t ht).1, (h7 t ht).2.elim fun m hm => ⟨m, hm.1, SayB.toM (by omega) _ _ _ hm.2⟩⟩⟩
theorem LInv.go {X : Txt} {T : Talk} {M p z : Nat} {fr : Nat → Int32} (h : LInv X T M p fr) (hp : p ≤ z) (hf : phi X p ≤ phi X z) (hb : bnd X z) : LInv X T M z fr := by
  obtain ⟨h1, h2, h3, h4, h5, h6, h7⟩ := h
  exact ⟨h1, by omega, by omega, hb, h5, h6, h7⟩
theorem SayB.low {nS lo hi d m : Nat} {f : Sem} {K K2 : Nat → Int32} (h : SayB nS lo hi d f m K) (hK : ∀ j, 66 ≤ j → K2 j = K j) : SayB nS lo hi d f m K2 :=
  SayB.up (Nat.le_refl _) (Nat.le_refl _) (Nat.le_refl _) (fun j h1 _ => hK j (by omega)) _ _ _ _ (Nat.le_refl _) h
theorem LInv.nums {X : Txt} {T : Talk} {M p lo hi : Nat} {fr : Nat → Int32} (h : LInv X T M p fr) (h1 : 1 ≤ lo ∧ lo ≤ 60) (h2 : hi ≤ 60) : LInv X (tNums T lo hi) M p (up (up fr 1 (nI lo)) 2 (nI hi)) := by
  obtain ⟨⟨o1, o2, o3, o4, o5, o6, o7, o8, o9, o10⟩, b2, b3, b4, ⟨a0, a1, a2, a3, a4, a5, a6, a7⟩, h6, h7⟩ := h
  have e : ∀ j, 3 ≤ j → up (up fr 1 (nI lo)) 2 (nI hi) j = fr j := fun j hj => by rw [up_n (by omega), up_n (by omega)]
  refine ⟨⟨h1.1, h1.2, h2, o4, o5, o6, o7, o8, o9, o10⟩, b2, b3, b4, ⟨by rw [up_n (by decide), up_n (by decide)]; exact a0, by rw [up_n (by decide), up_s]; rfl, up_s _ _ _, (e 3 (by decide)).trans a3, (e 4 (by decide)).trans a4, (e 5 (by decide)).trans a5, (e 6 (by decide)).trans a6, (e 7 (by decide)).trans a7⟩, fun s hs => ?_, fun t ht => ?_⟩
  · rw [e _ (by omega), e _ (by omega), e _ (by omega)]; exact h6 s hs
  · rw [e _ (by omega), e _ (by omega)]
    obtain ⟨c1, m, c2, c3⟩ := h7 t ht
    exact ⟨c1, m, c2, c3.low (fun j hj => e j (by omega))⟩
theorem LInv.most {X : Txt} {T : Talk} {M p v : Nat} {fr : Nat → Int32} (h : LInv X T M p fr) (h1 : v ≤ 120) : LInv X (tMostTo T v) M p (up fr 3 (nI v)) := by
  obtain ⟨⟨o1, o2, o3, o4, o5, o6, o7, o8, o9, o10⟩, b2, b3, b4, ⟨a0, a1, a2, a3, a4, a5, a6, a7⟩, h6, h7⟩ := h
  have e : ∀ j, ¬ j = 3 → up fr 3 (nI v) j = fr j := fun j hj => up_n hj
  refine ⟨⟨o1, o2, o3, h1, o5, o6, o7, o8, o9, o10⟩, b2, b3, b4, ⟨(e 0 (by decide)).trans a0, (e 1 (by decide)).trans a1, (e 2 (by decide)).trans a2, up_s _ _ _, (e 4 (by decide)).trans a4, (e 5 (by decide)).trans a5, (e 6 (by decide)).trans a6, (e 7 (by decide)).trans a7⟩, fun s hs => ?_, fun t ht => ?_⟩
  · rw [e _ (by omega), e _ (by omega), e _ (by omega)]; exact h6 s hs
  · rw [e _ (by omega), e _ (by omega)]
    obtain ⟨c1, m, c2, c3⟩ := h7 t ht
    exact ⟨c1, m, c2, c3.low (fun j hj => e j (by omega))⟩
theorem LInv.un {X : Txt} {T : Talk} {M p : Nat} {fr : Nat → Int32} (h : LInv X T M p fr) : LInv X (tUnTo T) M p (up fr 4 (nI 1)) := by
  obtain ⟨⟨o1, o2, o3, o4, o5, o6, o7, o8, o9, o10⟩, b2, b3, b4, ⟨a0, a1, a2, a3, a4, a5, a6, a7⟩, h6, h7⟩ := h
  have e : ∀ j, ¬ j = 4 → up fr 4 (nI 1) j = fr j := fun j hj => up_n hj
  refine ⟨⟨o1, o2, o3, o4, Nat.le_refl _, o6, o7, o8, o9, o10⟩, b2, b3, b4, ⟨(e 0 (by decide)).trans a0, (e 1 (by decide)).trans a1, (e 2 (by decide)).trans a2, (e 3 (by decide)).trans a3, up_s _ _ _, (e 5 (by decide)).trans a5, (e 6 (by decide)).trans a6, (e 7 (by decide)).trans a7⟩, fun s hs => ?_, fun t ht => ?_⟩
  · rw [e _ (by omega), e _ (by omega), e _ (by omega)]; exact h6 s hs
  · rw [e _ (by omega), e _ (by omega)]
    obtain ⟨c1, m, c2, c3⟩ := h7 t ht
    exact ⟨c1, m, c2, c3.low (fun j hj => e j (by omega))⟩
theorem LInv.line {X : Txt} {T : Talk} {M p : Nat} {fr : Nat → Int32} (h : LInv X T M p fr) (h1 : tLines T + 1 ≤ p) (hp : p ≤ 900) : LInv X (tLine T) M p (up fr 0 (nI (tLines T + 1))) := by
  obtain ⟨⟨o1, o2, o3, o4, o5, o6, o7, o8, o9, o10⟩, b2, b3, b4, ⟨a0, a1, a2, a3, a4, a5, a6, a7⟩, h6, h7⟩ := h
  have e : ∀ j, ¬ j = 0 → up fr 0 (nI (tLines T + 1)) j = fr j := fun j hj => up_n hj
  refine ⟨⟨o1, o2, o3, o4, o5, o6, o7, o8, o9, show tLines T + 1 ≤ 1000 by omega⟩, h1, b3, b4, ⟨up_s _ _ _, (e 1 (by decide)).trans a1, (e 2 (by decide)).trans a2, (e 3 (by decide)).trans a3, (e 4 (by decide)).trans a4, (e 5 (by decide)).trans a5, (e 6 (by decide)).trans a6, (e 7 (by decide)).trans a7⟩, fun s hs => ?_, fun t ht => ?_⟩
  · rw [e _ (by omega), e _ (by omega), e _ (by omega)]; exact h6 s hs
  · rw [e _ (by omega), e _ (by omega)]
    obtain ⟨c1, m, c2, c3⟩ := h7 t ht
    exact ⟨c1, m, c2, c3.low (fun j hj => e j (by omega))⟩
theorem LInv.spk {X : Txt} {T : Talk} {M p k : Nat} {li de : Bool} {fr : Nat → Int32} (h : LInv X T M p fr) (hk : k ≤ 8) (hn : ¬ tNS T = 6) : LInv X (tSpk T k li de) M p (frSpk fr (tNS T) k li de) := by
  obtain ⟨⟨o1, o2, o3, o4, o5, o6, o7, o8, o9, o10⟩, b2, b3, b4, ⟨a0, a1, a2, a3, a4, a5, a6, a7⟩, h6, h7⟩ := h
  have e : ∀ j, ¬ j = 5 → (j < 8 + 3 * tNS T ∨ 8 + 3 * tNS T + 3 ≤ j) → frSpk fr (tNS T) k li de j = fr j := fun j h1 h2 => by
    unfold frSpk; rw [up_n h1, up_n (by omega), up_n (by omega), up_n (by omega)]
  refine ⟨⟨o1, o2, o3, o4, o5, show tNS T + 1 ≤ 6 by omega, o7, fun s hs => ?_, fun t ht => show tWho T t < tNS T + 1 from Nat.lt_succ_of_lt (o9 t ht), o10⟩, b2, b3, b4, ⟨(e 0 (by decide) (by omega)).trans a0, (e 1 (by decide) (by omega)).trans a1, (e 2 (by decide) (by omega)).trans a2, (e 3 (by decide) (by omega)).trans a3, (e 4 (by decide) (by omega)).trans a4, up_s _ _ _, (e 6 (by decide) (by omega)).trans a6, (e 7 (by decide) (by omega)).trans a7⟩, fun s hs => ?_, fun t ht => ?_⟩
  · show up (tKind T) (tNS T) k s ≤ 8
    by_cases q : s = tNS T
    · rw [q, up_s]; exact hk
    · rw [up_n q]; exact o8 s (by have : s < tNS T + 1 := hs; omega)
  · show _ = nI (up (tKind T) (tNS T) k s) ∧ _ = bI (up (tLiar T) (tNS T) li s) ∧ _ = bI (up (tDeaf T) (tNS T) de s)
    by_cases q : s = tNS T
    · subst q
      rw [up_s, up_s, up_s]
      unfold frSpk
      refine ⟨?_, ?_, ?_⟩
      · rw [up_n (by omega), up_n (by omega), up_n (by omega)]; exact up_s _ _ _
      · rw [up_n (by omega), up_n (by omega)]; exact up_s _ _ _
      · rw [up_n (by omega)]; exact up_s _ _ _
    · have hs2 : s < tNS T := by have : s < tNS T + 1 := hs; omega
      rw [up_n q, up_n q, up_n q, e _ (by omega) (by omega), e _ (by omega) (by omega), e _ (by omega) (by omega)]
      exact h6 s hs2
  · have ht2 : t < tNT T := ht
    rw [e _ (by omega) (by omega), e _ (by omega) (by omega)]
    obtain ⟨c1, m, c2, c3⟩ := h7 t ht2
    exact ⟨c1, m, c2, SayB.up (Nat.le_succ _) (Nat.le_refl _) (Nat.le_refl _) (fun j h1 _ => e j (by omega) (by omega)) _ _ _ _ (Nat.le_refl _) c3⟩
theorem LInv.turn {X : Txt} {T : Talk} {M M2 p z s m : Nat} {f : Sem} {fr fr2 : Nat → Int32} (h : LInv X T M p fr) (hn : ¬ tNT T = 20) (hs : s < tNS T) (g1 : M ≤ M2) (g3 : fr2 7 = nI M2) (g4 : SayB (tNS T) M M2 27 f m fr2) (g5 : 2 * M2 ≤ phi X z) (g6 : bnd X z) (hz : p ≤ z) (g7 : ∀ j, ¬ j = 7 → j < 66 + 4 * M → fr2 j = fr j) : LInv X (tTurn T s f) M2 z (frTrn fr2 (tNT T) s m) := by
  obtain ⟨⟨o1, o2, o3, o4, o5, o6, o7, o8, o9, o10⟩, b2, b3, b4, ⟨a0, a1, a2, a3, a4, a5, a6, a7⟩, h6, h7⟩ := h
  have e2 : ∀ j, ¬ j = 6 → (j < 26 + 2 * tNT T ∨ 26 + 2 * tNT T + 2 ≤ j) → frTrn fr2 (tNT T) s m j = fr2 j := fun j h1 h2 => by
    unfold frTrn; rw [up_n h1, up_n (by omega), up_n (by omega)]
  have e : ∀ j, ¬ j = 6 → ¬ j = 7 → (j < 26 + 2 * tNT T ∨ 26 + 2 * tNT T + 2 ≤ j) → j < 66 + 4 * M → frTrn fr2 (tNT T) s m j = fr j := fun j h1 h2 h3 h4 => (e2 j h1 h3).trans (g7 j h2 h4)
  refine ⟨⟨o1, o2, o3, o4, o5, o6, show tNT T + 1 ≤ 20 by omega, o8, fun t ht => ?_, o10⟩, Nat.le_trans b2 hz, g5, g6, ⟨(e 0 (by decide) (by decide) (by omega) (by omega)).trans a0, (e 1 (by decide) (by decide) (by omega) (by omega)).trans a1, (e 2 (by decide) (by decide) (by omega) (by omega)).trans a2, (e 3 (by decide) (by decide) (by omega) (by omega)).trans a3, (e 4 (by decide) (by decide) (by omega) (by omega)).trans a4, (e 5 (by decide) (by decide) (by omega) (by omega)).trans a5, up_s _ _ _, (e2 7 (by decide) (by omega)).trans g3⟩, fun s' hs' => ?_, fun t ht => ?_⟩
  · show up (tWho T) (tNT T) s t < tNS T
    by_cases q : t = tNT T
    · rw [q, up_s]; exact hs
    · rw [up_n q]; exact o9 t (by have : t < tNT T + 1 := ht; omega)
  · have hs2 : s' < tNS T := hs'
    rw [e _ (by omega) (by omega) (by omega) (by omega), e _ (by omega) (by omega) (by omega) (by omega), e _ (by omega) (by omega) (by omega) (by omega)]
    exact h6 s' hs2
  · show _ = nI (up (tWho T) (tNT T) s t) ∧ ∃ m', _ ∧ SayB (tNS T) 0 M2 40 (up (tSem T) (tNT T) f t) m' _
    by_cases q : t = tNT T
    · subst q
      rw [up_s, up_s]
      refine ⟨?_, m, ?_, SayB.up (Nat.le_refl _) (Nat.zero_le _) (Nat.le_refl _) (fun j h1 _ => e2 j (by omega) (by omega)) _ _ _ _ (by decide) g4⟩
      · unfold frTrn; rw [up_n (by omega), up_n (by omega)]; exact up_s _ _ _
      · unfold frTrn; rw [up_n (by omega)]; exact up_s _ _ _
    · have ht2 : t < tNT T := by have : t < tNT T + 1 := ht; omega
      rw [up_n q, up_n q, e _ (by omega) (by omega) (by omega) (by omega), e _ (by omega) (by omega) (by omega) (by omega)]
      obtain ⟨c1, m', c2, c3⟩ := h7 t ht2
      exact ⟨c1, m', c2, SayB.up (Nat.le_refl _) (Nat.le_refl _) g1 (fun j h1 h2 => e j (by omega) (by omega) (by omega) h2) _ _ _ _ (Nat.le_refl _) c3⟩
