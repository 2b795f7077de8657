/-! READING: laws of marks -/
set_option maxRecDepth 100000
theorem RdP.v9 {X : Txt} {p a b t v : Nat} (h : RdP X p a b t v) : v < 1000 := h.2.2.2.2
theorem bad_k {X : Txt} {p a b t v bd : Nat} (h : RdP X p a b t v) (hk : bd = if t = 4 then 1 else 2) : bd = if tkK X p = 4 then 1 else 2 := by rw [hk, h.2.2.1]
theorem bad_l {X : Txt} {p a b t v bp : Nat} (h : RdP X p a b t v) (hl : bp = b) : bp = tkB X p := by rw [hl, h.2.1]
theorem okK_o {r : PR Sem} {f : Sem} {q : Nat} (h : r = PR.ok f q) : okK r := fun k l e => by rw [h] at e; exact (PR.ne e.symm).elim
theorem okK_n {r r2 : PR Sem} {k l : Nat} (h : r = PR.no k l) (h2 : r2 = PR.no k l) (h9 : okK r2) : okK r := fun k' l' e => by
  rw [h] at e
  obtain ⟨e1, e2⟩ := PR.injN e
  subst e1; subst e2
  exact h9 _ _ h2
theorem RdE.leaf {X : Txt} {ns d M p kd nb q : Nat} {pt : Int32} {r : PR Sem} {f : Sem} {fr : Nat → Int32} (hr : r = PR.ok f q) (hp : phi X p + 5 ≤ phi X q) (hb : bnd X q) (hs : SayB ns M (M + 1) d f M (mkM fr M kd nb pt)) : RdE X ns d M p r fr (mkM fr M kd nb pt) (nI M) := by
  intro f2 q2 e
  rw [hr] at e
  obtain ⟨e1, e2⟩ := PR.inj e
  subst e1; subst e2
  exact ⟨M + 1, M, by omega, rfl, mkM_7, hs, by omega, hb, fun j h1 h2 => mkM_o h1 (Or.inl h2)⟩
theorem RdE.sub {X : Txt} {ns d M M2 p p1 kd nb q : Nat} {pt : Int32} {r : PR Sem} {f : Sem} {fr fr2 : Nat → Int32} (hr : r = PR.ok f q) (hp : phi X p + 2 ≤ phi X p1) (g1 : M ≤ M2) (g5 : 2 * M2 + 3 + phi X p1 ≤ 2 * M + phi X q) (hb : bnd X q) (g7 : ∀ j, ¬ j = 7 → j < 66 + 4 * M → fr2 j = fr j) (hs : SayB ns M (M2 + 1) d f M2 (mkM fr2 M2 kd nb pt)) : RdE X ns d M p r fr (mkM fr2 M2 kd nb pt) (nI M2) := by
  intro f2 q2 e
  rw [hr] at e
  obtain ⟨e1, e2⟩ := PR.inj e
  subst e1; subst e2
  exact ⟨M2 + 1, M2, by omega, rfl, mkM_7, hs, by omega, hb, fun j h1 h2 => (mkM_o h1 (Or.inl (by omega))).trans (g7 j h1 h2)⟩
theorem RdE.same {X : Txt} {ns d d2 M M2 m p p1 q : Nat} {r : PR Sem} {f : Sem} {fr fr2 : Nat → Int32} (hr : r = PR.ok f q) (hp : phi X p ≤ phi X p1) (hd : d ≤ d2) (g1 : M ≤ M2) (g3 : fr2 7 = nI M2) (g4 : SayB ns M M2 d f m fr2) (hq : ∃ q1, 2 * M2 + 3 + phi X p1 ≤ 2 * M + phi X q1 ∧ phi X q1 ≤ phi X q) (hb : bnd X q) (g7 : ∀ j, ¬ j = 7 → j < 66 + 4 * M → fr2 j = fr j) : RdE X ns d2 M p r fr fr2 (nI m) := by
  intro f2 q2 e
  rw [hr] at e
  obtain ⟨e1, e2⟩ := PR.inj e
  subst e1; subst e2
  obtain ⟨q1, h1, h2⟩ := hq
  exact ⟨M2, m, g1, rfl, g3, SayB.up (Nat.le_refl _) (Nat.le_refl _) (Nat.le_refl _) (fun _ _ _ => rfl) _ _ _ _ hd g4, by omega, hb, g7⟩
theorem SB_up {ns M M2 d m kd nb : Nat} {pt : Int32} {f : Sem} {fr : Nat → Int32} (h : SayB ns M M2 d f m fr) : SayB ns M (M2 + 1) d f m (mkM fr M2 kd nb pt) :=
  SayB.up (Nat.le_refl _) (Nat.le_refl _) (Nat.le_succ _) (fun j h1 h2 => mkM_o (by omega) (Or.inl h2)) _ _ _ _ (Nat.le_refl _) h
theorem SB_even {ns M d : Nat} {pt : Int32} {fr : Nat → Int32} : SayB ns M (M + 1) (d + 1) sEven M (mkM fr M 6 0 pt) := ⟨⟨Nat.le_refl _, Nat.lt_succ_self _⟩, Or.inl ⟨mkM_0, rfl⟩⟩
theorem SB_same {ns M d : Nat} {pt : Int32} {fr : Nat → Int32} : SayB ns M (M + 1) (d + 1) sSame M (mkM fr M 7 0 pt) := ⟨⟨Nat.le_refl _, Nat.lt_succ_self _⟩, Or.inr (Or.inl ⟨mkM_0, rfl⟩)⟩
theorem SB_above {ns M d a : Nat} {pt : Int32} {fr : Nat → Int32} (h : a < 121) : SayB ns M (M + 1) (d + 1) (sAbove a) M (mkM fr M 8 a pt) := ⟨⟨Nat.le_refl _, Nat.lt_succ_self _⟩, Or.inr (Or.inr (Or.inl ⟨a, mkM_0, mkM_1, by omega, rfl⟩))⟩
theorem SB_knows {ns M d a : Nat} {pt : Int32} {fr : Nat → Int32} (h : a < ns) : SayB ns M (M + 1) (d + 1) (sKnows a) M (mkM fr M 3 a pt) := ⟨⟨Nat.le_refl _, Nat.lt_succ_self _⟩, Or.inr (Or.inr (Or.inr (Or.inl ⟨a, mkM_0, h, mkM_1, rfl⟩)))⟩
theorem SB_sees {ns M M2 d a m : Nat} {f : Sem} {fr : Nat → Int32} (hM : M ≤ M2) (h : a < ns) (hs : SayB ns M M2 d f m fr) : SayB ns M (M2 + 1) (d + 1) (sSees a f) M2 (mkM fr M2 4 a (nI m)) := ⟨⟨hM, Nat.lt_succ_self _⟩, Or.inr (Or.inr (Or.inr (Or.inr (Or.inl ⟨a, m, f, mkM_0, h, mkM_1, mkM_2, SB_up hs, rfl⟩))))⟩
theorem SB_was {ns M M2 d a m : Nat} {f : Sem} {fr : Nat → Int32} (hM : M ≤ M2) (h : a < 21) (hs : SayB ns M M2 d f m fr) : SayB ns M (M2 + 1) (d + 1) (sWas a f) M2 (mkM fr M2 5 a (nI m)) := ⟨⟨hM, Nat.lt_succ_self _⟩, Or.inr (Or.inr (Or.inr (Or.inr (Or.inr (Or.inl ⟨a, m, f, mkM_0, by omega, mkM_1, mkM_2, SB_up hs, rfl⟩)))))⟩
theorem SB_not {ns M M2 d m : Nat} {f : Sem} {fr : Nat → Int32} (hM : M ≤ M2) (hs : SayB ns M M2 d f m fr) : SayB ns M (M2 + 1) (d + 1) (sNot f) M2 (mkM fr M2 2 0 (nI m)) := ⟨⟨hM, Nat.lt_succ_self _⟩, Or.inr (Or.inr (Or.inr (Or.inr (Or.inr (Or.inr (Or.inl ⟨m, f, mkM_0, mkM_2, SB_up hs, rfl⟩))))))⟩
/-! THE MODEL, 19: facts, parts, sayings are read -/
set_option maxRecDepth 100000
section
variable {l : Launch} {D : va_G} {cl : List vw_C} {tys : List (ClassId × FieldType)} {mi : Nat} {cI cJ cZ : ClassId} {ma : Nat → Nat} {known fresh_ saved images : Nat → Int32} {isImage : Nat → Bool} {thrown : Nat} {tape : Nat → Nat} {taped size_ at_ begin_ token value open_ bad badPlace faultKind : Nat} {faultPlace : Int32} {xs ys : Nat → Nat} {pairs : Nat} {rows : Nat → Int64} {top : Nat} {heaps : Nat → Nat} {endsBehind : Nat → Int32} {path order firstOrder : Nat → Nat} {ordersMany : Nat} {tSort : Nat → Int32} {tMany : Nat → Nat} {numbers : Nat → Int64}
def FactC (l : Launch) (D : va_G) (cl : List vw_C) (tys : List (ClassId × FieldType)) (mi : Nat) (cI cJ cZ : ClassId) (ma : Nat → Nat) (n : Nat) : Prop := ∀ {known fresh_ saved images : Nat → Int32} {isImage : Nat → Bool} {thrown : Nat} {tape : Nat → Nat} {taped size_ at_ begin_ token value open_ badPlace faultKind : Nat} {faultPlace : Int32} {xs ys : Nat → Nat} {pairs : Nat} {rows : Nat → Int64} {top : Nat} {heaps : Nat → Nat} {endsBehind : Nat → Int32} {path order firstOrder : Nat → Nat} {ordersMany : Nat} {tSort : Nat → Int32} {tMany : Nat → Nat} {numbers : Nat → Int64} (p M ns : Nat), (size_ ≤ 900) → (∀ j, tape j < 256) → (RdP (tape, size_) p at_ begin_ token value) → (p ≤ size_) → (bnd (tape, size_) p) → (fresh_ 5 = nI ns) → (ns ≤ 6) → (fresh_ 7 = nI M) → (2 * M ≤ phi (tape, size_) p) → (open_ ≤ 8) → okK (pE (tape, size_) ns n 0 open_ [] p) → CT l D cl tys yX10_readFact cX10_readFact 2 (some .int) ({ frames := 20 + 6 * (8 - open_), cells := 0, slots := 0, locals := 400 + 160 * (8 - open_) } : Room) [.ref (ma 0)] (HM D cl tys mi cI cJ cZ ma known fresh_ saved images isImage thrown tape taped size_ at_ begin_ token value open_ 0 badPlace faultKind faultPlace xs ys pairs rows top heaps endsBehind path order firstOrder ordersMany tSort tMany numbers) (Qi (fun (v : Int32) (u : (Nat → Int32) × Nat × Nat × Nat × Nat × Nat × Nat) => RdR (tape, size_) (pE (tape, size_) ns n 0 open_ [] p) u.2.1 u.2.2.1 u.2.2.2.1 u.2.2.2.2.1 u.2.2.2.2.2.1 u.2.2.2.2.2.2 ∧ RdE (tape, size_) ns (25 - 3 * open_) M p (pE (tape, size_) ns n 0 open_ [] p) fresh_ u.1 v) (fun (u : (Nat → Int32) × Nat × Nat × Nat × Nat × Nat × Nat) => HM D cl tys mi cI cJ cZ ma known u.1 saved images isImage thrown tape taped size_ u.2.1 u.2.2.1 u.2.2.2.1 u.2.2.2.2.1 open_ u.2.2.2.2.2.1 u.2.2.2.2.2.2 faultKind faultPlace xs ys pairs rows top heaps endsBehind path order firstOrder ordersMany tSort tMany numbers) (AM ma)) (AM ma)
def WithC (l : Launch) (D : va_G) (cl : List vw_C) (tys : List (ClassId × FieldType)) (mi : Nat) (cI cJ cZ : ClassId) (ma : Nat → Nat) (n : Nat) : Prop := ∀ {known fresh_ saved images : Nat → Int32} {isImage : Nat → Bool} {thrown : Nat} {tape : Nat → Nat} {taped size_ at_ begin_ token value open_ badPlace faultKind : Nat} {faultPlace : Int32} {xs ys : Nat → Nat} {pairs : Nat} {rows : Nat → Int64} {top : Nat} {heaps : Nat → Nat} {endsBehind : Nat → Int32} {path order firstOrder : Nat → Nat} {ordersMany : Nat} {tSort : Nat → Int32} {tMany : Nat → Nat} {numbers : Nat → Int64} (p M ns : Nat), (size_ ≤ 900) → (∀ j, tape j < 256) → (RdP (tape, size_) p at_ begin_ token value) → (p ≤ size_) → (bnd (tape, size_) p) → (fresh_ 5 = nI ns) → (ns ≤ 6) → (fresh_ 7 = nI M) → (2 * M ≤ phi (tape, size_) p) → (open_ ≤ 8) → okK (pE (tape, size_) ns n 1 open_ [] p) → CT l D cl tys yX10_readWithin cX10_readWithin 2 (some .int) ({ frames := 19 + 6 * (8 - open_), cells := 0, slots := 0, locals := 370 + 160 * (8 - open_) } : Room) [.ref (ma 0)] (HM D cl tys mi cI cJ cZ ma known fresh_ saved images isImage thrown tape taped size_ at_ begin_ token value open_ 0 badPlace faultKind faultPlace xs ys pairs rows top heaps endsBehind path order firstOrder ordersMany tSort tMany numbers) (Qi (fun (v : Int32) (u : (Nat → Int32) × Nat × Nat × Nat × Nat × Nat × Nat) => RdR (tape, size_) (pE (tape, size_) ns n 1 open_ [] p) u.2.1 u.2.2.1 u.2.2.2.1 u.2.2.2.2.1 u.2.2.2.2.2.1 u.2.2.2.2.2.2 ∧ RdE (tape, size_) ns (24 - 3 * open_) M p (pE (tape, size_) ns n 1 open_ [] p) fresh_ u.1 v) (fun (u : (Nat → Int32) × Nat × Nat × Nat × Nat × Nat × Nat) => HM D cl tys mi cI cJ cZ ma known u.1 saved images isImage thrown tape taped size_ u.2.1 u.2.2.1 u.2.2.2.1 u.2.2.2.2.1 open_ u.2.2.2.2.2.1 u.2.2.2.2.2.2 faultKind faultPlace xs ys pairs rows top heaps endsBehind path order firstOrder ordersMany tSort tMany numbers) (AM ma)) (AM ma)
def PartC (l : Launch) (D : va_G) (cl : List vw_C) (tys : List (ClassId × FieldType)) (mi : Nat) (cI cJ cZ : ClassId) (ma : Nat → Nat) (n : Nat) : Prop := ∀ {known fresh_ saved images : Nat → Int32} {isImage : Nat → Bool} {thrown : Nat} {tape : Nat → Nat} {taped size_ at_ begin_ token value open_ badPlace faultKind : Nat} {faultPlace : Int32} {xs ys : Nat → Nat} {pairs : Nat} {rows : Nat → Int64} {top : Nat} {heaps : Nat → Nat} {endsBehind : Nat → Int32} {path order firstOrder : Nat → Nat} {ordersMany : Nat} {tSort : Nat → Int32} {tMany : Nat → Nat} {numbers : Nat → Int64} (p M ns : Nat), (size_ ≤ 900) → (∀ j, tape j < 256) → (RdP (tape, size_) p at_ begin_ token value) → (p ≤ size_) → (bnd (tape, size_) p) → (fresh_ 5 = nI ns) → (ns ≤ 6) → (fresh_ 7 = nI M) → (2 * M ≤ phi (tape, size_) p) → (open_ ≤ 8) → okK (pE (tape, size_) ns n 2 open_ [] p) → CT l D cl tys yX10_readJoined cX10_readJoined 6 (some .int) ({ frames := 21 + 6 * (8 - open_), cells := 0, slots := 0, locals := 430 + 160 * (8 - open_) } : Room) [.ref (ma 0), .int (nI 0)] (HM D cl tys mi cI cJ cZ ma known fresh_ saved images isImage thrown tape taped size_ at_ begin_ token value open_ 0 badPlace faultKind faultPlace xs ys pairs rows top heaps endsBehind path order firstOrder ordersMany tSort tMany numbers) (Qi (fun (v : Int32) (u : (Nat → Int32) × Nat × Nat × Nat × Nat × Nat × Nat) => RdR (tape, size_) (pE (tape, size_) ns n 2 open_ [] p) u.2.1 u.2.2.1 u.2.2.2.1 u.2.2.2.2.1 u.2.2.2.2.2.1 u.2.2.2.2.2.2 ∧ RdE (tape, size_) ns (26 - 3 * open_) M p (pE (tape, size_) ns n 2 open_ [] p) fresh_ u.1 v) (fun (u : (Nat → Int32) × Nat × Nat × Nat × Nat × Nat × Nat) => HM D cl tys mi cI cJ cZ ma known u.1 saved images isImage thrown tape taped size_ u.2.1 u.2.2.1 u.2.2.2.1 u.2.2.2.2.1 open_ u.2.2.2.2.2.1 u.2.2.2.2.2.2 faultKind faultPlace xs ys pairs rows top heaps endsBehind path order firstOrder ordersMany tSort tMany numbers) (AM ma)) (AM ma)
def JoinC (l : Launch) (D : va_G) (cl : List vw_C) (tys : List (ClassId × FieldType)) (mi : Nat) (cI cJ cZ : ClassId) (ma : Nat → Nat) (n : Nat) : Prop := ∀ {known fresh_ saved images : Nat → Int32} {isImage : Nat → Bool} {thrown : Nat} {tape : Nat → Nat} {taped size_ at_ begin_ token value open_ badPlace faultKind : Nat} {faultPlace : Int32} {xs ys : Nat → Nat} {pairs : Nat} {rows : Nat → Int64} {top : Nat} {heaps : Nat → Nat} {endsBehind : Nat → Int32} {path order firstOrder : Nat → Nat} {ordersMany : Nat} {tSort : Nat → Int32} {tMany : Nat → Nat} {numbers : Nat → Int64} (p M ns : Nat), (size_ ≤ 900) → (∀ j, tape j < 256) → (RdP (tape, size_) p at_ begin_ token value) → (p ≤ size_) → (bnd (tape, size_) p) → (fresh_ 5 = nI ns) → (ns ≤ 6) → (fresh_ 7 = nI M) → (2 * M ≤ phi (tape, size_) p) → (open_ ≤ 8) → okK (pE (tape, size_) ns n 4 open_ [] p) → CT l D cl tys yX10_readJoined cX10_readJoined 6 (some .int) ({ frames := 22 + 6 * (8 - open_), cells := 0, slots := 0, locals := 460 + 160 * (8 - open_) } : Room) [.ref (ma 0), .int (nI 1)] (HM D cl tys mi cI cJ cZ ma known fresh_ saved images isImage thrown tape taped size_ at_ begin_ token value open_ 0 badPlace faultKind faultPlace xs ys pairs rows top heaps endsBehind path order firstOrder ordersMany tSort tMany numbers) (Qi (fun (v : Int32) (u : (Nat → Int32) × Nat × Nat × Nat × Nat × Nat × Nat) => RdR (tape, size_) (pE (tape, size_) ns n 4 open_ [] p) u.2.1 u.2.2.1 u.2.2.2.1 u.2.2.2.2.1 u.2.2.2.2.2.1 u.2.2.2.2.2.2 ∧ RdE (tape, size_) ns (27 - 3 * open_) M p (pE (tape, size_) ns n 4 open_ [] p) fresh_ u.1 v) (fun (u : (Nat → Int32) × Nat × Nat × Nat × Nat × Nat × Nat) => HM D cl tys mi cI cJ cZ ma known u.1 saved images isImage thrown tape taped size_ u.2.1 u.2.2.1 u.2.2.2.1 u.2.2.2.2.1 open_ u.2.2.2.2.2.1 u.2.2.2.2.2.2 faultKind faultPlace xs ys pairs rows top heaps endsBehind path order firstOrder ordersMany tSort tMany numbers) (AM ma)) (AM ma)
def SayC4 (l : Launch) (D : va_G) (cl : List vw_C) (tys : List (ClassId × FieldType)) (mi : Nat) (cI cJ cZ : ClassId) (ma : Nat → Nat) (n : Nat) : Prop := ∀ {known fresh_ saved images : Nat → Int32} {isImage : Nat → Bool} {thrown : Nat} {tape : Nat → Nat} {taped size_ at_ begin_ token value open_ badPlace faultKind : Nat} {faultPlace : Int32} {xs ys : Nat → Nat} {pairs : Nat} {rows : Nat → Int64} {top : Nat} {heaps : Nat → Nat} {endsBehind : Nat → Int32} {path order firstOrder : Nat → Nat} {ordersMany : Nat} {tSort : Nat → Int32} {tMany : Nat → Nat} {numbers : Nat → Int64} (p M ns : Nat), (size_ ≤ 900) → (∀ j, tape j < 256) → (RdP (tape, size_) p at_ begin_ token value) → (p ≤ size_) → (bnd (tape, size_) p) → (fresh_ 5 = nI ns) → (ns ≤ 6) → (fresh_ 7 = nI M) → (2 * M ≤ phi (tape, size_) p) → (open_ ≤ 8) → okK (pE (tape, size_) ns n 4 open_ [] p) → CT l D cl tys yX10_readSaying cX10_readSaying 1 (some .int) ({ frames := 23 + 6 * (8 - open_), cells := 0, slots := 0, locals := 490 + 160 * (8 - open_) } : Room) [.ref (ma 0)] (HM D cl tys mi cI cJ cZ ma known fresh_ saved images isImage thrown tape taped size_ at_ begin_ token value open_ 0 badPlace faultKind faultPlace xs ys pairs rows top heaps endsBehind path order firstOrder ordersMany tSort tMany numbers) (Qi (fun (v : Int32) (u : (Nat → Int32) × Nat × Nat × Nat × Nat × Nat × Nat) => RdR (tape, size_) (pE (tape, size_) ns n 4 open_ [] p) u.2.1 u.2.2.1 u.2.2.2.1 u.2.2.2.2.1 u.2.2.2.2.2.1 u.2.2.2.2.2.2 ∧ RdE (tape, size_) ns (27 - 3 * open_) M p (pE (tape, size_) ns n 4 open_ [] p) fresh_ u.1 v) (fun (u : (Nat → Int32) × Nat × Nat × Nat × Nat × Nat × Nat) => HM D cl tys mi cI cJ cZ ma known u.1 saved images isImage thrown tape taped size_ u.2.1 u.2.2.1 u.2.2.2.1 u.2.2.2.2.1 open_ u.2.2.2.2.2.1 u.2.2.2.2.2.2 faultKind faultPlace xs ys pairs rows top heaps endsBehind path order firstOrder ordersMany tSort tMany numbers) (AM ma)) (AM ma)
set_option maxHeartbeats 8000000 in
theorem fact_s {n : Nat} (hF : ∀ k, k < n + 1 → FactC l D cl tys mi cI cJ cZ ma k) (hW : ∀ k, k < n + 1 → WithC l D cl tys mi cI cJ cZ ma k) : FactC l D cl tys mi cI cJ cZ ma (n + 1) := by
  intro known fresh_ saved images isImage thrown tape taped size_ at_ begin_ token value open_ badPlace faultKind faultPlace xs ys pairs rows top heaps endsBehind path order firstOrder ordersMany tSort tMany numbers p M ns hs hT hR hps hb hns hn6 hM hphi ho h9
  have hstep : pE (tape, size_) ns (n + 1) 0 open_ [] p = pStep (tape, size_) ns (pE (tape, size_) ns n) 0 open_ [] p := rfl
  refine CT.of (L := [(0, .ref (ma 0))]) rfl (by decide +kernel) rfl (Nat.le_of_ble_eq_true rfl) ?_
  rcases hw0 : isW (tape, size_) wNot p with _ | _
  · skip
    have w0 := hw0
    rcases hw1 : isS (tape, size_) 40 p with _ | _
    · skip
      have w1 := hw1
      rcases hw2 : isW (tape, size_) wKnows p with _ | _
      · skip
        have w2 := hw2
        rcases hw3 : isW (tape, size_) wSees p with _ | _
        · skip
          have w3 := hw3
          rcases hw4 : isW (tape, size_) wWas p with _ | _
          · skip
            have w4 := hw4
            rcases hw5 : isW (tape, size_) wEven p with _ | _
            · skip
              have w5 := hw5
              rcases hw6 : isW (tape, size_) wSame p with _ | _
              · skip
                have w6 := hw6
                rcases hw7 : isW (tape, size_) wAbove p with _ | _
                · skip
                  have w7 := hw7
                  skip
                  · skip
                    have hr : pE (tape, size_) ns (n + 1) 0 open_ [] p = pWrong (tape, size_) p := by rw [hstep]; unfold pStep; rw [if_pos rfl, if_neg (by rw [w0]; decide), if_neg (by rw [w1]; decide), if_neg (by rw [w2]; decide), if_neg (by rw [w3]; decide), if_neg (by rw [w4]; decide), if_neg (by rw [w5]; decide), if_neg (by rw [w6]; decide), if_neg (by rw [w7]; decide)]
                    refine g_aload_n 0 dX10_readFact_0 rfl rfl ?_
                    refine g_ldcS st_X10_153 dX10_readFact_1 ?_
                    refine m_cVi (ct_isWord p wNot hs hT hR hps st_X10_153 wd_X10_153) hvX10_isWord hyX10_isWord rfl ⟨by dsimp only; omega, by dsimp only; omega⟩ ⟨Nat.zero_le _, Nat.zero_le _⟩ rfl (Nat.le_of_ble_eq_true rfl) dX10_readFact_3 m_rec (fun r u9 hp => ?_)
                    obtain rfl := hp
                    refine GG.topi (y := nI 0) (congrArg bI w0) ?_
                    refine g_if_eq_n (tgt := 36) dX10_readFact_6 (by decide) (by decide) (fun _ => ?_) (fun h => absurd h (by decide))
                    refine g_aload_n 0 dX10_readFact_36 rfl rfl ?_
                    refine g_bipush (v := nI 40) dX10_readFact_37 (by decide +kernel) ?_
                    refine m_cVi (ct_isSign p _ hs hT hR hps (by decide)) hvX10_isSign hyX10_isSign rfl ⟨by dsimp only; omega, by dsimp only; omega⟩ ⟨Nat.zero_le _, Nat.zero_le _⟩ rfl (Nat.le_of_ble_eq_true rfl) dX10_readFact_39 m_rec (fun r u9 hp => ?_)
                    obtain rfl := hp
                    refine GG.topi (y := nI 0) (congrArg bI w1) ?_
                    refine g_if_eq_n (tgt := 50) dX10_readFact_42 (by decide) (by decide) (fun _ => ?_) (fun h => absurd h (by decide))
                    refine g_aload_n 0 dX10_readFact_50 rfl rfl ?_
                    refine g_ldcS st_X10_165 dX10_readFact_51 ?_
                    refine m_cVi (ct_took p wKnows hs hT hR hps st_X10_165 wd_X10_165) hvX10_took hyX10_took rfl ⟨by dsimp only; omega, by dsimp only; omega⟩ ⟨Nat.zero_le _, Nat.zero_le _⟩ rfl (Nat.le_of_ble_eq_true rfl) dX10_readFact_53 m_rec (fun r u hp => ?_)
                    obtain ⟨a3, b3, t3, v3⟩ := u
                    obtain ⟨hp, hq3⟩ := hp
                    have hR3 : RdP (tape, size_) p a3 b3 t3 v3 := by have h := hq3; unfold opt at h; rw [if_neg (by rw [w2]; decide)] at h; exact h
                    obtain rfl := hp
                    have hps3 : p ≤ size_ := hps
                    have hb3 : bnd (tape, size_) p := hb
                    refine GG.topi (y := nI 0) (congrArg bI w2) ?_
                    refine g_if_eq_n (tgt := 70) dX10_readFact_56 (by decide) (by decide) (fun _ => ?_) (fun h => absurd h (by decide))
                    refine g_aload_n 0 dX10_readFact_70 rfl rfl ?_
                    refine g_ldcS st_X10_173 dX10_readFact_71 ?_
                    refine m_cVi (ct_took p wSees hs hT hR3 hps3 st_X10_173 wd_X10_173) hvX10_took hyX10_took rfl ⟨by dsimp only; omega, by dsimp only; omega⟩ ⟨Nat.zero_le _, Nat.zero_le _⟩ rfl (Nat.le_of_ble_eq_true rfl) dX10_readFact_73 m_rec (fun r u hp => ?_)
                    obtain ⟨a4, b4, t4, v4⟩ := u
                    obtain ⟨hp, hq4⟩ := hp
                    have hR4 : RdP (tape, size_) p a4 b4 t4 v4 := by have h := hq4; unfold opt at h; rw [if_neg (by rw [w3]; decide)] at h; exact h
                    obtain rfl := hp
                    have hps4 : p ≤ size_ := hps3
                    have hb4 : bnd (tape, size_) p := hb3
                    refine GG.topi (y := nI 0) (congrArg bI w3) ?_
                    refine g_if_eq_n (tgt := 95) dX10_readFact_76 (by decide) (by decide) (fun _ => ?_) (fun h => absurd h (by decide))
                    refine g_aload_n 0 dX10_readFact_95 rfl rfl ?_
                    refine g_ldcS st_X10_175 dX10_readFact_96 ?_
                    refine m_cVi (ct_took p wWas hs hT hR4 hps4 st_X10_175 wd_X10_175) hvX10_took hyX10_took rfl ⟨by dsimp only; omega, by dsimp only; omega⟩ ⟨Nat.zero_le _, Nat.zero_le _⟩ rfl (Nat.le_of_ble_eq_true rfl) dX10_readFact_98 m_rec (fun r u hp => ?_)
                    obtain ⟨a5, b5, t5, v5⟩ := u
                    obtain ⟨hp, hq5⟩ := hp
                    have hR5 : RdP (tape, size_) p a5 b5 t5 v5 := by have h := hq5; unfold opt at h; rw [if_neg (by rw [w4]; decide)] at h; exact h
                    obtain rfl := hp
                    have hps5 : p ≤ size_ := hps4
                    have hb5 : bnd (tape, size_) p := hb4
                    refine GG.topi (y := nI 0) (congrArg bI w4) ?_
                    refine g_if_eq_n (tgt := 123) dX10_readFact_101 (by decide) (by decide) (fun _ => ?_) (fun h => absurd h (by decide))
                    refine g_aload_n 0 dX10_readFact_123 rfl rfl ?_
                    refine g_ldcS st_X10_177 dX10_readFact_124 ?_
                    refine m_cVi (ct_took p wEven hs hT hR5 hps5 st_X10_177 wd_X10_177) hvX10_took hyX10_took rfl ⟨by dsimp only; omega, by dsimp only; omega⟩ ⟨Nat.zero_le _, Nat.zero_le _⟩ rfl (Nat.le_of_ble_eq_true rfl) dX10_readFact_126 m_rec (fun r u hp => ?_)
                    obtain ⟨a6, b6, t6, v6⟩ := u
                    obtain ⟨hp, hq6⟩ := hp
                    have hR6 : RdP (tape, size_) p a6 b6 t6 v6 := by have h := hq6; unfold opt at h; rw [if_neg (by rw [w5]; decide)] at h; exact h
                    obtain rfl := hp
                    have hps6 : p ≤ size_ := hps5
                    have hb6 : bnd (tape, size_) p := hb5
                    refine GG.topi (y := nI 0) (congrArg bI w5) ?_
                    refine g_if_eq_n (tgt := 141) dX10_readFact_129 (by decide) (by decide) (fun _ => ?_) (fun h => absurd h (by decide))
                    refine g_aload_n 0 dX10_readFact_141 rfl rfl ?_
                    refine g_ldcS st_X10_179 dX10_readFact_142 ?_
                    refine m_cVi (ct_took p wSame hs hT hR6 hps6 st_X10_179 wd_X10_179) hvX10_took hyX10_took rfl ⟨by dsimp only; omega, by dsimp only; omega⟩ ⟨Nat.zero_le _, Nat.zero_le _⟩ rfl (Nat.le_of_ble_eq_true rfl) dX10_readFact_144 m_rec (fun r u hp => ?_)
                    obtain ⟨a7, b7, t7, v7⟩ := u
                    obtain ⟨hp, hq7⟩ := hp
                    have hR7 : RdP (tape, size_) p a7 b7 t7 v7 := by have h := hq7; unfold opt at h; rw [if_neg (by rw [w6]; decide)] at h; exact h
                    obtain rfl := hp
                    have hps7 : p ≤ size_ := hps6
                    have hb7 : bnd (tape, size_) p := hb6
                    refine GG.topi (y := nI 0) (congrArg bI w6) ?_
                    refine g_if_eq_n (tgt := 159) dX10_readFact_147 (by decide) (by decide) (fun _ => ?_) (fun h => absurd h (by decide))
                    refine g_aload_n 0 dX10_readFact_159 rfl rfl ?_
                    refine g_ldcS st_X10_181 dX10_readFact_160 ?_
                    refine m_cVi (ct_took p wAbove hs hT hR7 hps7 st_X10_181 wd_X10_181) hvX10_took hyX10_took rfl ⟨by dsimp only; omega, by dsimp only; omega⟩ ⟨Nat.zero_le _, Nat.zero_le _⟩ rfl (Nat.le_of_ble_eq_true rfl) dX10_readFact_162 m_rec (fun r u hp => ?_)
                    obtain ⟨a8, b8, t8, v8⟩ := u
                    obtain ⟨hp, hq8⟩ := hp
                    have hR8 : RdP (tape, size_) p a8 b8 t8 v8 := by have h := hq8; unfold opt at h; rw [if_neg (by rw [w7]; decide)] at h; exact h
                    obtain rfl := hp
                    have hps8 : p ≤ size_ := hps7
                    have hb8 : bnd (tape, size_) p := hb7
                    refine GG.topi (y := nI 0) (congrArg bI w7) ?_
                    refine g_if_eq_n (tgt := 183) dX10_readFact_165 (by decide) (by decide) (fun _ => ?_) (fun h => absurd h (by decide))
                    refine g_aload_n 0 dX10_readFact_183 rfl rfl ?_
                    refine g_iconst (v := nI 2) dX10_readFact_184 (by decide +kernel) ?_
                    refine m_cVv (ct_blames _ hR8.t4 (by decide)) hvX10_blames hyX10_blames rfl ⟨by dsimp only; omega, by dsimp only; omega⟩ ⟨Nat.zero_le _, Nat.zero_le _⟩ rfl (Nat.le_of_ble_eq_true rfl) dX10_readFact_185 m_rec (fun u hp => ?_)
                    obtain ⟨bd9, bp9⟩ := u
                    obtain ⟨hk9, hl9⟩ := hp
                    have hk9 : bd9 = _ := hk9
                    have hl9 : bp9 = _ := hl9
                    have hbd : 0 < bd9 ∧ bd9 < 10 := by rw [hk9]; split <;> decide
                    refine g_iconst (v := nI 0) dX10_readFact_188 (by decide +kernel) ?_
                    exact g_iret (_, _, _, _, _, _, _) dX10_readFact_189 (Nat.le_refl _) (Nat.le_refl _) (by exact ⟨RdR.no hr (by first | exact ht4 | exact RdP.t4 (by assumption)) (by first | exact hv9 | exact RdP.v9 (by assumption)) (by first | assumption | exact bad_k (by assumption) (by assumption)) (by first | assumption | exact bad_l (by assumption) (by assumption)) hbd, RdE.no hr⟩) (fun _ h => h)
                · skip
                  have w7 := hw7
                  rcases hq : pNum (tape, size_) 0 121 (tkE (tape, size_) p) with ⟨k, l9⟩ | ⟨x, q⟩
                  · skip
                    have hr : pE (tape, size_) ns (n + 1) 0 open_ [] p = PR.no k l9 := by rw [hstep]; unfold pStep; rw [if_pos rfl, if_neg (by rw [w0]; decide), if_neg (by rw [w1]; decide), if_neg (by rw [w2]; decide), if_neg (by rw [w3]; decide), if_neg (by rw [w4]; decide), if_neg (by rw [w5]; decide), if_neg (by rw [w6]; decide), if_pos w7, hq]; rfl
                    refine g_aload_n 0 dX10_readFact_0 rfl rfl ?_
                    refine g_ldcS st_X10_153 dX10_readFact_1 ?_
                    refine m_cVi (ct_isWord p wNot hs hT hR hps st_X10_153 wd_X10_153) hvX10_isWord hyX10_isWord rfl ⟨by dsimp only; omega, by dsimp only; omega⟩ ⟨Nat.zero_le _, Nat.zero_le _⟩ rfl (Nat.le_of_ble_eq_true rfl) dX10_readFact_3 m_rec (fun r u9 hp => ?_)
                    obtain rfl := hp
                    refine GG.topi (y := nI 0) (congrArg bI w0) ?_
                    refine g_if_eq_n (tgt := 36) dX10_readFact_6 (by decide) (by decide) (fun _ => ?_) (fun h => absurd h (by decide))
                    refine g_aload_n 0 dX10_readFact_36 rfl rfl ?_
                    refine g_bipush (v := nI 40) dX10_readFact_37 (by decide +kernel) ?_
                    refine m_cVi (ct_isSign p _ hs hT hR hps (by decide)) hvX10_isSign hyX10_isSign rfl ⟨by dsimp only; omega, by dsimp only; omega⟩ ⟨Nat.zero_le _, Nat.zero_le _⟩ rfl (Nat.le_of_ble_eq_true rfl) dX10_readFact_39 m_rec (fun r u9 hp => ?_)
                    obtain rfl := hp
                    refine GG.topi (y := nI 0) (congrArg bI w1) ?_
                    refine g_if_eq_n (tgt := 50) dX10_readFact_42 (by decide) (by decide) (fun _ => ?_) (fun h => absurd h (by decide))
                    refine g_aload_n 0 dX10_readFact_50 rfl rfl ?_
                    refine g_ldcS st_X10_165 dX10_readFact_51 ?_
                    refine m_cVi (ct_took p wKnows hs hT hR hps st_X10_165 wd_X10_165) hvX10_took hyX10_took rfl ⟨by dsimp only; omega, by dsimp only; omega⟩ ⟨Nat.zero_le _, Nat.zero_le _⟩ rfl (Nat.le_of_ble_eq_true rfl) dX10_readFact_53 m_rec (fun r u hp => ?_)
                    obtain ⟨a3, b3, t3, v3⟩ := u
                    obtain ⟨hp, hq3⟩ := hp
                    have hR3 : RdP (tape, size_) p a3 b3 t3 v3 := by have h := hq3; unfold opt at h; rw [if_neg (by rw [w2]; decide)] at h; exact h
                    obtain rfl := hp
                    have hps3 : p ≤ size_ := hps
                    have hb3 : bnd (tape, size_) p := hb
                    refine GG.topi (y := nI 0) (congrArg bI w2) ?_
                    refine g_if_eq_n (tgt := 70) dX10_readFact_56 (by decide) (by decide) (fun _ => ?_) (fun h => absurd h (by decide))
                    refine g_aload_n 0 dX10_readFact_70 rfl rfl ?_
                    refine g_ldcS st_X10_173 dX10_readFact_71 ?_
                    refine m_cVi (ct_took p wSees hs hT hR3 hps3 st_X10_173 wd_X10_173) hvX10_took hyX10_took rfl ⟨by dsimp only; omega, by dsimp only; omega⟩ ⟨Nat.zero_le _, Nat.zero_le _⟩ rfl (Nat.le_of_ble_eq_true rfl) dX10_readFact_73 m_rec (fun r u hp => ?_)
                    obtain ⟨a4, b4, t4, v4⟩ := u
                    obtain ⟨hp, hq4⟩ := hp
                    have hR4 : RdP (tape, size_) p a4 b4 t4 v4 := by have h := hq4; unfold opt at h; rw [if_neg (by rw [w3]; decide)] at h; exact h
                    obtain rfl := hp
                    have hps4 : p ≤ size_ := hps3
                    have hb4 : bnd (tape, size_) p := hb3
                    refine GG.topi (y := nI 0) (congrArg bI w3) ?_
                    refine g_if_eq_n (tgt := 95) dX10_readFact_76 (by decide) (by decide) (fun _ => ?_) (fun h => absurd h (by decide))
                    refine g_aload_n 0 dX10_readFact_95 rfl rfl ?_
                    refine g_ldcS st_X10_175 dX10_readFact_96 ?_
                    refine m_cVi (ct_took p wWas hs hT hR4 hps4 st_X10_175 wd_X10_175) hvX10_took hyX10_took rfl ⟨by dsimp only; omega, by dsimp only; omega⟩ ⟨Nat.zero_le _, Nat.zero_le _⟩ rfl (Nat.le_of_ble_eq_true rfl) dX10_readFact_98 m_rec (fun r u hp => ?_)
                    obtain ⟨a5, b5, t5, v5⟩ := u
                    obtain ⟨hp, hq5⟩ := hp
                    have hR5 : RdP (tape, size_) p a5 b5 t5 v5 := by have h := hq5; unfold opt at h; rw [if_neg (by rw [w4]; decide)] at h; exact h
                    obtain rfl := hp
                    have hps5 : p ≤ size_ := hps4
                    have hb5 : bnd (tape, size_) p := hb4
                    refine GG.topi (y := nI 0) (congrArg bI w4) ?_
                    refine g_if_eq_n (tgt := 123) dX10_readFact_101 (by decide) (by decide) (fun _ => ?_) (fun h => absurd h (by decide))
                    refine g_aload_n 0 dX10_readFact_123 rfl rfl ?_
                    refine g_ldcS st_X10_177 dX10_readFact_124 ?_
                    refine m_cVi (ct_took p wEven hs hT hR5 hps5 st_X10_177 wd_X10_177) hvX10_took hyX10_took rfl ⟨by dsimp only; omega, by dsimp only; omega⟩ ⟨Nat.zero_le _, Nat.zero_le _⟩ rfl (Nat.le_of_ble_eq_true rfl) dX10_readFact_126 m_rec (fun r u hp => ?_)
                    obtain ⟨a6, b6, t6, v6⟩ := u
                    obtain ⟨hp, hq6⟩ := hp
                    have hR6 : RdP (tape, size_) p a6 b6 t6 v6 := by have h := hq6; unfold opt at h; rw [if_neg (by rw [w5]; decide)] at h; exact h
                    obtain rfl := hp
                    have hps6 : p ≤ size_ := hps5
                    have hb6 : bnd (tape, size_) p := hb5
                    refine GG.topi (y := nI 0) (congrArg bI w5) ?_
                    refine g_if_eq_n (tgt := 141) dX10_readFact_129 (by decide) (by decide) (fun _ => ?_) (fun h => absurd h (by decide))
                    refine g_aload_n 0 dX10_readFact_141 rfl rfl ?_
                    refine g_ldcS st_X10_179 dX10_readFact_142 ?_
                    refine m_cVi (ct_took p wSame hs hT hR6 hps6 st_X10_179 wd_X10_179) hvX10_took hyX10_took rfl ⟨by dsimp only; omega, by dsimp only; omega⟩ ⟨Nat.zero_le _, Nat.zero_le _⟩ rfl (Nat.le_of_ble_eq_true rfl) dX10_readFact_144 m_rec (fun r u hp => ?_)
                    obtain ⟨a7, b7, t7, v7⟩ := u
                    obtain ⟨hp, hq7⟩ := hp
                    have hR7 : RdP (tape, size_) p a7 b7 t7 v7 := by have h := hq7; unfold opt at h; rw [if_neg (by rw [w6]; decide)] at h; exact h
                    obtain rfl := hp
                    have hps7 : p ≤ size_ := hps6
                    have hb7 : bnd (tape, size_) p := hb6
                    refine GG.topi (y := nI 0) (congrArg bI w6) ?_
                    refine g_if_eq_n (tgt := 159) dX10_readFact_147 (by decide) (by decide) (fun _ => ?_) (fun h => absurd h (by decide))
                    refine g_aload_n 0 dX10_readFact_159 rfl rfl ?_
                    refine g_ldcS st_X10_181 dX10_readFact_160 ?_
                    refine m_cVi (ct_took p wAbove hs hT hR7 hps7 st_X10_181 wd_X10_181) hvX10_took hyX10_took rfl ⟨by dsimp only; omega, by dsimp only; omega⟩ ⟨Nat.zero_le _, Nat.zero_le _⟩ rfl (Nat.le_of_ble_eq_true rfl) dX10_readFact_162 m_rec (fun r u hp => ?_)
                    obtain ⟨a8, b8, t8, v8⟩ := u
                    obtain ⟨hp, hq8⟩ := hp
                    have hR8 : RdP (tape, size_) (tkE (tape, size_) p) a8 b8 t8 v8 := by have h := hq8; unfold opt at h; rw [if_pos w7] at h; exact h
                    obtain rfl := hp
                    have hps8 : (tkE (tape, size_) p) ≤ size_ := tkE_le (X := (tape, size_)) hps7
                    have hb8 : bnd (tape, size_) (tkE (tape, size_) p) := bnd_W w7
                    refine GG.topi (y := nI 1) (congrArg bI w7) ?_
                    refine g_if_eq_n (tgt := 183) dX10_readFact_165 (by decide) (by decide) (fun h => absurd h (by decide)) (fun _ => ?_)
                    refine g_aload_n 0 dX10_readFact_168 rfl rfl ?_
                    refine g_bipush (v := nI 8) dX10_readFact_169 (by decide +kernel) ?_
                    refine g_aload_n 0 dX10_readFact_171 rfl rfl ?_
                    refine g_iconst (v := nI 0) dX10_readFact_172 (by decide +kernel) ?_
                    refine g_bipush (v := nI 120) dX10_readFact_173 (by decide +kernel) ?_
                    refine m_cVi (ct_number (tkE (tape, size_) p) 0 121 _ hs hT hR8 hps8 (by decide +kernel) (by first | decide | omega) (by decide)) hvX10_number hyX10_number rfl ⟨by dsimp only; omega, by dsimp only; omega⟩ ⟨Nat.zero_le _, Nat.zero_le _⟩ rfl (Nat.le_of_ble_eq_true rfl) dX10_readFact_175 m_rec (fun r u hp => ?_)
                    obtain ⟨a9, b9, t9, v9, bd9, bp9⟩ := u
                    obtain ⟨hr9, hv9, hw9⟩ := hp
                    obtain ⟨ht4, hv9, hk9, hl9, hbd⟩ := hr9.isno hq
                    refine GG.topi (hw9 (by show ¬ bd9 = 0; have : 0 < bd9 := hbd.1; omega)) ?_
                    have hbd : 0 < bd9 ∧ bd9 < 10 := hbd
                    refine g_iconst (v := -1) dX10_readFact_178 (by decide +kernel) ?_
                    refine m_cVi (ct_mark_bad _ _ _ hbd) hvX10_mark hyX10_mark rfl ⟨by dsimp only; omega, by dsimp only; omega⟩ ⟨Nat.zero_le _, Nat.zero_le _⟩ rfl (Nat.le_of_ble_eq_true rfl) dX10_readFact_179 m_rec (fun r u9 hp => ?_)
                    obtain rfl := hp
                    refine GG.topi (y := nI 0) rfl ?_
                    exact g_iret (_, _, _, _, _, _, _) dX10_readFact_182 (Nat.le_refl _) (Nat.le_refl _) (by exact ⟨RdR.no hr (by first | exact ht4 | exact RdP.t4 (by assumption)) (by first | exact hv9 | exact RdP.v9 (by assumption)) (by first | assumption | exact bad_k (by assumption) (by assumption)) (by first | assumption | exact bad_l (by assumption) (by assumption)) hbd, RdE.no hr⟩) (fun _ h => h)
                  · skip
                    have hr : pE (tape, size_) ns (n + 1) 0 open_ [] p = PR.ok (sAbove x) q := by rw [hstep]; unfold pStep; rw [if_pos rfl, if_neg (by rw [w0]; decide), if_neg (by rw [w1]; decide), if_neg (by rw [w2]; decide), if_neg (by rw [w3]; decide), if_neg (by rw [w4]; decide), if_neg (by rw [w5]; decide), if_neg (by rw [w6]; decide), if_pos w7, hq]; rfl
                    have hxn := pNum_ok hq
                    refine g_aload_n 0 dX10_readFact_0 rfl rfl ?_
                    refine g_ldcS st_X10_153 dX10_readFact_1 ?_
                    refine m_cVi (ct_isWord p wNot hs hT hR hps st_X10_153 wd_X10_153) hvX10_isWord hyX10_isWord rfl ⟨by dsimp only; omega, by dsimp only; omega⟩ ⟨Nat.zero_le _, Nat.zero_le _⟩ rfl (Nat.le_of_ble_eq_true rfl) dX10_readFact_3 m_rec (fun r u9 hp => ?_)
                    obtain rfl := hp
                    refine GG.topi (y := nI 0) (congrArg bI w0) ?_
                    refine g_if_eq_n (tgt := 36) dX10_readFact_6 (by decide) (by decide) (fun _ => ?_) (fun h => absurd h (by decide))
                    refine g_aload_n 0 dX10_readFact_36 rfl rfl ?_
                    refine g_bipush (v := nI 40) dX10_readFact_37 (by decide +kernel) ?_
                    refine m_cVi (ct_isSign p _ hs hT hR hps (by decide)) hvX10_isSign hyX10_isSign rfl ⟨by dsimp only; omega, by dsimp only; omega⟩ ⟨Nat.zero_le _, Nat.zero_le _⟩ rfl (Nat.le_of_ble_eq_true rfl) dX10_readFact_39 m_rec (fun r u9 hp => ?_)
                    obtain rfl := hp
                    refine GG.topi (y := nI 0) (congrArg bI w1) ?_
                    refine g_if_eq_n (tgt := 50) dX10_readFact_42 (by decide) (by decide) (fun _ => ?_) (fun h => absurd h (by decide))
                    refine g_aload_n 0 dX10_readFact_50 rfl rfl ?_
                    refine g_ldcS st_X10_165 dX10_readFact_51 ?_
                    refine m_cVi (ct_took p wKnows hs hT hR hps st_X10_165 wd_X10_165) hvX10_took hyX10_took rfl ⟨by dsimp only; omega, by dsimp only; omega⟩ ⟨Nat.zero_le _, Nat.zero_le _⟩ rfl (Nat.le_of_ble_eq_true rfl) dX10_readFact_53 m_rec (fun r u hp => ?_)
                    obtain ⟨a3, b3, t3, v3⟩ := u
                    obtain ⟨hp, hq3⟩ := hp
                    have hR3 : RdP (tape, size_) p a3 b3 t3 v3 := by have h := hq3; unfold opt at h; rw [if_neg (by rw [w2]; decide)] at h; exact h
                    obtain rfl := hp
                    have hps3 : p ≤ size_ := hps
                    have hb3 : bnd (tape, size_) p := hb
                    refine GG.topi (y := nI 0) (congrArg bI w2) ?_
                    refine g_if_eq_n (tgt := 70) dX10_readFact_56 (by decide) (by decide) (fun _ => ?_) (fun h => absurd h (by decide))
                    refine g_aload_n 0 dX10_readFact_70 rfl rfl ?_
                    refine g_ldcS st_X10_173 dX10_readFact_71 ?_
                    refine m_cVi (ct_took p wSees hs hT hR3 hps3 st_X10_173 wd_X10_173) hvX10_took hyX10_took rfl ⟨by dsimp only; omega, by dsimp only; omega⟩ ⟨Nat.zero_le _, Nat.zero_le _⟩ rfl (Nat.le_of_ble_eq_true rfl) dX10_readFact_73 m_rec (fun r u hp => ?_)
                    obtain ⟨a4, b4, t4, v4⟩ := u
                    obtain ⟨hp, hq4⟩ := hp
                    have hR4 : RdP (tape, size_) p a4 b4 t4 v4 := by have h := hq4; unfold opt at h; rw [if_neg (by rw [w3]; decide)] at h; exact h
                    obtain rfl := hp
                    have hps4 : p ≤ size_ := hps3
                    have hb4 : bnd (tape, size_) p := hb3
                    refine GG.topi (y := nI 0) (congrArg bI w3) ?_
                    refine g_if_eq_n (tgt := 95) dX10_readFact_76 (by decide) (by decide) (fun _ => ?_) (fun h => absurd h (by decide))
                    refine g_aload_n 0 dX10_readFact_95 rfl rfl ?_
                    refine g_ldcS st_X10_175 dX10_readFact_96 ?_
                    refine m_cVi (ct_took p wWas hs hT hR4 hps4 st_X10_175 wd_X10_175) hvX10_took hyX10_took rfl ⟨by dsimp only; omega, by dsimp only; omega⟩ ⟨Nat.zero_le _, Nat.zero_le _⟩ rfl (Nat.le_of_ble_eq_true rfl) dX10_readFact_98 m_rec (fun r u hp => ?_)
                    obtain ⟨a5, b5, t5, v5⟩ := u
                    obtain ⟨hp, hq5⟩ := hp
                    have hR5 : RdP (tape, size_) p a5 b5 t5 v5 := by have h := hq5; unfold opt at h; rw [if_neg (by rw [w4]; decide)] at h; exact h
                    obtain rfl := hp
                    have hps5 : p ≤ size_ := hps4
                    have hb5 : bnd (tape, size_) p := hb4
                    refine GG.topi (y := nI 0) (congrArg bI w4) ?_
                    refine g_if_eq_n (tgt := 123) dX10_readFact_101 (by decide) (by decide) (fun _ => ?_) (fun h => absurd h (by decide))
                    refine g_aload_n 0 dX10_readFact_123 rfl rfl ?_
                    refine g_ldcS st_X10_177 dX10_readFact_124 ?_
                    refine m_cVi (ct_took p wEven hs hT hR5 hps5 st_X10_177 wd_X10_177) hvX10_took hyX10_took rfl ⟨by dsimp only; omega, by dsimp only; omega⟩ ⟨Nat.zero_le _, Nat.zero_le _⟩ rfl (Nat.le_of_ble_eq_true rfl) dX10_readFact_126 m_rec (fun r u hp => ?_)
                    obtain ⟨a6, b6, t6, v6⟩ := u
                    obtain ⟨hp, hq6⟩ := hp
                    have hR6 : RdP (tape, size_) p a6 b6 t6 v6 := by have h := hq6; unfold opt at h; rw [if_neg (by rw [w5]; decide)] at h; exact h
                    obtain rfl := hp
                    have hps6 : p ≤ size_ := hps5
                    have hb6 : bnd (tape, size_) p := hb5
                    refine GG.topi (y := nI 0) (congrArg bI w5) ?_
                    refine g_if_eq_n (tgt := 141) dX10_readFact_129 (by decide) (by decide) (fun _ => ?_) (fun h => absurd h (by decide))
                    refine g_aload_n 0 dX10_readFact_141 rfl rfl ?_
                    refine g_ldcS st_X10_179 dX10_readFact_142 ?_
                    refine m_cVi (ct_took p wSame hs hT hR6 hps6 st_X10_179 wd_X10_179) hvX10_took hyX10_took rfl ⟨by dsimp only; omega, by dsimp only; omega⟩ ⟨Nat.zero_le _, Nat.zero_le _⟩ rfl (Nat.le_of_ble_eq_true rfl) dX10_readFact_144 m_rec (fun r u hp => ?_)
                    obtain ⟨a7, b7, t7, v7⟩ := u
                    obtain ⟨hp, hq7⟩ := hp
                    have hR7 : RdP (tape, size_) p a7 b7 t7 v7 := by have h := hq7; unfold opt at h; rw [if_neg (by rw [w6]; decide)] at h; exact h
                    obtain rfl := hp
                    have hps7 : p ≤ size_ := hps6
                    have hb7 : bnd (tape, size_) p := hb6
                    refine GG.topi (y := nI 0) (congrArg bI w6) ?_
                    refine g_if_eq_n (tgt := 159) dX10_readFact_147 (by decide) (by decide) (fun _ => ?_) (fun h => absurd h (by decide))
                    refine g_aload_n 0 dX10_readFact_159 rfl rfl ?_
                    refine g_ldcS st_X10_181 dX10_readFact_160 ?_
                    refine m_cVi (ct_took p wAbove hs hT hR7 hps7 st_X10_181 wd_X10_181) hvX10_took hyX10_took rfl ⟨by dsimp only; omega, by dsimp only; omega⟩ ⟨Nat.zero_le _, Nat.zero_le _⟩ rfl (Nat.le_of_ble_eq_true rfl) dX10_readFact_162 m_rec (fun r u hp => ?_)
                    obtain ⟨a8, b8, t8, v8⟩ := u
                    obtain ⟨hp, hq8⟩ := hp
                    have hR8 : RdP (tape, size_) (tkE (tape, size_) p) a8 b8 t8 v8 := by have h := hq8; unfold opt at h; rw [if_pos w7] at h; exact h
                    obtain rfl := hp
                    have hps8 : (tkE (tape, size_) p) ≤ size_ := tkE_le (X := (tape, size_)) hps7
                    have hb8 : bnd (tape, size_) (tkE (tape, size_) p) := bnd_W w7
                    refine GG.topi (y := nI 1) (congrArg bI w7) ?_
                    refine g_if_eq_n (tgt := 183) dX10_readFact_165 (by decide) (by decide) (fun h => absurd h (by decide)) (fun _ => ?_)
                    refine g_aload_n 0 dX10_readFact_168 rfl rfl ?_
                    refine g_bipush (v := nI 8) dX10_readFact_169 (by decide +kernel) ?_
                    refine g_aload_n 0 dX10_readFact_171 rfl rfl ?_
                    refine g_iconst (v := nI 0) dX10_readFact_172 (by decide +kernel) ?_
                    refine g_bipush (v := nI 120) dX10_readFact_173 (by decide +kernel) ?_
                    refine m_cVi (ct_number (tkE (tape, size_) p) 0 121 _ hs hT hR8 hps8 (by decide +kernel) (by first | decide | omega) (by decide)) hvX10_number hyX10_number rfl ⟨by dsimp only; omega, by dsimp only; omega⟩ ⟨Nat.zero_le _, Nat.zero_le _⟩ rfl (Nat.le_of_ble_eq_true rfl) dX10_readFact_175 m_rec (fun r u hp => ?_)
                    obtain ⟨a9, b9, t9, v9, bd9, bp9⟩ := u
                    obtain ⟨hr9, hv9, hw9⟩ := hp
                    obtain ⟨hz9, hR9, hq9⟩ := hr9.isok hq
                    have hz9 : bd9 = 0 := hz9
                    subst hz9
                    have hps9 : q ≤ size_ := hq9
                    have hb9 : bnd (tape, size_) q := (pNum_phi hq).1
                    refine GG.topi (hv9 x q hq) ?_
                    refine g_iconst (v := -1) dX10_readFact_178 (by decide +kernel) ?_
                    refine m_cVi (ct_mark M _ _ _ hM (by have : phi (tape, size_) p + 5 + 1 ≤ _ := phi_W hb w7; have := (pNum_phi hq).2; have := (phi_le (tape, size_) q).2; omega)) hvX10_mark hyX10_mark rfl ⟨by dsimp only; omega, by dsimp only; omega⟩ ⟨Nat.zero_le _, Nat.zero_le _⟩ rfl (Nat.le_of_ble_eq_true rfl) dX10_readFact_179 m_rec (fun r u hp => ?_)
                    obtain ⟨hp, hu10⟩ := hp
                    have hu10 : u = _ := hu10
                    subst hu10
                    obtain rfl := hp
                    exact g_iret (_, _, _, _, _, _, _) dX10_readFact_182 (Nat.le_refl _) (Nat.le_refl _) (by exact ⟨RdR.ok hr hR9 hps9, RdE.leaf hr (by have : phi (tape, size_) p + 5 + 1 ≤ _ := phi_W hb w7; have := (pNum_phi hq).2; omega) hb9 (SayB.up (Nat.le_refl _) (Nat.le_refl _) (Nat.le_refl _) (fun _ _ _ => rfl) _ _ _ _ (by omega) (SB_above (d := 0) hxn.2.2.2.1))⟩) (fun _ h => h)
              · skip
                have w6 := hw6
                skip
                · skip
                  have hr : pE (tape, size_) ns (n + 1) 0 open_ [] p = PR.ok sSame (tkE (tape, size_) p) := by rw [hstep]; unfold pStep; rw [if_pos rfl, if_neg (by rw [w0]; decide), if_neg (by rw [w1]; decide), if_neg (by rw [w2]; decide), if_neg (by rw [w3]; decide), if_neg (by rw [w4]; decide), if_neg (by rw [w5]; decide), if_pos w6]
                  refine g_aload_n 0 dX10_readFact_0 rfl rfl ?_
                  refine g_ldcS st_X10_153 dX10_readFact_1 ?_
                  refine m_cVi (ct_isWord p wNot hs hT hR hps st_X10_153 wd_X10_153) hvX10_isWord hyX10_isWord rfl ⟨by dsimp only; omega, by dsimp only; omega⟩ ⟨Nat.zero_le _, Nat.zero_le _⟩ rfl (Nat.le_of_ble_eq_true rfl) dX10_readFact_3 m_rec (fun r u9 hp => ?_)
                  obtain rfl := hp
                  refine GG.topi (y := nI 0) (congrArg bI w0) ?_
                  refine g_if_eq_n (tgt := 36) dX10_readFact_6 (by decide) (by decide) (fun _ => ?_) (fun h => absurd h (by decide))
                  refine g_aload_n 0 dX10_readFact_36 rfl rfl ?_
                  refine g_bipush (v := nI 40) dX10_readFact_37 (by decide +kernel) ?_
                  refine m_cVi (ct_isSign p _ hs hT hR hps (by decide)) hvX10_isSign hyX10_isSign rfl ⟨by dsimp only; omega, by dsimp only; omega⟩ ⟨Nat.zero_le _, Nat.zero_le _⟩ rfl (Nat.le_of_ble_eq_true rfl) dX10_readFact_39 m_rec (fun r u9 hp => ?_)
                  obtain rfl := hp
                  refine GG.topi (y := nI 0) (congrArg bI w1) ?_
                  refine g_if_eq_n (tgt := 50) dX10_readFact_42 (by decide) (by decide) (fun _ => ?_) (fun h => absurd h (by decide))
                  refine g_aload_n 0 dX10_readFact_50 rfl rfl ?_
                  refine g_ldcS st_X10_165 dX10_readFact_51 ?_
                  refine m_cVi (ct_took p wKnows hs hT hR hps st_X10_165 wd_X10_165) hvX10_took hyX10_took rfl ⟨by dsimp only; omega, by dsimp only; omega⟩ ⟨Nat.zero_le _, Nat.zero_le _⟩ rfl (Nat.le_of_ble_eq_true rfl) dX10_readFact_53 m_rec (fun r u hp => ?_)
                  obtain ⟨a3, b3, t3, v3⟩ := u
                  obtain ⟨hp, hq3⟩ := hp
                  have hR3 : RdP (tape, size_) p a3 b3 t3 v3 := by have h := hq3; unfold opt at h; rw [if_neg (by rw [w2]; decide)] at h; exact h
                  obtain rfl := hp
                  have hps3 : p ≤ size_ := hps
                  have hb3 : bnd (tape, size_) p := hb
                  refine GG.topi (y := nI 0) (congrArg bI w2) ?_
                  refine g_if_eq_n (tgt := 70) dX10_readFact_56 (by decide) (by decide) (fun _ => ?_) (fun h => absurd h (by decide))
                  refine g_aload_n 0 dX10_readFact_70 rfl rfl ?_
                  refine g_ldcS st_X10_173 dX10_readFact_71 ?_
                  refine m_cVi (ct_took p wSees hs hT hR3 hps3 st_X10_173 wd_X10_173) hvX10_took hyX10_took rfl ⟨by dsimp only; omega, by dsimp only; omega⟩ ⟨Nat.zero_le _, Nat.zero_le _⟩ rfl (Nat.le_of_ble_eq_true rfl) dX10_readFact_73 m_rec (fun r u hp => ?_)
                  obtain ⟨a4, b4, t4, v4⟩ := u
                  obtain ⟨hp, hq4⟩ := hp
                  have hR4 : RdP (tape, size_) p a4 b4 t4 v4 := by have h := hq4; unfold opt at h; rw [if_neg (by rw [w3]; decide)] at h; exact h
                  obtain rfl := hp
                  have hps4 : p ≤ size_ := hps3
                  have hb4 : bnd (tape, size_) p := hb3
                  refine GG.topi (y := nI 0) (congrArg bI w3) ?_
                  refine g_if_eq_n (tgt := 95) dX10_readFact_76 (by decide) (by decide) (fun _ => ?_) (fun h => absurd h (by decide))
                  refine g_aload_n 0 dX10_readFact_95 rfl rfl ?_
                  refine g_ldcS st_X10_175 dX10_readFact_96 ?_
                  refine m_cVi (ct_took p wWas hs hT hR4 hps4 st_X10_175 wd_X10_175) hvX10_took hyX10_took rfl ⟨by dsimp only; omega, by dsimp only; omega⟩ ⟨Nat.zero_le _, Nat.zero_le _⟩ rfl (Nat.le_of_ble_eq_true rfl) dX10_readFact_98 m_rec (fun r u hp => ?_)
                  obtain ⟨a5, b5, t5, v5⟩ := u
                  obtain ⟨hp, hq5⟩ := hp
                  have hR5 : RdP (tape, size_) p a5 b5 t5 v5 := by have h := hq5; unfold opt at h; rw [if_neg (by rw [w4]; decide)] at h; exact h
                  obtain rfl := hp
                  have hps5 : p ≤ size_ := hps4
                  have hb5 : bnd (tape, size_) p := hb4
                  refine GG.topi (y := nI 0) (congrArg bI w4) ?_
                  refine g_if_eq_n (tgt := 123) dX10_readFact_101 (by decide) (by decide) (fun _ => ?_) (fun h => absurd h (by decide))
                  refine g_aload_n 0 dX10_readFact_123 rfl rfl ?_
                  refine g_ldcS st_X10_177 dX10_readFact_124 ?_
                  refine m_cVi (ct_took p wEven hs hT hR5 hps5 st_X10_177 wd_X10_177) hvX10_took hyX10_took rfl ⟨by dsimp only; omega, by dsimp only; omega⟩ ⟨Nat.zero_le _, Nat.zero_le _⟩ rfl (Nat.le_of_ble_eq_true rfl) dX10_readFact_126 m_rec (fun r u hp => ?_)
                  obtain ⟨a6, b6, t6, v6⟩ := u
                  obtain ⟨hp, hq6⟩ := hp
                  have hR6 : RdP (tape, size_) p a6 b6 t6 v6 := by have h := hq6; unfold opt at h; rw [if_neg (by rw [w5]; decide)] at h; exact h
                  obtain rfl := hp
                  have hps6 : p ≤ size_ := hps5
                  have hb6 : bnd (tape, size_) p := hb5
                  refine GG.topi (y := nI 0) (congrArg bI w5) ?_
                  refine g_if_eq_n (tgt := 141) dX10_readFact_129 (by decide) (by decide) (fun _ => ?_) (fun h => absurd h (by decide))
                  refine g_aload_n 0 dX10_readFact_141 rfl rfl ?_
                  refine g_ldcS st_X10_179 dX10_readFact_142 ?_
                  refine m_cVi (ct_took p wSame hs hT hR6 hps6 st_X10_179 wd_X10_179) hvX10_took hyX10_took rfl ⟨by dsimp only; omega, by dsimp only; omega⟩ ⟨Nat.zero_le _, Nat.zero_le _⟩ rfl (Nat.le_of_ble_eq_true rfl) dX10_readFact_144 m_rec (fun r u hp => ?_)
                  obtain ⟨a7, b7, t7, v7⟩ := u
                  obtain ⟨hp, hq7⟩ := hp
                  have hR7 : RdP (tape, size_) (tkE (tape, size_) p) a7 b7 t7 v7 := by have h := hq7; unfold opt at h; rw [if_pos w6] at h; exact h
                  obtain rfl := hp
                  have hps7 : (tkE (tape, size_) p) ≤ size_ := tkE_le (X := (tape, size_)) hps6
                  have hb7 : bnd (tape, size_) (tkE (tape, size_) p) := bnd_W w6
                  refine GG.topi (y := nI 1) (congrArg bI w6) ?_
                  refine g_if_eq_n (tgt := 159) dX10_readFact_147 (by decide) (by decide) (fun h => absurd h (by decide)) (fun _ => ?_)
                  refine g_aload_n 0 dX10_readFact_150 rfl rfl ?_
                  refine g_bipush (v := nI 7) dX10_readFact_151 (by decide +kernel) ?_
                  refine g_iconst (v := nI 0) dX10_readFact_153 (by decide +kernel) ?_
                  refine g_iconst (v := -1) dX10_readFact_154 (by decide +kernel) ?_
                  refine m_cVi (ct_mark M _ _ _ hM (by have : phi (tape, size_) p + 4 + 1 ≤ _ := phi_W hb w6; have := (phi_le (tape, size_) (tkE (tape, size_) p)).2; omega)) hvX10_mark hyX10_mark rfl ⟨by dsimp only; omega, by dsimp only; omega⟩ ⟨Nat.zero_le _, Nat.zero_le _⟩ rfl (Nat.le_of_ble_eq_true rfl) dX10_readFact_155 m_rec (fun r u hp => ?_)
                  obtain ⟨hp, hu8⟩ := hp
                  have hu8 : u = _ := hu8
                  subst hu8
                  obtain rfl := hp
                  exact g_iret (_, _, _, _, _, _, _) dX10_readFact_158 (Nat.le_refl _) (Nat.le_refl _) (by exact ⟨RdR.ok hr hR7 hps7, RdE.leaf hr (by have : phi (tape, size_) p + 4 + 1 ≤ _ := phi_W hb w6; omega) hb7 (SayB.up (Nat.le_refl _) (Nat.le_refl _) (Nat.le_refl _) (fun _ _ _ => rfl) _ _ _ _ (by omega) (SB_same (d := 0)))⟩) (fun _ h => h)
            · skip
              have w5 := hw5
              skip
              · skip
                have hr : pE (tape, size_) ns (n + 1) 0 open_ [] p = PR.ok sEven (tkE (tape, size_) p) := by rw [hstep]; unfold pStep; rw [if_pos rfl, if_neg (by rw [w0]; decide), if_neg (by rw [w1]; decide), if_neg (by rw [w2]; decide), if_neg (by rw [w3]; decide), if_neg (by rw [w4]; decide), if_pos w5]
                refine g_aload_n 0 dX10_readFact_0 rfl rfl ?_
                refine g_ldcS st_X10_153 dX10_readFact_1 ?_
                refine m_cVi (ct_isWord p wNot hs hT hR hps st_X10_153 wd_X10_153) hvX10_isWord hyX10_isWord rfl ⟨by dsimp only; omega, by dsimp only; omega⟩ ⟨Nat.zero_le _, Nat.zero_le _⟩ rfl (Nat.le_of_ble_eq_true rfl) dX10_readFact_3 m_rec (fun r u9 hp => ?_)
                obtain rfl := hp
                refine GG.topi (y := nI 0) (congrArg bI w0) ?_
                refine g_if_eq_n (tgt := 36) dX10_readFact_6 (by decide) (by decide) (fun _ => ?_) (fun h => absurd h (by decide))
                refine g_aload_n 0 dX10_readFact_36 rfl rfl ?_
                refine g_bipush (v := nI 40) dX10_readFact_37 (by decide +kernel) ?_
                refine m_cVi (ct_isSign p _ hs hT hR hps (by decide)) hvX10_isSign hyX10_isSign rfl ⟨by dsimp only; omega, by dsimp only; omega⟩ ⟨Nat.zero_le _, Nat.zero_le _⟩ rfl (Nat.le_of_ble_eq_true rfl) dX10_readFact_39 m_rec (fun r u9 hp => ?_)
                obtain rfl := hp
                refine GG.topi (y := nI 0) (congrArg bI w1) ?_
                refine g_if_eq_n (tgt := 50) dX10_readFact_42 (by decide) (by decide) (fun _ => ?_) (fun h => absurd h (by decide))
                refine g_aload_n 0 dX10_readFact_50 rfl rfl ?_
                refine g_ldcS st_X10_165 dX10_readFact_51 ?_
                refine m_cVi (ct_took p wKnows hs hT hR hps st_X10_165 wd_X10_165) hvX10_took hyX10_took rfl ⟨by dsimp only; omega, by dsimp only; omega⟩ ⟨Nat.zero_le _, Nat.zero_le _⟩ rfl (Nat.le_of_ble_eq_true rfl) dX10_readFact_53 m_rec (fun r u hp => ?_)
                obtain ⟨a3, b3, t3, v3⟩ := u
                obtain ⟨hp, hq3⟩ := hp
                have hR3 : RdP (tape, size_) p a3 b3 t3 v3 := by have h := hq3; unfold opt at h; rw [if_neg (by rw [w2]; decide)] at h; exact h
                obtain rfl := hp
                have hps3 : p ≤ size_ := hps
                have hb3 : bnd (tape, size_) p := hb
                refine GG.topi (y := nI 0) (congrArg bI w2) ?_
                refine g_if_eq_n (tgt := 70) dX10_readFact_56 (by decide) (by decide) (fun _ => ?_) (fun h => absurd h (by decide))
                refine g_aload_n 0 dX10_readFact_70 rfl rfl ?_
                refine g_ldcS st_X10_173 dX10_readFact_71 ?_
                refine m_cVi (ct_took p wSees hs hT hR3 hps3 st_X10_173 wd_X10_173) hvX10_took hyX10_took rfl ⟨by dsimp only; omega, by dsimp only; omega⟩ ⟨Nat.zero_le _, Nat.zero_le _⟩ rfl (Nat.le_of_ble_eq_true rfl) dX10_readFact_73 m_rec (fun r u hp => ?_)
                obtain ⟨a4, b4, t4, v4⟩ := u
                obtain ⟨hp, hq4⟩ := hp
                have hR4 : RdP (tape, size_) p a4 b4 t4 v4 := by have h := hq4; unfold opt at h; rw [if_neg (by rw [w3]; decide)] at h; exact h
                obtain rfl := hp
                have hps4 : p ≤ size_ := hps3
                have hb4 : bnd (tape, size_) p := hb3
                refine GG.topi (y := nI 0) (congrArg bI w3) ?_
                refine g_if_eq_n (tgt := 95) dX10_readFact_76 (by decide) (by decide) (fun _ => ?_) (fun h => absurd h (by decide))
                refine g_aload_n 0 dX10_readFact_95 rfl rfl ?_
                refine g_ldcS st_X10_175 dX10_readFact_96 ?_
                refine m_cVi (ct_took p wWas hs hT hR4 hps4 st_X10_175 wd_X10_175) hvX10_took hyX10_took rfl ⟨by dsimp only; omega, by dsimp only; omega⟩ ⟨Nat.zero_le _, Nat.zero_le _⟩ rfl (Nat.le_of_ble_eq_true rfl) dX10_readFact_98 m_rec (fun r u hp => ?_)
                obtain ⟨a5, b5, t5, v5⟩ := u
                obtain ⟨hp, hq5⟩ := hp
                have hR5 : RdP (tape, size_) p a5 b5 t5 v5 := by have h := hq5; unfold opt at h; rw [if_neg (by rw [w4]; decide)] at h; exact h
                obtain rfl := hp
                have hps5 : p ≤ size_ := hps4
                have hb5 : bnd (tape, size_) p := hb4
                refine GG.topi (y := nI 0) (congrArg bI w4) ?_
                refine g_if_eq_n (tgt := 123) dX10_readFact_101 (by decide) (by decide) (fun _ => ?_) (fun h => absurd h (by decide))
                refine g_aload_n 0 dX10_readFact_123 rfl rfl ?_
                refine g_ldcS st_X10_177 dX10_readFact_124 ?_
                refine m_cVi (ct_took p wEven hs hT hR5 hps5 st_X10_177 wd_X10_177) hvX10_took hyX10_took rfl ⟨by dsimp only; omega, by dsimp only; omega⟩ ⟨Nat.zero_le _, Nat.zero_le _⟩ rfl (Nat.le_of_ble_eq_true rfl) dX10_readFact_126 m_rec (fun r u hp => ?_)
                obtain ⟨a6, b6, t6, v6⟩ := u
                obtain ⟨hp, hq6⟩ := hp
                have hR6 : RdP (tape, size_) (tkE (tape, size_) p) a6 b6 t6 v6 := by have h := hq6; unfold opt at h; rw [if_pos w5] at h; exact h
                obtain rfl := hp
                have hps6 : (tkE (tape, size_) p) ≤ size_ := tkE_le (X := (tape, size_)) hps5
                have hb6 : bnd (tape, size_) (tkE (tape, size_) p) := bnd_W w5
                refine GG.topi (y := nI 1) (congrArg bI w5) ?_
                refine g_if_eq_n (tgt := 141) dX10_readFact_129 (by decide) (by decide) (fun h => absurd h (by decide)) (fun _ => ?_)
                refine g_aload_n 0 dX10_readFact_132 rfl rfl ?_
                refine g_bipush (v := nI 6) dX10_readFact_133 (by decide +kernel) ?_
                refine g_iconst (v := nI 0) dX10_readFact_135 (by decide +kernel) ?_
                refine g_iconst (v := -1) dX10_readFact_136 (by decide +kernel) ?_
                refine m_cVi (ct_mark M _ _ _ hM (by have : phi (tape, size_) p + 4 + 1 ≤ _ := phi_W hb w5; have := (phi_le (tape, size_) (tkE (tape, size_) p)).2; omega)) hvX10_mark hyX10_mark rfl ⟨by dsimp only; omega, by dsimp only; omega⟩ ⟨Nat.zero_le _, Nat.zero_le _⟩ rfl (Nat.le_of_ble_eq_true rfl) dX10_readFact_137 m_rec (fun r u hp => ?_)
                obtain ⟨hp, hu7⟩ := hp
                have hu7 : u = _ := hu7
                subst hu7
                obtain rfl := hp
                exact g_iret (_, _, _, _, _, _, _) dX10_readFact_140 (Nat.le_refl _) (Nat.le_refl _) (by exact ⟨RdR.ok hr hR6 hps6, RdE.leaf hr (by have : phi (tape, size_) p + 4 + 1 ≤ _ := phi_W hb w5; omega) hb6 (SayB.up (Nat.le_refl _) (Nat.le_refl _) (Nat.le_refl _) (fun _ _ _ => rfl) _ _ _ _ (by omega) (SB_even (d := 0)))⟩) (fun _ h => h)
          · skip
            have w4 := hw4
            rcases hq : pNum (tape, size_) 0 21 (tkE (tape, size_) p) with ⟨k, l9⟩ | ⟨x, q⟩
            · skip
              have hr : pE (tape, size_) ns (n + 1) 0 open_ [] p = PR.no k l9 := by rw [hstep]; unfold pStep; rw [if_pos rfl, if_neg (by rw [w0]; decide), if_neg (by rw [w1]; decide), if_neg (by rw [w2]; decide), if_neg (by rw [w3]; decide), if_pos w4, hq]; rfl
              refine g_aload_n 0 dX10_readFact_0 rfl rfl ?_
              refine g_ldcS st_X10_153 dX10_readFact_1 ?_
              refine m_cVi (ct_isWord p wNot hs hT hR hps st_X10_153 wd_X10_153) hvX10_isWord hyX10_isWord rfl ⟨by dsimp only; omega, by dsimp only; omega⟩ ⟨Nat.zero_le _, Nat.zero_le _⟩ rfl (Nat.le_of_ble_eq_true rfl) dX10_readFact_3 m_rec (fun r u9 hp => ?_)
              obtain rfl := hp
              refine GG.topi (y := nI 0) (congrArg bI w0) ?_
              refine g_if_eq_n (tgt := 36) dX10_readFact_6 (by decide) (by decide) (fun _ => ?_) (fun h => absurd h (by decide))
              refine g_aload_n 0 dX10_readFact_36 rfl rfl ?_
              refine g_bipush (v := nI 40) dX10_readFact_37 (by decide +kernel) ?_
              refine m_cVi (ct_isSign p _ hs hT hR hps (by decide)) hvX10_isSign hyX10_isSign rfl ⟨by dsimp only; omega, by dsimp only; omega⟩ ⟨Nat.zero_le _, Nat.zero_le _⟩ rfl (Nat.le_of_ble_eq_true rfl) dX10_readFact_39 m_rec (fun r u9 hp => ?_)
              obtain rfl := hp
              refine GG.topi (y := nI 0) (congrArg bI w1) ?_
              refine g_if_eq_n (tgt := 50) dX10_readFact_42 (by decide) (by decide) (fun _ => ?_) (fun h => absurd h (by decide))
              refine g_aload_n 0 dX10_readFact_50 rfl rfl ?_
              refine g_ldcS st_X10_165 dX10_readFact_51 ?_
              refine m_cVi (ct_took p wKnows hs hT hR hps st_X10_165 wd_X10_165) hvX10_took hyX10_took rfl ⟨by dsimp only; omega, by dsimp only; omega⟩ ⟨Nat.zero_le _, Nat.zero_le _⟩ rfl (Nat.le_of_ble_eq_true rfl) dX10_readFact_53 m_rec (fun r u hp => ?_)
              obtain ⟨a3, b3, t3, v3⟩ := u
              obtain ⟨hp, hq3⟩ := hp
              have hR3 : RdP (tape, size_) p a3 b3 t3 v3 := by have h := hq3; unfold opt at h; rw [if_neg (by rw [w2]; decide)] at h; exact h
              obtain rfl := hp
              have hps3 : p ≤ size_ := hps
              have hb3 : bnd (tape, size_) p := hb
              refine GG.topi (y := nI 0) (congrArg bI w2) ?_
              refine g_if_eq_n (tgt := 70) dX10_readFact_56 (by decide) (by decide) (fun _ => ?_) (fun h => absurd h (by decide))
              refine g_aload_n 0 dX10_readFact_70 rfl rfl ?_
              refine g_ldcS st_X10_173 dX10_readFact_71 ?_
              refine m_cVi (ct_took p wSees hs hT hR3 hps3 st_X10_173 wd_X10_173) hvX10_took hyX10_took rfl ⟨by dsimp only; omega, by dsimp only; omega⟩ ⟨Nat.zero_le _, Nat.zero_le _⟩ rfl (Nat.le_of_ble_eq_true rfl) dX10_readFact_73 m_rec (fun r u hp => ?_)
              obtain ⟨a4, b4, t4, v4⟩ := u
              obtain ⟨hp, hq4⟩ := hp
              have hR4 : RdP (tape, size_) p a4 b4 t4 v4 := by have h := hq4; unfold opt at h; rw [if_neg (by rw [w3]; decide)] at h; exact h
              obtain rfl := hp
              have hps4 : p ≤ size_ := hps3
              have hb4 : bnd (tape, size_) p := hb3
              refine GG.topi (y := nI 0) (congrArg bI w3) ?_
              refine g_if_eq_n (tgt := 95) dX10_readFact_76 (by decide) (by decide) (fun _ => ?_) (fun h => absurd h (by decide))
              refine g_aload_n 0 dX10_readFact_95 rfl rfl ?_
              refine g_ldcS st_X10_175 dX10_readFact_96 ?_
              refine m_cVi (ct_took p wWas hs hT hR4 hps4 st_X10_175 wd_X10_175) hvX10_took hyX10_took rfl ⟨by dsimp only; omega, by dsimp only; omega⟩ ⟨Nat.zero_le _, Nat.zero_le _⟩ rfl (Nat.le_of_ble_eq_true rfl) dX10_readFact_98 m_rec (fun r u hp => ?_)
              obtain ⟨a5, b5, t5, v5⟩ := u
              obtain ⟨hp, hq5⟩ := hp
              have hR5 : RdP (tape, size_) (tkE (tape, size_) p) a5 b5 t5 v5 := by have h := hq5; unfold opt at h; rw [if_pos w4] at h; exact h
              obtain rfl := hp
              have hps5 : (tkE (tape, size_) p) ≤ size_ := tkE_le (X := (tape, size_)) hps4
              have hb5 : bnd (tape, size_) (tkE (tape, size_) p) := bnd_W w4
              refine GG.topi (y := nI 1) (congrArg bI w4) ?_
              refine g_if_eq_n (tgt := 123) dX10_readFact_101 (by decide) (by decide) (fun h => absurd h (by decide)) (fun _ => ?_)
              refine g_aload_n 0 dX10_readFact_104 rfl rfl ?_
              refine g_iconst (v := nI 0) dX10_readFact_105 (by decide +kernel) ?_
              refine g_bipush (v := nI 20) dX10_readFact_106 (by decide +kernel) ?_
              refine m_cVi (ct_number (tkE (tape, size_) p) 0 21 _ hs hT hR5 hps5 (by decide +kernel) (by first | decide | omega) (by decide)) hvX10_number hyX10_number rfl ⟨by dsimp only; omega, by dsimp only; omega⟩ ⟨Nat.zero_le _, Nat.zero_le _⟩ rfl (Nat.le_of_ble_eq_true rfl) dX10_readFact_108 m_rec (fun r u hp => ?_)
              obtain ⟨a6, b6, t6, v6, bd6, bp6⟩ := u
              obtain ⟨hr6, hv6, hw6⟩ := hp
              obtain ⟨ht4, hv9, hk6, hl6, hbd⟩ := hr6.isno hq
              refine GG.topi (hw6 (by show ¬ bd6 = 0; have : 0 < bd6 := hbd.1; omega)) ?_
              have hbd : 0 < bd6 ∧ bd6 < 10 := hbd
              refine g_istore_n (L' := [(0, _), (1, _)]) 1 dX10_readFact_111 rfl (by decide) rfl rfl ?_
              refine g_aload_n 0 dX10_readFact_112 rfl rfl ?_
              refine g_iconst (v := nI 5) dX10_readFact_113 (by decide +kernel) ?_
              refine g_iload_n 1 dX10_readFact_114 rfl rfl ?_
              refine g_aload_n 0 dX10_readFact_115 rfl rfl ?_
              refine m_cVi (ct_readWithin_bad hbd (by omega)) hvX10_readWithin hyX10_readWithin rfl ⟨by dsimp only; omega, by dsimp only; omega⟩ ⟨Nat.zero_le _, Nat.zero_le _⟩ rfl (Nat.le_of_ble_eq_true rfl) dX10_readFact_116 m_rec (fun r u9 hp => ?_)
              obtain rfl := hp
              refine GG.topi (y := nI 0) rfl ?_
              refine m_cVi (ct_mark_bad _ _ _ hbd) hvX10_mark hyX10_mark rfl ⟨by dsimp only; omega, by dsimp only; omega⟩ ⟨Nat.zero_le _, Nat.zero_le _⟩ rfl (Nat.le_of_ble_eq_true rfl) dX10_readFact_119 m_rec (fun r u9 hp => ?_)
              obtain rfl := hp
              refine GG.topi (y := nI 0) rfl ?_
              exact g_iret (_, _, _, _, _, _, _) dX10_readFact_122 (Nat.le_refl _) (Nat.le_refl _) (by exact ⟨RdR.no hr (by first | exact ht4 | exact RdP.t4 (by assumption)) (by first | exact hv9 | exact RdP.v9 (by assumption)) (by first | assumption | exact bad_k (by assumption) (by assumption)) (by first | assumption | exact bad_l (by assumption) (by assumption)) hbd, RdE.no hr⟩) (fun _ h => h)
            · skip
              have hxn := pNum_ok hq
              rcases hq2 : pE (tape, size_) ns n 1 open_ [] q with ⟨k, l9⟩ | ⟨f, q2⟩
              · skip
                have hr : pE (tape, size_) ns (n + 1) 0 open_ [] p = PR.no k l9 := by rw [hstep]; unfold pStep; rw [if_pos rfl, if_neg (by rw [w0]; decide), if_neg (by rw [w1]; decide), if_neg (by rw [w2]; decide), if_neg (by rw [w3]; decide), if_pos w4, hq]; show PR.bind (pE (tape, size_) ns n 1 open_ [] q) _ = _; rw [hq2]; rfl
                refine g_aload_n 0 dX10_readFact_0 rfl rfl ?_
                refine g_ldcS st_X10_153 dX10_readFact_1 ?_
                refine m_cVi (ct_isWord p wNot hs hT hR hps st_X10_153 wd_X10_153) hvX10_isWord hyX10_isWord rfl ⟨by dsimp only; omega, by dsimp only; omega⟩ ⟨Nat.zero_le _, Nat.zero_le _⟩ rfl (Nat.le_of_ble_eq_true rfl) dX10_readFact_3 m_rec (fun r u9 hp => ?_)
                obtain rfl := hp
                refine GG.topi (y := nI 0) (congrArg bI w0) ?_
                refine g_if_eq_n (tgt := 36) dX10_readFact_6 (by decide) (by decide) (fun _ => ?_) (fun h => absurd h (by decide))
                refine g_aload_n 0 dX10_readFact_36 rfl rfl ?_
                refine g_bipush (v := nI 40) dX10_readFact_37 (by decide +kernel) ?_
                refine m_cVi (ct_isSign p _ hs hT hR hps (by decide)) hvX10_isSign hyX10_isSign rfl ⟨by dsimp only; omega, by dsimp only; omega⟩ ⟨Nat.zero_le _, Nat.zero_le _⟩ rfl (Nat.le_of_ble_eq_true rfl) dX10_readFact_39 m_rec (fun r u9 hp => ?_)
                obtain rfl := hp
                refine GG.topi (y := nI 0) (congrArg bI w1) ?_
                refine g_if_eq_n (tgt := 50) dX10_readFact_42 (by decide) (by decide) (fun _ => ?_) (fun h => absurd h (by decide))
                refine g_aload_n 0 dX10_readFact_50 rfl rfl ?_
                refine g_ldcS st_X10_165 dX10_readFact_51 ?_
                refine m_cVi (ct_took p wKnows hs hT hR hps st_X10_165 wd_X10_165) hvX10_took hyX10_took rfl ⟨by dsimp only; omega, by dsimp only; omega⟩ ⟨Nat.zero_le _, Nat.zero_le _⟩ rfl (Nat.le_of_ble_eq_true rfl) dX10_readFact_53 m_rec (fun r u hp => ?_)
                obtain ⟨a3, b3, t3, v3⟩ := u
                obtain ⟨hp, hq3⟩ := hp
                have hR3 : RdP (tape, size_) p a3 b3 t3 v3 := by have h := hq3; unfold opt at h; rw [if_neg (by rw [w2]; decide)] at h; exact h
                obtain rfl := hp
                have hps3 : p ≤ size_ := hps
                have hb3 : bnd (tape, size_) p := hb
                refine GG.topi (y := nI 0) (congrArg bI w2) ?_
                refine g_if_eq_n (tgt := 70) dX10_readFact_56 (by decide) (by decide) (fun _ => ?_) (fun h => absurd h (by decide))
                refine g_aload_n 0 dX10_readFact_70 rfl rfl ?_
                refine g_ldcS st_X10_173 dX10_readFact_71 ?_
                refine m_cVi (ct_took p wSees hs hT hR3 hps3 st_X10_173 wd_X10_173) hvX10_took hyX10_took rfl ⟨by dsimp only; omega, by dsimp only; omega⟩ ⟨Nat.zero_le _, Nat.zero_le _⟩ rfl (Nat.le_of_ble_eq_true rfl) dX10_readFact_73 m_rec (fun r u hp => ?_)
                obtain ⟨a4, b4, t4, v4⟩ := u
                obtain ⟨hp, hq4⟩ := hp
                have hR4 : RdP (tape, size_) p a4 b4 t4 v4 := by have h := hq4; unfold opt at h; rw [if_neg (by rw [w3]; decide)] at h; exact h
                obtain rfl := hp
                have hps4 : p ≤ size_ := hps3
                have hb4 : bnd (tape, size_) p := hb3
                refine GG.topi (y := nI 0) (congrArg bI w3) ?_
                refine g_if_eq_n (tgt := 95) dX10_readFact_76 (by decide) (by decide) (fun _ => ?_) (fun h => absurd h (by decide))
                refine g_aload_n 0 dX10_readFact_95 rfl rfl ?_
                refine g_ldcS st_X10_175 dX10_readFact_96 ?_
                refine m_cVi (ct_took p wWas hs hT hR4 hps4 st_X10_175 wd_X10_175) hvX10_took hyX10_took rfl ⟨by dsimp only; omega, by dsimp only; omega⟩ ⟨Nat.zero_le _, Nat.zero_le _⟩ rfl (Nat.le_of_ble_eq_true rfl) dX10_readFact_98 m_rec (fun r u hp => ?_)
                obtain ⟨a5, b5, t5, v5⟩ := u
                obtain ⟨hp, hq5⟩ := hp
                have hR5 : RdP (tape, size_) (tkE (tape, size_) p) a5 b5 t5 v5 := by have h := hq5; unfold opt at h; rw [if_pos w4] at h; exact h
                obtain rfl := hp
                have hps5 : (tkE (tape, size_) p) ≤ size_ := tkE_le (X := (tape, size_)) hps4
                have hb5 : bnd (tape, size_) (tkE (tape, size_) p) := bnd_W w4
                refine GG.topi (y := nI 1) (congrArg bI w4) ?_
                refine g_if_eq_n (tgt := 123) dX10_readFact_101 (by decide) (by decide) (fun h => absurd h (by decide)) (fun _ => ?_)
                refine g_aload_n 0 dX10_readFact_104 rfl rfl ?_
                refine g_iconst (v := nI 0) dX10_readFact_105 (by decide +kernel) ?_
                refine g_bipush (v := nI 20) dX10_readFact_106 (by decide +kernel) ?_
                refine m_cVi (ct_number (tkE (tape, size_) p) 0 21 _ hs hT hR5 hps5 (by decide +kernel) (by first | decide | omega) (by decide)) hvX10_number hyX10_number rfl ⟨by dsimp only; omega, by dsimp only; omega⟩ ⟨Nat.zero_le _, Nat.zero_le _⟩ rfl (Nat.le_of_ble_eq_true rfl) dX10_readFact_108 m_rec (fun r u hp => ?_)
                obtain ⟨a6, b6, t6, v6, bd6, bp6⟩ := u
                obtain ⟨hr6, hv6, hw6⟩ := hp
                obtain ⟨hz6, hR6, hq6⟩ := hr6.isok hq
                have hz6 : bd6 = 0 := hz6
                subst hz6
                have hps6 : q ≤ size_ := hq6
                have hb6 : bnd (tape, size_) q := (pNum_phi hq).1
                refine GG.topi (hv6 x q hq) ?_
                refine g_istore_n (L' := [(0, _), (1, _)]) 1 dX10_readFact_111 rfl (by decide) rfl rfl ?_
                refine g_aload_n 0 dX10_readFact_112 rfl rfl ?_
                refine g_iconst (v := nI 5) dX10_readFact_113 (by decide +kernel) ?_
                refine g_iload_n 1 dX10_readFact_114 rfl rfl ?_
                refine g_aload_n 0 dX10_readFact_115 rfl rfl ?_
                refine m_cVi (hW n (Nat.lt_succ_self n) q M ns hs hT hR6 hps6 hb6 hns hn6 hM (by have : phi (tape, size_) p + 3 + 1 ≤ _ := phi_W hb w4; have := (pNum_phi hq).2; omega) (by omega) (okK_n hq2 hr h9)) hvX10_readWithin hyX10_readWithin rfl ⟨by dsimp only; omega, by dsimp only; omega⟩ ⟨Nat.zero_le _, Nat.zero_le _⟩ rfl (Nat.le_of_ble_eq_true rfl) dX10_readFact_116 m_rec (fun r u hp => ?_)
                obtain ⟨fr7, a7, b7, t7, v7, bd7, bp7⟩ := u
                obtain ⟨hr7, he7⟩ := hp
                obtain ⟨ht4, hv9, hk7, hl7, hbd⟩ := hr7.isno hq2
                have hbd : 0 < bd7 ∧ bd7 < 10 := hbd
                refine m_cVi (ct_mark_bad _ _ _ hbd) hvX10_mark hyX10_mark rfl ⟨by dsimp only; omega, by dsimp only; omega⟩ ⟨Nat.zero_le _, Nat.zero_le _⟩ rfl (Nat.le_of_ble_eq_true rfl) dX10_readFact_119 m_rec (fun r u9 hp => ?_)
                obtain rfl := hp
                refine GG.topi (y := nI 0) rfl ?_
                exact g_iret (_, _, _, _, _, _, _) dX10_readFact_122 (Nat.le_refl _) (Nat.le_refl _) (by exact ⟨RdR.no hr (by first | exact ht4 | exact RdP.t4 (by assumption)) (by first | exact hv9 | exact RdP.v9 (by assumption)) (by first | assumption | exact bad_k (by assumption) (by assumption)) (by first | assumption | exact bad_l (by assumption) (by assumption)) hbd, RdE.no hr⟩) (fun _ h => h)
              · skip
                have hr : pE (tape, size_) ns (n + 1) 0 open_ [] p = PR.ok (sWas x f) q2 := by rw [hstep]; unfold pStep; rw [if_pos rfl, if_neg (by rw [w0]; decide), if_neg (by rw [w1]; decide), if_neg (by rw [w2]; decide), if_neg (by rw [w3]; decide), if_pos w4, hq]; show PR.bind (pE (tape, size_) ns n 1 open_ [] q) _ = _; rw [hq2]; rfl
                refine g_aload_n 0 dX10_readFact_0 rfl rfl ?_
                refine g_ldcS st_X10_153 dX10_readFact_1 ?_
                refine m_cVi (ct_isWord p wNot hs hT hR hps st_X10_153 wd_X10_153) hvX10_isWord hyX10_isWord rfl ⟨by dsimp only; omega, by dsimp only; omega⟩ ⟨Nat.zero_le _, Nat.zero_le _⟩ rfl (Nat.le_of_ble_eq_true rfl) dX10_readFact_3 m_rec (fun r u9 hp => ?_)
                obtain rfl := hp
                refine GG.topi (y := nI 0) (congrArg bI w0) ?_
                refine g_if_eq_n (tgt := 36) dX10_readFact_6 (by decide) (by decide) (fun _ => ?_) (fun h => absurd h (by decide))
                refine g_aload_n 0 dX10_readFact_36 rfl rfl ?_
                refine g_bipush (v := nI 40) dX10_readFact_37 (by decide +kernel) ?_
                refine m_cVi (ct_isSign p _ hs hT hR hps (by decide)) hvX10_isSign hyX10_isSign rfl ⟨by dsimp only; omega, by dsimp only; omega⟩ ⟨Nat.zero_le _, Nat.zero_le _⟩ rfl (Nat.le_of_ble_eq_true rfl) dX10_readFact_39 m_rec (fun r u9 hp => ?_)
                obtain rfl := hp
                refine GG.topi (y := nI 0) (congrArg bI w1) ?_
                refine g_if_eq_n (tgt := 50) dX10_readFact_42 (by decide) (by decide) (fun _ => ?_) (fun h => absurd h (by decide))
                refine g_aload_n 0 dX10_readFact_50 rfl rfl ?_
                refine g_ldcS st_X10_165 dX10_readFact_51 ?_
                refine m_cVi (ct_took p wKnows hs hT hR hps st_X10_165 wd_X10_165) hvX10_took hyX10_took rfl ⟨by dsimp only; omega, by dsimp only; omega⟩ ⟨Nat.zero_le _, Nat.zero_le _⟩ rfl (Nat.le_of_ble_eq_true rfl) dX10_readFact_53 m_rec (fun r u hp => ?_)
                obtain ⟨a3, b3, t3, v3⟩ := u
                obtain ⟨hp, hq3⟩ := hp
                have hR3 : RdP (tape, size_) p a3 b3 t3 v3 := by have h := hq3; unfold opt at h; rw [if_neg (by rw [w2]; decide)] at h; exact h
                obtain rfl := hp
                have hps3 : p ≤ size_ := hps
                have hb3 : bnd (tape, size_) p := hb
                refine GG.topi (y := nI 0) (congrArg bI w2) ?_
                refine g_if_eq_n (tgt := 70) dX10_readFact_56 (by decide) (by decide) (fun _ => ?_) (fun h => absurd h (by decide))
                refine g_aload_n 0 dX10_readFact_70 rfl rfl ?_
                refine g_ldcS st_X10_173 dX10_readFact_71 ?_
                refine m_cVi (ct_took p wSees hs hT hR3 hps3 st_X10_173 wd_X10_173) hvX10_took hyX10_took rfl ⟨by dsimp only; omega, by dsimp only; omega⟩ ⟨Nat.zero_le _, Nat.zero_le _⟩ rfl (Nat.le_of_ble_eq_true rfl) dX10_readFact_73 m_rec (fun r u hp => ?_)
                obtain ⟨a4, b4, t4, v4⟩ := u
                obtain ⟨hp, hq4⟩ := hp
                have hR4 : RdP (tape, size_) p a4 b4 t4 v4 := by have h := hq4; unfold opt at h; rw [if_neg (by rw [w3]; decide)] at h; exact h
                obtain rfl := hp
                have hps4 : p ≤ size_ := hps3
                have hb4 : bnd (tape, size_) p := hb3
                refine GG.topi (y := nI 0) (congrArg bI w3) ?_
                refine g_if_eq_n (tgt := 95) dX10_readFact_76 (by decide) (by decide) (fun _ => ?_) (fun h => absurd h (by decide))
                refine g_aload_n 0 dX10_readFact_95 rfl rfl ?_
                refine g_ldcS st_X10_175 dX10_readFact_96 ?_
                refine m_cVi (ct_took p wWas hs hT hR4 hps4 st_X10_175 wd_X10_175) hvX10_took hyX10_took rfl ⟨by dsimp only; omega, by dsimp only; omega⟩ ⟨Nat.zero_le _, Nat.zero_le _⟩ rfl (Nat.le_of_ble_eq_true rfl) dX10_readFact_98 m_rec (fun r u hp => ?_)
                obtain ⟨a5, b5, t5, v5⟩ := u
                obtain ⟨hp, hq5⟩ := hp
                have hR5 : RdP (tape, size_) (tkE (tape, size_) p) a5 b5 t5 v5 := by have h := hq5; unfold opt at h; rw [if_pos w4] at h; exact h
                obtain rfl := hp
                have hps5 : (tkE (tape, size_) p) ≤ size_ := tkE_le (X := (tape, size_)) hps4
                have hb5 : bnd (tape, size_) (tkE (tape, size_) p) := bnd_W w4
                refine GG.topi (y := nI 1) (congrArg bI w4) ?_
                refine g_if_eq_n (tgt := 123) dX10_readFact_101 (by decide) (by decide) (fun h => absurd h (by decide)) (fun _ => ?_)
                refine g_aload_n 0 dX10_readFact_104 rfl rfl ?_
                refine g_iconst (v := nI 0) dX10_readFact_105 (by decide +kernel) ?_
                refine g_bipush (v := nI 20) dX10_readFact_106 (by decide +kernel) ?_
                refine m_cVi (ct_number (tkE (tape, size_) p) 0 21 _ hs hT hR5 hps5 (by decide +kernel) (by first | decide | omega) (by decide)) hvX10_number hyX10_number rfl ⟨by dsimp only; omega, by dsimp only; omega⟩ ⟨Nat.zero_le _, Nat.zero_le _⟩ rfl (Nat.le_of_ble_eq_true rfl) dX10_readFact_108 m_rec (fun r u hp => ?_)
                obtain ⟨a6, b6, t6, v6, bd6, bp6⟩ := u
                obtain ⟨hr6, hv6, hw6⟩ := hp
                obtain ⟨hz6, hR6, hq6⟩ := hr6.isok hq
                have hz6 : bd6 = 0 := hz6
                subst hz6
                have hps6 : q ≤ size_ := hq6
                have hb6 : bnd (tape, size_) q := (pNum_phi hq).1
                refine GG.topi (hv6 x q hq) ?_
                refine g_istore_n (L' := [(0, _), (1, _)]) 1 dX10_readFact_111 rfl (by decide) rfl rfl ?_
                refine g_aload_n 0 dX10_readFact_112 rfl rfl ?_
                refine g_iconst (v := nI 5) dX10_readFact_113 (by decide +kernel) ?_
                refine g_iload_n 1 dX10_readFact_114 rfl rfl ?_
                refine g_aload_n 0 dX10_readFact_115 rfl rfl ?_
                refine m_cVi (hW n (Nat.lt_succ_self n) q M ns hs hT hR6 hps6 hb6 hns hn6 hM (by have : phi (tape, size_) p + 3 + 1 ≤ _ := phi_W hb w4; have := (pNum_phi hq).2; omega) (by omega) (okK_o hq2)) hvX10_readWithin hyX10_readWithin rfl ⟨by dsimp only; omega, by dsimp only; omega⟩ ⟨Nat.zero_le _, Nat.zero_le _⟩ rfl (Nat.le_of_ble_eq_true rfl) dX10_readFact_116 m_rec (fun r u hp => ?_)
                obtain ⟨fr7, a7, b7, t7, v7, bd7, bp7⟩ := u
                obtain ⟨hr7, he7⟩ := hp
                obtain ⟨hz7, hR7, hq7⟩ := hr7.isok hq2
                have hz7 : bd7 = 0 := hz7
                subst hz7
                obtain ⟨M7, m7, g71, g72, g73, g74, g75, g76, g77⟩ := he7 f q2 hq2
                have g73 : fr7 7 = nI M7 := g73
                have hns7 : fr7 5 = nI ns := (g77 5 (by decide) (by omega)).trans hns
                have hph7 : 2 * M ≤ phi (tape, size_) q := (by have : phi (tape, size_) p + 3 + 1 ≤ _ := phi_W hb w4; have := (pNum_phi hq).2; omega)
                have hps7 : q2 ≤ size_ := hq7
                have hb7 : bnd (tape, size_) q2 := g76
                have hlt7 : M7 < 450 := by have := (phi_le (tape, size_) q2).2; omega
                refine GG.topi g72 ?_
                refine m_cVi (ct_mark M7 _ _ _ g73 (by omega)) hvX10_mark hyX10_mark rfl ⟨by dsimp only; omega, by dsimp only; omega⟩ ⟨Nat.zero_le _, Nat.zero_le _⟩ rfl (Nat.le_of_ble_eq_true rfl) dX10_readFact_119 m_rec (fun r u hp => ?_)
                obtain ⟨hp, hu8⟩ := hp
                have hu8 : u = _ := hu8
                subst hu8
                obtain rfl := hp
                exact g_iret (_, _, _, _, _, _, _) dX10_readFact_122 (Nat.le_refl _) (Nat.le_refl _) (by exact ⟨RdR.ok hr hR7 hps7, RdE.sub hr (by have : phi (tape, size_) p + 3 + 1 ≤ _ := phi_W hb w4; have := (pNum_phi hq).2; omega) g71 g75 g76 g77 (SayB.up (Nat.le_refl _) (Nat.le_refl _) (Nat.le_refl _) (fun _ _ _ => rfl) _ _ _ _ (by omega) (SB_was g71 hxn.2.2.2.1 g74))⟩) (fun _ h => h)
        · skip
          have w3 := hw3
          rcases hq : pNum (tape, size_) 0 ns (tkE (tape, size_) p) with ⟨k, l9⟩ | ⟨x, q⟩
          · skip
            have hr : pE (tape, size_) ns (n + 1) 0 open_ [] p = PR.no k l9 := by rw [hstep]; unfold pStep; rw [if_pos rfl, if_neg (by rw [w0]; decide), if_neg (by rw [w1]; decide), if_neg (by rw [w2]; decide), if_pos w3, hq]; rfl
            refine g_aload_n 0 dX10_readFact_0 rfl rfl ?_
            refine g_ldcS st_X10_153 dX10_readFact_1 ?_
            refine m_cVi (ct_isWord p wNot hs hT hR hps st_X10_153 wd_X10_153) hvX10_isWord hyX10_isWord rfl ⟨by dsimp only; omega, by dsimp only; omega⟩ ⟨Nat.zero_le _, Nat.zero_le _⟩ rfl (Nat.le_of_ble_eq_true rfl) dX10_readFact_3 m_rec (fun r u9 hp => ?_)
            obtain rfl := hp
            refine GG.topi (y := nI 0) (congrArg bI w0) ?_
            refine g_if_eq_n (tgt := 36) dX10_readFact_6 (by decide) (by decide) (fun _ => ?_) (fun h => absurd h (by decide))
            refine g_aload_n 0 dX10_readFact_36 rfl rfl ?_
            refine g_bipush (v := nI 40) dX10_readFact_37 (by decide +kernel) ?_
            refine m_cVi (ct_isSign p _ hs hT hR hps (by decide)) hvX10_isSign hyX10_isSign rfl ⟨by dsimp only; omega, by dsimp only; omega⟩ ⟨Nat.zero_le _, Nat.zero_le _⟩ rfl (Nat.le_of_ble_eq_true rfl) dX10_readFact_39 m_rec (fun r u9 hp => ?_)
            obtain rfl := hp
            refine GG.topi (y := nI 0) (congrArg bI w1) ?_
            refine g_if_eq_n (tgt := 50) dX10_readFact_42 (by decide) (by decide) (fun _ => ?_) (fun h => absurd h (by decide))
            refine g_aload_n 0 dX10_readFact_50 rfl rfl ?_
            refine g_ldcS st_X10_165 dX10_readFact_51 ?_
            refine m_cVi (ct_took p wKnows hs hT hR hps st_X10_165 wd_X10_165) hvX10_took hyX10_took rfl ⟨by dsimp only; omega, by dsimp only; omega⟩ ⟨Nat.zero_le _, Nat.zero_le _⟩ rfl (Nat.le_of_ble_eq_true rfl) dX10_readFact_53 m_rec (fun r u hp => ?_)
            obtain ⟨a3, b3, t3, v3⟩ := u
            obtain ⟨hp, hq3⟩ := hp
            have hR3 : RdP (tape, size_) p a3 b3 t3 v3 := by have h := hq3; unfold opt at h; rw [if_neg (by rw [w2]; decide)] at h; exact h
            obtain rfl := hp
            have hps3 : p ≤ size_ := hps
            have hb3 : bnd (tape, size_) p := hb
            refine GG.topi (y := nI 0) (congrArg bI w2) ?_
            refine g_if_eq_n (tgt := 70) dX10_readFact_56 (by decide) (by decide) (fun _ => ?_) (fun h => absurd h (by decide))
            refine g_aload_n 0 dX10_readFact_70 rfl rfl ?_
            refine g_ldcS st_X10_173 dX10_readFact_71 ?_
            refine m_cVi (ct_took p wSees hs hT hR3 hps3 st_X10_173 wd_X10_173) hvX10_took hyX10_took rfl ⟨by dsimp only; omega, by dsimp only; omega⟩ ⟨Nat.zero_le _, Nat.zero_le _⟩ rfl (Nat.le_of_ble_eq_true rfl) dX10_readFact_73 m_rec (fun r u hp => ?_)
            obtain ⟨a4, b4, t4, v4⟩ := u
            obtain ⟨hp, hq4⟩ := hp
            have hR4 : RdP (tape, size_) (tkE (tape, size_) p) a4 b4 t4 v4 := by have h := hq4; unfold opt at h; rw [if_pos w3] at h; exact h
            obtain rfl := hp
            have hps4 : (tkE (tape, size_) p) ≤ size_ := tkE_le (X := (tape, size_)) hps3
            have hb4 : bnd (tape, size_) (tkE (tape, size_) p) := bnd_W w3
            refine GG.topi (y := nI 1) (congrArg bI w3) ?_
            refine g_if_eq_n (tgt := 95) dX10_readFact_76 (by decide) (by decide) (fun h => absurd h (by decide)) (fun _ => ?_)
            refine g_aload_n 0 dX10_readFact_79 rfl rfl ?_
            refine m_cVi (ct_speakerTold (tkE (tape, size_) p) ns hs hT hR4 hps4 hns hn6) hvX10_speakerTold hyX10_speakerTold rfl ⟨by dsimp only; omega, by dsimp only; omega⟩ ⟨Nat.zero_le _, Nat.zero_le _⟩ rfl (Nat.le_of_ble_eq_true rfl) dX10_readFact_80 m_rec (fun r u hp => ?_)
            obtain ⟨a5, b5, t5, v5, bd5, bp5⟩ := u
            obtain ⟨hr5, hv5, hw5⟩ := hp
            obtain ⟨ht4, hv9, hk5, hl5, hbd⟩ := hr5.isno hq
            refine GG.topi (hw5 (by show ¬ bd5 = 0; have : 0 < bd5 := hbd.1; omega)) ?_
            have hbd : 0 < bd5 ∧ bd5 < 10 := hbd
            refine g_istore_n (L' := [(0, _), (1, _)]) 1 dX10_readFact_83 rfl (by decide) rfl rfl ?_
            refine g_aload_n 0 dX10_readFact_84 rfl rfl ?_
            refine g_iconst (v := nI 4) dX10_readFact_85 (by decide +kernel) ?_
            refine g_iload_n 1 dX10_readFact_86 rfl rfl ?_
            refine g_aload_n 0 dX10_readFact_87 rfl rfl ?_
            refine m_cVi (ct_readWithin_bad hbd (by omega)) hvX10_readWithin hyX10_readWithin rfl ⟨by dsimp only; omega, by dsimp only; omega⟩ ⟨Nat.zero_le _, Nat.zero_le _⟩ rfl (Nat.le_of_ble_eq_true rfl) dX10_readFact_88 m_rec (fun r u9 hp => ?_)
            obtain rfl := hp
            refine GG.topi (y := nI 0) rfl ?_
            refine m_cVi (ct_mark_bad _ _ _ hbd) hvX10_mark hyX10_mark rfl ⟨by dsimp only; omega, by dsimp only; omega⟩ ⟨Nat.zero_le _, Nat.zero_le _⟩ rfl (Nat.le_of_ble_eq_true rfl) dX10_readFact_91 m_rec (fun r u9 hp => ?_)
            obtain rfl := hp
            refine GG.topi (y := nI 0) rfl ?_
            exact g_iret (_, _, _, _, _, _, _) dX10_readFact_94 (Nat.le_refl _) (Nat.le_refl _) (by exact ⟨RdR.no hr (by first | exact ht4 | exact RdP.t4 (by assumption)) (by first | exact hv9 | exact RdP.v9 (by assumption)) (by first | assumption | exact bad_k (by assumption) (by assumption)) (by first | assumption | exact bad_l (by assumption) (by assumption)) hbd, RdE.no hr⟩) (fun _ h => h)
          · skip
            have hxn := pNum_ok hq
            rcases hq2 : pE (tape, size_) ns n 1 open_ [] q with ⟨k, l9⟩ | ⟨f, q2⟩
            · skip
              have hr : pE (tape, size_) ns (n + 1) 0 open_ [] p = PR.no k l9 := by rw [hstep]; unfold pStep; rw [if_pos rfl, if_neg (by rw [w0]; decide), if_neg (by rw [w1]; decide), if_neg (by rw [w2]; decide), if_pos w3, hq]; show PR.bind (pE (tape, size_) ns n 1 open_ [] q) _ = _; rw [hq2]; rfl
              refine g_aload_n 0 dX10_readFact_0 rfl rfl ?_
              refine g_ldcS st_X10_153 dX10_readFact_1 ?_
              refine m_cVi (ct_isWord p wNot hs hT hR hps st_X10_153 wd_X10_153) hvX10_isWord hyX10_isWord rfl ⟨by dsimp only; omega, by dsimp only; omega⟩ ⟨Nat.zero_le _, Nat.zero_le _⟩ rfl (Nat.le_of_ble_eq_true rfl) dX10_readFact_3 m_rec (fun r u9 hp => ?_)
              obtain rfl := hp
              refine GG.topi (y := nI 0) (congrArg bI w0) ?_
              refine g_if_eq_n (tgt := 36) dX10_readFact_6 (by decide) (by decide) (fun _ => ?_) (fun h => absurd h (by decide))
              refine g_aload_n 0 dX10_readFact_36 rfl rfl ?_
              refine g_bipush (v := nI 40) dX10_readFact_37 (by decide +kernel) ?_
              refine m_cVi (ct_isSign p _ hs hT hR hps (by decide)) hvX10_isSign hyX10_isSign rfl ⟨by dsimp only; omega, by dsimp only; omega⟩ ⟨Nat.zero_le _, Nat.zero_le _⟩ rfl (Nat.le_of_ble_eq_true rfl) dX10_readFact_39 m_rec (fun r u9 hp => ?_)
              obtain rfl := hp
              refine GG.topi (y := nI 0) (congrArg bI w1) ?_
              refine g_if_eq_n (tgt := 50) dX10_readFact_42 (by decide) (by decide) (fun _ => ?_) (fun h => absurd h (by decide))
              refine g_aload_n 0 dX10_readFact_50 rfl rfl ?_
              refine g_ldcS st_X10_165 dX10_readFact_51 ?_
              refine m_cVi (ct_took p wKnows hs hT hR hps st_X10_165 wd_X10_165) hvX10_took hyX10_took rfl ⟨by dsimp only; omega, by dsimp only; omega⟩ ⟨Nat.zero_le _, Nat.zero_le _⟩ rfl (Nat.le_of_ble_eq_true rfl) dX10_readFact_53 m_rec (fun r u hp => ?_)
              obtain ⟨a3, b3, t3, v3⟩ := u
              obtain ⟨hp, hq3⟩ := hp
              have hR3 : RdP (tape, size_) p a3 b3 t3 v3 := by have h := hq3; unfold opt at h; rw [if_neg (by rw [w2]; decide)] at h; exact h
              obtain rfl := hp
              have hps3 : p ≤ size_ := hps
              have hb3 : bnd (tape, size_) p := hb
              refine GG.topi (y := nI 0) (congrArg bI w2) ?_
              refine g_if_eq_n (tgt := 70) dX10_readFact_56 (by decide) (by decide) (fun _ => ?_) (fun h => absurd h (by decide))
              refine g_aload_n 0 dX10_readFact_70 rfl rfl ?_
              refine g_ldcS st_X10_173 dX10_readFact_71 ?_
              refine m_cVi (ct_took p wSees hs hT hR3 hps3 st_X10_173 wd_X10_173) hvX10_took hyX10_took rfl ⟨by dsimp only; omega, by dsimp only; omega⟩ ⟨Nat.zero_le _, Nat.zero_le _⟩ rfl (Nat.le_of_ble_eq_true rfl) dX10_readFact_73 m_rec (fun r u hp => ?_)
              obtain ⟨a4, b4, t4, v4⟩ := u
              obtain ⟨hp, hq4⟩ := hp
              have hR4 : RdP (tape, size_) (tkE (tape, size_) p) a4 b4 t4 v4 := by have h := hq4; unfold opt at h; rw [if_pos w3] at h; exact h
              obtain rfl := hp
              have hps4 : (tkE (tape, size_) p) ≤ size_ := tkE_le (X := (tape, size_)) hps3
              have hb4 : bnd (tape, size_) (tkE (tape, size_) p) := bnd_W w3
              refine GG.topi (y := nI 1) (congrArg bI w3) ?_
              refine g_if_eq_n (tgt := 95) dX10_readFact_76 (by decide) (by decide) (fun h => absurd h (by decide)) (fun _ => ?_)
              refine g_aload_n 0 dX10_readFact_79 rfl rfl ?_
              refine m_cVi (ct_speakerTold (tkE (tape, size_) p) ns hs hT hR4 hps4 hns hn6) hvX10_speakerTold hyX10_speakerTold rfl ⟨by dsimp only; omega, by dsimp only; omega⟩ ⟨Nat.zero_le _, Nat.zero_le _⟩ rfl (Nat.le_of_ble_eq_true rfl) dX10_readFact_80 m_rec (fun r u hp => ?_)
              obtain ⟨a5, b5, t5, v5, bd5, bp5⟩ := u
              obtain ⟨hr5, hv5, hw5⟩ := hp
              obtain ⟨hz5, hR5, hq5⟩ := hr5.isok hq
              have hz5 : bd5 = 0 := hz5
              subst hz5
              have hps5 : q ≤ size_ := hq5
              have hb5 : bnd (tape, size_) q := (pNum_phi hq).1
              refine GG.topi (hv5 x q hq) ?_
              refine g_istore_n (L' := [(0, _), (1, _)]) 1 dX10_readFact_83 rfl (by decide) rfl rfl ?_
              refine g_aload_n 0 dX10_readFact_84 rfl rfl ?_
              refine g_iconst (v := nI 4) dX10_readFact_85 (by decide +kernel) ?_
              refine g_iload_n 1 dX10_readFact_86 rfl rfl ?_
              refine g_aload_n 0 dX10_readFact_87 rfl rfl ?_
              refine m_cVi (hW n (Nat.lt_succ_self n) q M ns hs hT hR5 hps5 hb5 hns hn6 hM (by have : phi (tape, size_) p + 4 + 1 ≤ _ := phi_W hb w3; have := (pNum_phi hq).2; omega) (by omega) (okK_n hq2 hr h9)) hvX10_readWithin hyX10_readWithin rfl ⟨by dsimp only; omega, by dsimp only; omega⟩ ⟨Nat.zero_le _, Nat.zero_le _⟩ rfl (Nat.le_of_ble_eq_true rfl) dX10_readFact_88 m_rec (fun r u hp => ?_)
              obtain ⟨fr6, a6, b6, t6, v6, bd6, bp6⟩ := u
              obtain ⟨hr6, he6⟩ := hp
              obtain ⟨ht4, hv9, hk6, hl6, hbd⟩ := hr6.isno hq2
              have hbd : 0 < bd6 ∧ bd6 < 10 := hbd
              refine m_cVi (ct_mark_bad _ _ _ hbd) hvX10_mark hyX10_mark rfl ⟨by dsimp only; omega, by dsimp only; omega⟩ ⟨Nat.zero_le _, Nat.zero_le _⟩ rfl (Nat.le_of_ble_eq_true rfl) dX10_readFact_91 m_rec (fun r u9 hp => ?_)
              obtain rfl := hp
              refine GG.topi (y := nI 0) rfl ?_
              exact g_iret (_, _, _, _, _, _, _) dX10_readFact_94 (Nat.le_refl _) (Nat.le_refl _) (by exact ⟨RdR.no hr (by first | exact ht4 | exact RdP.t4 (by assumption)) (by first | exact hv9 | exact RdP.v9 (by assumption)) (by first | assumption | exact bad_k (by assumption) (by assumption)) (by first | assumption | exact bad_l (by assumption) (by assumption)) hbd, RdE.no hr⟩) (fun _ h => h)
            · skip
              have hr : pE (tape, size_) ns (n + 1) 0 open_ [] p = PR.ok (sSees x f) q2 := by rw [hstep]; unfold pStep; rw [if_pos rfl, if_neg (by rw [w0]; decide), if_neg (by rw [w1]; decide), if_neg (by rw [w2]; decide), if_pos w3, hq]; show PR.bind (pE (tape, size_) ns n 1 open_ [] q) _ = _; rw [hq2]; rfl
              refine g_aload_n 0 dX10_readFact_0 rfl rfl ?_
              refine g_ldcS st_X10_153 dX10_readFact_1 ?_
              refine m_cVi (ct_isWord p wNot hs hT hR hps st_X10_153 wd_X10_153) hvX10_isWord hyX10_isWord rfl ⟨by dsimp only; omega, by dsimp only; omega⟩ ⟨Nat.zero_le _, Nat.zero_le _⟩ rfl (Nat.le_of_ble_eq_true rfl) dX10_readFact_3 m_rec (fun r u9 hp => ?_)
              obtain rfl := hp
              refine GG.topi (y := nI 0) (congrArg bI w0) ?_
              refine g_if_eq_n (tgt := 36) dX10_readFact_6 (by decide) (by decide) (fun _ => ?_) (fun h => absurd h (by decide))
              refine g_aload_n 0 dX10_readFact_36 rfl rfl ?_
              refine g_bipush (v := nI 40) dX10_readFact_37 (by decide +kernel) ?_
              refine m_cVi (ct_isSign p _ hs hT hR hps (by decide)) hvX10_isSign hyX10_isSign rfl ⟨by dsimp only; omega, by dsimp only; omega⟩ ⟨Nat.zero_le _, Nat.zero_le _⟩ rfl (Nat.le_of_ble_eq_true rfl) dX10_readFact_39 m_rec (fun r u9 hp => ?_)
              obtain rfl := hp
              refine GG.topi (y := nI 0) (congrArg bI w1) ?_
              refine g_if_eq_n (tgt := 50) dX10_readFact_42 (by decide) (by decide) (fun _ => ?_) (fun h => absurd h (by decide))
              refine g_aload_n 0 dX10_readFact_50 rfl rfl ?_
              refine g_ldcS st_X10_165 dX10_readFact_51 ?_
              refine m_cVi (ct_took p wKnows hs hT hR hps st_X10_165 wd_X10_165) hvX10_took hyX10_took rfl ⟨by dsimp only; omega, by dsimp only; omega⟩ ⟨Nat.zero_le _, Nat.zero_le _⟩ rfl (Nat.le_of_ble_eq_true rfl) dX10_readFact_53 m_rec (fun r u hp => ?_)
              obtain ⟨a3, b3, t3, v3⟩ := u
              obtain ⟨hp, hq3⟩ := hp
              have hR3 : RdP (tape, size_) p a3 b3 t3 v3 := by have h := hq3; unfold opt at h; rw [if_neg (by rw [w2]; decide)] at h; exact h
              obtain rfl := hp
              have hps3 : p ≤ size_ := hps
              have hb3 : bnd (tape, size_) p := hb
              refine GG.topi (y := nI 0) (congrArg bI w2) ?_
              refine g_if_eq_n (tgt := 70) dX10_readFact_56 (by decide) (by decide) (fun _ => ?_) (fun h => absurd h (by decide))
              refine g_aload_n 0 dX10_readFact_70 rfl rfl ?_
              refine g_ldcS st_X10_173 dX10_readFact_71 ?_
              refine m_cVi (ct_took p wSees hs hT hR3 hps3 st_X10_173 wd_X10_173) hvX10_took hyX10_took rfl ⟨by dsimp only; omega, by dsimp only; omega⟩ ⟨Nat.zero_le _, Nat.zero_le _⟩ rfl (Nat.le_of_ble_eq_true rfl) dX10_readFact_73 m_rec (fun r u hp => ?_)
              obtain ⟨a4, b4, t4, v4⟩ := u
              obtain ⟨hp, hq4⟩ := hp
              have hR4 : RdP (tape, size_) (tkE (tape, size_) p) a4 b4 t4 v4 := by have h := hq4; unfold opt at h; rw [if_pos w3] at h; exact h
              obtain rfl := hp
              have hps4 : (tkE (tape, size_) p) ≤ size_ := tkE_le (X := (tape, size_)) hps3
              have hb4 : bnd (tape, size_) (tkE (tape, size_) p) := bnd_W w3
              refine GG.topi (y := nI 1) (congrArg bI w3) ?_
              refine g_if_eq_n (tgt := 95) dX10_readFact_76 (by decide) (by decide) (fun h => absurd h (by decide)) (fun _ => ?_)
              refine g_aload_n 0 dX10_readFact_79 rfl rfl ?_
              refine m_cVi (ct_speakerTold (tkE (tape, size_) p) ns hs hT hR4 hps4 hns hn6) hvX10_speakerTold hyX10_speakerTold rfl ⟨by dsimp only; omega, by dsimp only; omega⟩ ⟨Nat.zero_le _, Nat.zero_le _⟩ rfl (Nat.le_of_ble_eq_true rfl) dX10_readFact_80 m_rec (fun r u hp => ?_)
              obtain ⟨a5, b5, t5, v5, bd5, bp5⟩ := u
              obtain ⟨hr5, hv5, hw5⟩ := hp
              obtain ⟨hz5, hR5, hq5⟩ := hr5.isok hq
              have hz5 : bd5 = 0 := hz5
              subst hz5
              have hps5 : q ≤ size_ := hq5
              have hb5 : bnd (tape, size_) q := (pNum_phi hq).1
              refine GG.topi (hv5 x q hq) ?_
              refine g_istore_n (L' := [(0, _), (1, _)]) 1 dX10_readFact_83 rfl (by decide) rfl rfl ?_
              refine g_aload_n 0 dX10_readFact_84 rfl rfl ?_
              refine g_iconst (v := nI 4) dX10_readFact_85 (by decide +kernel) ?_
              refine g_iload_n 1 dX10_readFact_86 rfl rfl ?_
              refine g_aload_n 0 dX10_readFact_87 rfl rfl ?_
              refine m_cVi (hW n (Nat.lt_succ_self n) q M ns hs hT hR5 hps5 hb5 hns hn6 hM (by have : phi (tape, size_) p + 4 + 1 ≤ _ := phi_W hb w3; have := (pNum_phi hq).2; omega) (by omega) (okK_o hq2)) hvX10_readWithin hyX10_readWithin rfl ⟨by dsimp only; omega, by dsimp only; omega⟩ ⟨Nat.zero_le _, Nat.zero_le _⟩ rfl (Nat.le_of_ble_eq_true rfl) dX10_readFact_88 m_rec (fun r u hp => ?_)
              obtain ⟨fr6, a6, b6, t6, v6, bd6, bp6⟩ := u
              obtain ⟨hr6, he6⟩ := hp
              obtain ⟨hz6, hR6, hq6⟩ := hr6.isok hq2
              have hz6 : bd6 = 0 := hz6
              subst hz6
              obtain ⟨M6, m6, g61, g62, g63, g64, g65, g66, g67⟩ := he6 f q2 hq2
              have g63 : fr6 7 = nI M6 := g63
              have hns6 : fr6 5 = nI ns := (g67 5 (by decide) (by omega)).trans hns
              have hph6 : 2 * M ≤ phi (tape, size_) q := (by have : phi (tape, size_) p + 4 + 1 ≤ _ := phi_W hb w3; have := (pNum_phi hq).2; omega)
              have hps6 : q2 ≤ size_ := hq6
              have hb6 : bnd (tape, size_) q2 := g66
              have hlt6 : M6 < 450 := by have := (phi_le (tape, size_) q2).2; omega
              refine GG.topi g62 ?_
              refine m_cVi (ct_mark M6 _ _ _ g63 (by omega)) hvX10_mark hyX10_mark rfl ⟨by dsimp only; omega, by dsimp only; omega⟩ ⟨Nat.zero_le _, Nat.zero_le _⟩ rfl (Nat.le_of_ble_eq_true rfl) dX10_readFact_91 m_rec (fun r u hp => ?_)
              obtain ⟨hp, hu7⟩ := hp
              have hu7 : u = _ := hu7
              subst hu7
              obtain rfl := hp
              exact g_iret (_, _, _, _, _, _, _) dX10_readFact_94 (Nat.le_refl _) (Nat.le_refl _) (by exact ⟨RdR.ok hr hR6 hps6, RdE.sub hr (by have : phi (tape, size_) p + 4 + 1 ≤ _ := phi_W hb w3; have := (pNum_phi hq).2; omega) g61 g65 g66 g67 (SayB.up (Nat.le_refl _) (Nat.le_refl _) (Nat.le_refl _) (fun _ _ _ => rfl) _ _ _ _ (by omega) (SB_sees g61 hxn.2.2.2.1 g64))⟩) (fun _ h => h)
      · skip
        have w2 := hw2
        rcases hq : pNum (tape, size_) 0 ns (tkE (tape, size_) p) with ⟨k, l9⟩ | ⟨x, q⟩
        · skip
          have hr : pE (tape, size_) ns (n + 1) 0 open_ [] p = PR.no k l9 := by rw [hstep]; unfold pStep; rw [if_pos rfl, if_neg (by rw [w0]; decide), if_neg (by rw [w1]; decide), if_pos w2, hq]; rfl
          refine g_aload_n 0 dX10_readFact_0 rfl rfl ?_
          refine g_ldcS st_X10_153 dX10_readFact_1 ?_
          refine m_cVi (ct_isWord p wNot hs hT hR hps st_X10_153 wd_X10_153) hvX10_isWord hyX10_isWord rfl ⟨by dsimp only; omega, by dsimp only; omega⟩ ⟨Nat.zero_le _, Nat.zero_le _⟩ rfl (Nat.le_of_ble_eq_true rfl) dX10_readFact_3 m_rec (fun r u9 hp => ?_)
          obtain rfl := hp
          refine GG.topi (y := nI 0) (congrArg bI w0) ?_
          refine g_if_eq_n (tgt := 36) dX10_readFact_6 (by decide) (by decide) (fun _ => ?_) (fun h => absurd h (by decide))
          refine g_aload_n 0 dX10_readFact_36 rfl rfl ?_
          refine g_bipush (v := nI 40) dX10_readFact_37 (by decide +kernel) ?_
          refine m_cVi (ct_isSign p _ hs hT hR hps (by decide)) hvX10_isSign hyX10_isSign rfl ⟨by dsimp only; omega, by dsimp only; omega⟩ ⟨Nat.zero_le _, Nat.zero_le _⟩ rfl (Nat.le_of_ble_eq_true rfl) dX10_readFact_39 m_rec (fun r u9 hp => ?_)
          obtain rfl := hp
          refine GG.topi (y := nI 0) (congrArg bI w1) ?_
          refine g_if_eq_n (tgt := 50) dX10_readFact_42 (by decide) (by decide) (fun _ => ?_) (fun h => absurd h (by decide))
          refine g_aload_n 0 dX10_readFact_50 rfl rfl ?_
          refine g_ldcS st_X10_165 dX10_readFact_51 ?_
          refine m_cVi (ct_took p wKnows hs hT hR hps st_X10_165 wd_X10_165) hvX10_took hyX10_took rfl ⟨by dsimp only; omega, by dsimp only; omega⟩ ⟨Nat.zero_le _, Nat.zero_le _⟩ rfl (Nat.le_of_ble_eq_true rfl) dX10_readFact_53 m_rec (fun r u hp => ?_)
          obtain ⟨a3, b3, t3, v3⟩ := u
          obtain ⟨hp, hq3⟩ := hp
          have hR3 : RdP (tape, size_) (tkE (tape, size_) p) a3 b3 t3 v3 := by have h := hq3; unfold opt at h; rw [if_pos w2] at h; exact h
          obtain rfl := hp
          have hps3 : (tkE (tape, size_) p) ≤ size_ := tkE_le (X := (tape, size_)) hps
          have hb3 : bnd (tape, size_) (tkE (tape, size_) p) := bnd_W w2
          refine GG.topi (y := nI 1) (congrArg bI w2) ?_
          refine g_if_eq_n (tgt := 70) dX10_readFact_56 (by decide) (by decide) (fun h => absurd h (by decide)) (fun _ => ?_)
          refine g_aload_n 0 dX10_readFact_59 rfl rfl ?_
          refine g_iconst (v := nI 3) dX10_readFact_60 (by decide +kernel) ?_
          refine g_aload_n 0 dX10_readFact_61 rfl rfl ?_
          refine m_cVi (ct_speakerTold (tkE (tape, size_) p) ns hs hT hR3 hps3 hns hn6) hvX10_speakerTold hyX10_speakerTold rfl ⟨by dsimp only; omega, by dsimp only; omega⟩ ⟨Nat.zero_le _, Nat.zero_le _⟩ rfl (Nat.le_of_ble_eq_true rfl) dX10_readFact_62 m_rec (fun r u hp => ?_)
          obtain ⟨a4, b4, t4, v4, bd4, bp4⟩ := u
          obtain ⟨hr4, hv4, hw4⟩ := hp
          obtain ⟨ht4, hv9, hk4, hl4, hbd⟩ := hr4.isno hq
          refine GG.topi (hw4 (by show ¬ bd4 = 0; have : 0 < bd4 := hbd.1; omega)) ?_
          have hbd : 0 < bd4 ∧ bd4 < 10 := hbd
          refine g_iconst (v := -1) dX10_readFact_65 (by decide +kernel) ?_
          refine m_cVi (ct_mark_bad _ _ _ hbd) hvX10_mark hyX10_mark rfl ⟨by dsimp only; omega, by dsimp only; omega⟩ ⟨Nat.zero_le _, Nat.zero_le _⟩ rfl (Nat.le_of_ble_eq_true rfl) dX10_readFact_66 m_rec (fun r u9 hp => ?_)
          obtain rfl := hp
          refine GG.topi (y := nI 0) rfl ?_
          exact g_iret (_, _, _, _, _, _, _) dX10_readFact_69 (Nat.le_refl _) (Nat.le_refl _) (by exact ⟨RdR.no hr (by first | exact ht4 | exact RdP.t4 (by assumption)) (by first | exact hv9 | exact RdP.v9 (by assumption)) (by first | assumption | exact bad_k (by assumption) (by assumption)) (by first | assumption | exact bad_l (by assumption) (by assumption)) hbd, RdE.no hr⟩) (fun _ h => h)
        · skip
          have hr : pE (tape, size_) ns (n + 1) 0 open_ [] p = PR.ok (sKnows x) q := by rw [hstep]; unfold pStep; rw [if_pos rfl, if_neg (by rw [w0]; decide), if_neg (by rw [w1]; decide), if_pos w2, hq]; rfl
          have hxn := pNum_ok hq
          refine g_aload_n 0 dX10_readFact_0 rfl rfl ?_
          refine g_ldcS st_X10_153 dX10_readFact_1 ?_
          refine m_cVi (ct_isWord p wNot hs hT hR hps st_X10_153 wd_X10_153) hvX10_isWord hyX10_isWord rfl ⟨by dsimp only; omega, by dsimp only; omega⟩ ⟨Nat.zero_le _, Nat.zero_le _⟩ rfl (Nat.le_of_ble_eq_true rfl) dX10_readFact_3 m_rec (fun r u9 hp => ?_)
          obtain rfl := hp
          refine GG.topi (y := nI 0) (congrArg bI w0) ?_
          refine g_if_eq_n (tgt := 36) dX10_readFact_6 (by decide) (by decide) (fun _ => ?_) (fun h => absurd h (by decide))
          refine g_aload_n 0 dX10_readFact_36 rfl rfl ?_
          refine g_bipush (v := nI 40) dX10_readFact_37 (by decide +kernel) ?_
          refine m_cVi (ct_isSign p _ hs hT hR hps (by decide)) hvX10_isSign hyX10_isSign rfl ⟨by dsimp only; omega, by dsimp only; omega⟩ ⟨Nat.zero_le _, Nat.zero_le _⟩ rfl (Nat.le_of_ble_eq_true rfl) dX10_readFact_39 m_rec (fun r u9 hp => ?_)
          obtain rfl := hp
          refine GG.topi (y := nI 0) (congrArg bI w1) ?_
          refine g_if_eq_n (tgt := 50) dX10_readFact_42 (by decide) (by decide) (fun _ => ?_) (fun h => absurd h (by decide))
          refine g_aload_n 0 dX10_readFact_50 rfl rfl ?_
          refine g_ldcS st_X10_165 dX10_readFact_51 ?_
          refine m_cVi (ct_took p wKnows hs hT hR hps st_X10_165 wd_X10_165) hvX10_took hyX10_took rfl ⟨by dsimp only; omega, by dsimp only; omega⟩ ⟨Nat.zero_le _, Nat.zero_le _⟩ rfl (Nat.le_of_ble_eq_true rfl) dX10_readFact_53 m_rec (fun r u hp => ?_)
          obtain ⟨a3, b3, t3, v3⟩ := u
          obtain ⟨hp, hq3⟩ := hp
          have hR3 : RdP (tape, size_) (tkE (tape, size_) p) a3 b3 t3 v3 := by have h := hq3; unfold opt at h; rw [if_pos w2] at h; exact h
          obtain rfl := hp
          have hps3 : (tkE (tape, size_) p) ≤ size_ := tkE_le (X := (tape, size_)) hps
          have hb3 : bnd (tape, size_) (tkE (tape, size_) p) := bnd_W w2
          refine GG.topi (y := nI 1) (congrArg bI w2) ?_
          refine g_if_eq_n (tgt := 70) dX10_readFact_56 (by decide) (by decide) (fun h => absurd h (by decide)) (fun _ => ?_)
          refine g_aload_n 0 dX10_readFact_59 rfl rfl ?_
          refine g_iconst (v := nI 3) dX10_readFact_60 (by decide +kernel) ?_
          refine g_aload_n 0 dX10_readFact_61 rfl rfl ?_
          refine m_cVi (ct_speakerTold (tkE (tape, size_) p) ns hs hT hR3 hps3 hns hn6) hvX10_speakerTold hyX10_speakerTold rfl ⟨by dsimp only; omega, by dsimp only; omega⟩ ⟨Nat.zero_le _, Nat.zero_le _⟩ rfl (Nat.le_of_ble_eq_true rfl) dX10_readFact_62 m_rec (fun r u hp => ?_)
          obtain ⟨a4, b4, t4, v4, bd4, bp4⟩ := u
          obtain ⟨hr4, hv4, hw4⟩ := hp
          obtain ⟨hz4, hR4, hq4⟩ := hr4.isok hq
          have hz4 : bd4 = 0 := hz4
          subst hz4
          have hps4 : q ≤ size_ := hq4
          have hb4 : bnd (tape, size_) q := (pNum_phi hq).1
          refine GG.topi (hv4 x q hq) ?_
          refine g_iconst (v := -1) dX10_readFact_65 (by decide +kernel) ?_
          refine m_cVi (ct_mark M _ _ _ hM (by have : phi (tape, size_) p + 5 + 1 ≤ _ := phi_W hb w2; have := (pNum_phi hq).2; have := (phi_le (tape, size_) q).2; omega)) hvX10_mark hyX10_mark rfl ⟨by dsimp only; omega, by dsimp only; omega⟩ ⟨Nat.zero_le _, Nat.zero_le _⟩ rfl (Nat.le_of_ble_eq_true rfl) dX10_readFact_66 m_rec (fun r u hp => ?_)
          obtain ⟨hp, hu5⟩ := hp
          have hu5 : u = _ := hu5
          subst hu5
          obtain rfl := hp
          exact g_iret (_, _, _, _, _, _, _) dX10_readFact_69 (Nat.le_refl _) (Nat.le_refl _) (by exact ⟨RdR.ok hr hR4 hps4, RdE.leaf hr (by have : phi (tape, size_) p + 5 + 1 ≤ _ := phi_W hb w2; have := (pNum_phi hq).2; omega) hb4 (SayB.up (Nat.le_refl _) (Nat.le_refl _) (Nat.le_refl _) (fun _ _ _ => rfl) _ _ _ _ (by omega) (SB_knows (d := 0) hxn.2.2.2.1))⟩) (fun _ h => h)
    · skip
      have w1 := hw1
      rcases hq : pE (tape, size_) ns n 1 open_ [] p with ⟨k, l9⟩ | ⟨f, q⟩
      · skip
        have hr : pE (tape, size_) ns (n + 1) 0 open_ [] p = PR.no k l9 := by rw [hstep]; unfold pStep; rw [if_pos rfl, if_neg (by rw [w0]; decide), if_pos w1, hq]
        refine g_aload_n 0 dX10_readFact_0 rfl rfl ?_
        refine g_ldcS st_X10_153 dX10_readFact_1 ?_
        refine m_cVi (ct_isWord p wNot hs hT hR hps st_X10_153 wd_X10_153) hvX10_isWord hyX10_isWord rfl ⟨by dsimp only; omega, by dsimp only; omega⟩ ⟨Nat.zero_le _, Nat.zero_le _⟩ rfl (Nat.le_of_ble_eq_true rfl) dX10_readFact_3 m_rec (fun r u9 hp => ?_)
        obtain rfl := hp
        refine GG.topi (y := nI 0) (congrArg bI w0) ?_
        refine g_if_eq_n (tgt := 36) dX10_readFact_6 (by decide) (by decide) (fun _ => ?_) (fun h => absurd h (by decide))
        refine g_aload_n 0 dX10_readFact_36 rfl rfl ?_
        refine g_bipush (v := nI 40) dX10_readFact_37 (by decide +kernel) ?_
        refine m_cVi (ct_isSign p _ hs hT hR hps (by decide)) hvX10_isSign hyX10_isSign rfl ⟨by dsimp only; omega, by dsimp only; omega⟩ ⟨Nat.zero_le _, Nat.zero_le _⟩ rfl (Nat.le_of_ble_eq_true rfl) dX10_readFact_39 m_rec (fun r u9 hp => ?_)
        obtain rfl := hp
        refine GG.topi (y := nI 1) (congrArg bI w1) ?_
        refine g_if_eq_n (tgt := 50) dX10_readFact_42 (by decide) (by decide) (fun h => absurd h (by decide)) (fun _ => ?_)
        refine g_aload_n 0 dX10_readFact_45 rfl rfl ?_
        refine m_cVi (hW n (Nat.lt_succ_self n) p M ns hs hT hR hps hb hns hn6 hM hphi (by omega) (okK_n hq hr h9)) hvX10_readWithin hyX10_readWithin rfl ⟨by dsimp only; omega, by dsimp only; omega⟩ ⟨Nat.zero_le _, Nat.zero_le _⟩ rfl (Nat.le_of_ble_eq_true rfl) dX10_readFact_46 m_rec (fun r u hp => ?_)
        obtain ⟨fr3, a3, b3, t3, v3, bd3, bp3⟩ := u
        obtain ⟨hr3, he3⟩ := hp
        obtain ⟨ht4, hv9, hk3, hl3, hbd⟩ := hr3.isno hq
        have hbd : 0 < bd3 ∧ bd3 < 10 := hbd
        exact g_iret (_, _, _, _, _, _, _) dX10_readFact_49 (Nat.le_refl _) (Nat.le_refl _) (by exact ⟨RdR.no hr (by first | exact ht4 | exact RdP.t4 (by assumption)) (by first | exact hv9 | exact RdP.v9 (by assumption)) (by first | assumption | exact bad_k (by assumption) (by assumption)) (by first | assumption | exact bad_l (by assumption) (by assumption)) hbd, RdE.no hr⟩) (fun _ h => h)
      · skip
        have hr : pE (tape, size_) ns (n + 1) 0 open_ [] p = PR.ok f q := by rw [hstep]; unfold pStep; rw [if_pos rfl, if_neg (by rw [w0]; decide), if_pos w1, hq]
        refine g_aload_n 0 dX10_readFact_0 rfl rfl ?_
        refine g_ldcS st_X10_153 dX10_readFact_1 ?_
        refine m_cVi (ct_isWord p wNot hs hT hR hps st_X10_153 wd_X10_153) hvX10_isWord hyX10_isWord rfl ⟨by dsimp only; omega, by dsimp only; omega⟩ ⟨Nat.zero_le _, Nat.zero_le _⟩ rfl (Nat.le_of_ble_eq_true rfl) dX10_readFact_3 m_rec (fun r u9 hp => ?_)
        obtain rfl := hp
        refine GG.topi (y := nI 0) (congrArg bI w0) ?_
        refine g_if_eq_n (tgt := 36) dX10_readFact_6 (by decide) (by decide) (fun _ => ?_) (fun h => absurd h (by decide))
        refine g_aload_n 0 dX10_readFact_36 rfl rfl ?_
        refine g_bipush (v := nI 40) dX10_readFact_37 (by decide +kernel) ?_
        refine m_cVi (ct_isSign p _ hs hT hR hps (by decide)) hvX10_isSign hyX10_isSign rfl ⟨by dsimp only; omega, by dsimp only; omega⟩ ⟨Nat.zero_le _, Nat.zero_le _⟩ rfl (Nat.le_of_ble_eq_true rfl) dX10_readFact_39 m_rec (fun r u9 hp => ?_)
        obtain rfl := hp
        refine GG.topi (y := nI 1) (congrArg bI w1) ?_
        refine g_if_eq_n (tgt := 50) dX10_readFact_42 (by decide) (by decide) (fun h => absurd h (by decide)) (fun _ => ?_)
        refine g_aload_n 0 dX10_readFact_45 rfl rfl ?_
        refine m_cVi (hW n (Nat.lt_succ_self n) p M ns hs hT hR hps hb hns hn6 hM hphi (by omega) (okK_o hq)) hvX10_readWithin hyX10_readWithin rfl ⟨by dsimp only; omega, by dsimp only; omega⟩ ⟨Nat.zero_le _, Nat.zero_le _⟩ rfl (Nat.le_of_ble_eq_true rfl) dX10_readFact_46 m_rec (fun r u hp => ?_)
        obtain ⟨fr3, a3, b3, t3, v3, bd3, bp3⟩ := u
        obtain ⟨hr3, he3⟩ := hp
        obtain ⟨hz3, hR3, hq3⟩ := hr3.isok hq
        have hz3 : bd3 = 0 := hz3
        subst hz3
        obtain ⟨M3, m3, g31, g32, g33, g34, g35, g36, g37⟩ := he3 f q hq
        have g33 : fr3 7 = nI M3 := g33
        have hns3 : fr3 5 = nI ns := (g37 5 (by decide) (by omega)).trans hns
        have hph3 : 2 * M ≤ phi (tape, size_) p := hphi
        have hps3 : q ≤ size_ := hq3
        have hb3 : bnd (tape, size_) q := g36
        have hlt3 : M3 < 450 := by have := (phi_le (tape, size_) q).2; omega
        refine GG.topi g32 ?_
        exact g_iret (_, _, _, _, _, _, _) dX10_readFact_49 (Nat.le_refl _) (Nat.le_refl _) (by exact ⟨RdR.ok hr hR3 hps3, RdE.same hr (Nat.le_refl _) (by omega) g31 g33 g34 ⟨q, g35, Nat.le_refl _⟩ g36 g37⟩) (fun _ h => h)
  · skip
    have w0 := hw0
    by_cases ho8 : open_ = 8
    · skip
      have hr : pE (tape, size_) ns (n + 1) 0 open_ [] p = PR.no 5 (tkB (tape, size_) p) := by rw [hstep]; unfold pStep; rw [if_pos rfl, if_pos w0, if_pos ho8]
      refine g_aload_n 0 dX10_readFact_0 rfl rfl ?_
      refine g_ldcS st_X10_153 dX10_readFact_1 ?_
      refine m_cVi (ct_isWord p wNot hs hT hR hps st_X10_153 wd_X10_153) hvX10_isWord hyX10_isWord rfl ⟨by dsimp only; omega, by dsimp only; omega⟩ ⟨Nat.zero_le _, Nat.zero_le _⟩ rfl (Nat.le_of_ble_eq_true rfl) dX10_readFact_3 m_rec (fun r u9 hp => ?_)
      obtain rfl := hp
      refine GG.topi (y := nI 1) (congrArg bI w0) ?_
      refine g_if_eq_n (tgt := 36) dX10_readFact_6 (by decide) (by decide) (fun h => absurd h (by decide)) (fun _ => ?_)
      refine g_aload_n 0 dX10_readFact_9 rfl rfl ?_
      refine m_cVv (ct_opens_over p hs hT hR hps ho8 (by rw [hR.2.2.1, isW_K w0]; decide)) hvX10_opens hyX10_opens rfl ⟨by dsimp only; omega, by dsimp only; omega⟩ ⟨Nat.zero_le _, Nat.zero_le _⟩ rfl (Nat.le_of_ble_eq_true rfl) dX10_readFact_10 m_rec (fun u hp => ?_)
      obtain ⟨bd2, bp2⟩ := u
      obtain ⟨hk2, hl2⟩ := hp
      have hk2 : bd2 = 5 := hk2
      have hl2 : bp2 = begin_ := hl2
      have hbd : 0 < bd2 ∧ bd2 < 10 := by omega
      refine g_aload_n 0 dX10_readFact_13 rfl rfl ?_
      refine m_cVi (ct_readFact_bad hbd) hvX10_readFact hyX10_readFact rfl ⟨by dsimp only; omega, by dsimp only; omega⟩ ⟨Nat.zero_le _, Nat.zero_le _⟩ rfl (Nat.le_of_ble_eq_true rfl) dX10_readFact_14 m_rec (fun r u9 hp => ?_)
      obtain rfl := hp
      refine GG.topi (y := nI 0) rfl ?_
      refine g_istore_n (L' := [(0, _), (1, _)]) 1 dX10_readFact_17 rfl (by decide) rfl rfl ?_
      refine g_aload_n 0 dX10_readFact_18 rfl rfl ?_
      refine g_dup dX10_readFact_19 rfl ?_
      refine m_get_open dX10_readFact_20 ?_
      refine g_iconst (v := nI 1) dX10_readFact_23 (by decide +kernel) ?_
      refine g_isub_n dX10_readFact_24 (by omega) ?_
      refine GG.topi (y := nI open_) (congrArg nI (by omega)) ?_
      refine m_put_open dX10_readFact_25 ?_
      refine g_aload_n 0 dX10_readFact_28 rfl rfl ?_
      refine g_iconst (v := nI 2) dX10_readFact_29 (by decide +kernel) ?_
      refine g_iconst (v := nI 0) dX10_readFact_30 (by decide +kernel) ?_
      refine g_iload_n 1 dX10_readFact_31 rfl rfl ?_
      refine m_cVi (ct_mark_bad _ _ _ hbd) hvX10_mark hyX10_mark rfl ⟨by dsimp only; omega, by dsimp only; omega⟩ ⟨Nat.zero_le _, Nat.zero_le _⟩ rfl (Nat.le_of_ble_eq_true rfl) dX10_readFact_32 m_rec (fun r u9 hp => ?_)
      obtain rfl := hp
      refine GG.topi (y := nI 0) rfl ?_
      exact g_iret (_, _, _, _, _, _, _) dX10_readFact_35 (Nat.le_refl _) (Nat.le_refl _) (by exact ⟨RdR.no hr (by first | exact ht4 | exact RdP.t4 (by assumption)) (by first | exact hv9 | exact RdP.v9 (by assumption)) (by first | assumption | exact bad_k (by assumption) (by assumption)) (by first | assumption | exact bad_l (by assumption) (by assumption)) hbd, RdE.no hr⟩) (fun _ h => h)
    · skip
      rcases hq : pE (tape, size_) ns n 0 (open_ + 1) [] (tkE (tape, size_) p) with ⟨k, l9⟩ | ⟨f, q⟩
      · skip
        have hr : pE (tape, size_) ns (n + 1) 0 open_ [] p = PR.no k l9 := by rw [hstep]; unfold pStep; rw [if_pos rfl, if_pos w0, if_neg ho8, hq]; rfl
        refine g_aload_n 0 dX10_readFact_0 rfl rfl ?_
        refine g_ldcS st_X10_153 dX10_readFact_1 ?_
        refine m_cVi (ct_isWord p wNot hs hT hR hps st_X10_153 wd_X10_153) hvX10_isWord hyX10_isWord rfl ⟨by dsimp only; omega, by dsimp only; omega⟩ ⟨Nat.zero_le _, Nat.zero_le _⟩ rfl (Nat.le_of_ble_eq_true rfl) dX10_readFact_3 m_rec (fun r u9 hp => ?_)
        obtain rfl := hp
        refine GG.topi (y := nI 1) (congrArg bI w0) ?_
        refine g_if_eq_n (tgt := 36) dX10_readFact_6 (by decide) (by decide) (fun h => absurd h (by decide)) (fun _ => ?_)
        refine g_aload_n 0 dX10_readFact_9 rfl rfl ?_
        refine m_cVv (ct_opens p hs hT hR hps (by omega)) hvX10_opens hyX10_opens rfl ⟨by dsimp only; omega, by dsimp only; omega⟩ ⟨Nat.zero_le _, Nat.zero_le _⟩ rfl (Nat.le_of_ble_eq_true rfl) dX10_readFact_10 m_rec (fun u hp => ?_)
        obtain ⟨a2, b2, t2, v2⟩ := u
        have hR2 : RdP (tape, size_) (tkE (tape, size_) p) a2 b2 t2 v2 := hp
        have hps2 : (tkE (tape, size_) p) ≤ size_ := tkE_le (X := (tape, size_)) hps
        have hb2 : bnd (tape, size_) (tkE (tape, size_) p) := bnd_W w0
        refine g_aload_n 0 dX10_readFact_13 rfl rfl ?_
        refine m_cVi (hF n (Nat.lt_succ_self n) (tkE (tape, size_) p) M ns hs hT hR2 hps2 hb2 hns hn6 hM (by have : phi (tape, size_) p + 3 + 1 ≤ _ := phi_W hb w0; omega) (by omega) (okK_n hq hr h9)) hvX10_readFact hyX10_readFact rfl ⟨by dsimp only; omega, by dsimp only; omega⟩ ⟨Nat.zero_le _, Nat.zero_le _⟩ rfl (Nat.le_of_ble_eq_true rfl) dX10_readFact_14 m_rec (fun r u hp => ?_)
        obtain ⟨fr3, a3, b3, t3, v3, bd3, bp3⟩ := u
        obtain ⟨hr3, he3⟩ := hp
        obtain ⟨ht4, hv9, hk3, hl3, hbd⟩ := hr3.isno hq
        have hbd : 0 < bd3 ∧ bd3 < 10 := hbd
        refine g_istore_n (L' := [(0, _), (1, _)]) 1 dX10_readFact_17 rfl (by decide) rfl rfl ?_
        refine g_aload_n 0 dX10_readFact_18 rfl rfl ?_
        refine g_dup dX10_readFact_19 rfl ?_
        refine m_get_open dX10_readFact_20 ?_
        refine g_iconst (v := nI 1) dX10_readFact_23 (by decide +kernel) ?_
        refine g_isub_n dX10_readFact_24 (by omega) ?_
        refine GG.topi (y := nI open_) (congrArg nI (by omega)) ?_
        refine m_put_open dX10_readFact_25 ?_
        refine g_aload_n 0 dX10_readFact_28 rfl rfl ?_
        refine g_iconst (v := nI 2) dX10_readFact_29 (by decide +kernel) ?_
        refine g_iconst (v := nI 0) dX10_readFact_30 (by decide +kernel) ?_
        refine g_iload_n 1 dX10_readFact_31 rfl rfl ?_
        refine m_cVi (ct_mark_bad _ _ _ hbd) hvX10_mark hyX10_mark rfl ⟨by dsimp only; omega, by dsimp only; omega⟩ ⟨Nat.zero_le _, Nat.zero_le _⟩ rfl (Nat.le_of_ble_eq_true rfl) dX10_readFact_32 m_rec (fun r u9 hp => ?_)
        obtain rfl := hp
        refine GG.topi (y := nI 0) rfl ?_
        exact g_iret (_, _, _, _, _, _, _) dX10_readFact_35 (Nat.le_refl _) (Nat.le_refl _) (by exact ⟨RdR.no hr (by first | exact ht4 | exact RdP.t4 (by assumption)) (by first | exact hv9 | exact RdP.v9 (by assumption)) (by first | assumption | exact bad_k (by assumption) (by assumption)) (by first | assumption | exact bad_l (by assumption) (by assumption)) hbd, RdE.no hr⟩) (fun _ h => h)
      · skip
        have hr : pE (tape, size_) ns (n + 1) 0 open_ [] p = PR.ok (sNot f) q := by rw [hstep]; unfold pStep; rw [if_pos rfl, if_pos w0, if_neg ho8, hq]; rfl
        refine g_aload_n 0 dX10_readFact_0 rfl rfl ?_
        refine g_ldcS st_X10_153 dX10_readFact_1 ?_
        refine m_cVi (ct_isWord p wNot hs hT hR hps st_X10_153 wd_X10_153) hvX10_isWord hyX10_isWord rfl ⟨by dsimp only; omega, by dsimp only; omega⟩ ⟨Nat.zero_le _, Nat.zero_le _⟩ rfl (Nat.le_of_ble_eq_true rfl) dX10_readFact_3 m_rec (fun r u9 hp => ?_)
        obtain rfl := hp
        refine GG.topi (y := nI 1) (congrArg bI w0) ?_
        refine g_if_eq_n (tgt := 36) dX10_readFact_6 (by decide) (by decide) (fun h => absurd h (by decide)) (fun _ => ?_)
        refine g_aload_n 0 dX10_readFact_9 rfl rfl ?_
        refine m_cVv (ct_opens p hs hT hR hps (by omega)) hvX10_opens hyX10_opens rfl ⟨by dsimp only; omega, by dsimp only; omega⟩ ⟨Nat.zero_le _, Nat.zero_le _⟩ rfl (Nat.le_of_ble_eq_true rfl) dX10_readFact_10 m_rec (fun u hp => ?_)
        obtain ⟨a2, b2, t2, v2⟩ := u
        have hR2 : RdP (tape, size_) (tkE (tape, size_) p) a2 b2 t2 v2 := hp
        have hps2 : (tkE (tape, size_) p) ≤ size_ := tkE_le (X := (tape, size_)) hps
        have hb2 : bnd (tape, size_) (tkE (tape, size_) p) := bnd_W w0
        refine g_aload_n 0 dX10_readFact_13 rfl rfl ?_
        refine m_cVi (hF n (Nat.lt_succ_self n) (tkE (tape, size_) p) M ns hs hT hR2 hps2 hb2 hns hn6 hM (by have : phi (tape, size_) p + 3 + 1 ≤ _ := phi_W hb w0; omega) (by omega) (okK_o hq)) hvX10_readFact hyX10_readFact rfl ⟨by dsimp only; omega, by dsimp only; omega⟩ ⟨Nat.zero_le _, Nat.zero_le _⟩ rfl (Nat.le_of_ble_eq_true rfl) dX10_readFact_14 m_rec (fun r u hp => ?_)
        obtain ⟨fr3, a3, b3, t3, v3, bd3, bp3⟩ := u
        obtain ⟨hr3, he3⟩ := hp
        obtain ⟨hz3, hR3, hq3⟩ := hr3.isok hq
        have hz3 : bd3 = 0 := hz3
        subst hz3
        obtain ⟨M3, m3, g31, g32, g33, g34, g35, g36, g37⟩ := he3 f q hq
        have g33 : fr3 7 = nI M3 := g33
        have hns3 : fr3 5 = nI ns := (g37 5 (by decide) (by omega)).trans hns
        have hph3 : 2 * M ≤ phi (tape, size_) (tkE (tape, size_) p) := (by have : phi (tape, size_) p + 3 + 1 ≤ _ := phi_W hb w0; omega)
        have hps3 : q ≤ size_ := hq3
        have hb3 : bnd (tape, size_) q := g36
        have hlt3 : M3 < 450 := by have := (phi_le (tape, size_) q).2; omega
        refine GG.topi g32 ?_
        refine g_istore_n (L' := [(0, _), (1, _)]) 1 dX10_readFact_17 rfl (by decide) rfl rfl ?_
        refine g_aload_n 0 dX10_readFact_18 rfl rfl ?_
        refine g_dup dX10_readFact_19 rfl ?_
        refine m_get_open dX10_readFact_20 ?_
        refine g_iconst (v := nI 1) dX10_readFact_23 (by decide +kernel) ?_
        refine g_isub_n dX10_readFact_24 (by omega) ?_
        refine GG.topi (y := nI open_) (congrArg nI (by omega)) ?_
        refine m_put_open dX10_readFact_25 ?_
        refine g_aload_n 0 dX10_readFact_28 rfl rfl ?_
        refine g_iconst (v := nI 2) dX10_readFact_29 (by decide +kernel) ?_
        refine g_iconst (v := nI 0) dX10_readFact_30 (by decide +kernel) ?_
        refine g_iload_n 1 dX10_readFact_31 rfl rfl ?_
        refine m_cVi (ct_mark M3 _ _ _ g33 (by omega)) hvX10_mark hyX10_mark rfl ⟨by dsimp only; omega, by dsimp only; omega⟩ ⟨Nat.zero_le _, Nat.zero_le _⟩ rfl (Nat.le_of_ble_eq_true rfl) dX10_readFact_32 m_rec (fun r u hp => ?_)
        obtain ⟨hp, hu4⟩ := hp
        have hu4 : u = _ := hu4
        subst hu4
        obtain rfl := hp
        exact g_iret (_, _, _, _, _, _, _) dX10_readFact_35 (Nat.le_refl _) (Nat.le_refl _) (by exact ⟨RdR.ok hr hR3 hps3, RdE.sub hr (by have : phi (tape, size_) p + 3 + 1 ≤ _ := phi_W hb w0; omega) g31 g35 g36 g37 (SayB.up (Nat.le_refl _) (Nat.le_refl _) (Nat.le_refl _) (fun _ _ _ => rfl) _ _ _ _ (by omega) (SB_not g31 g34))⟩) (fun _ h => h)
set_option maxHeartbeats 8000000 in
theorem with_s {n : Nat} (hS : ∀ k, k < n + 1 → SayC4 l D cl tys mi cI cJ cZ ma k) : WithC l D cl tys mi cI cJ cZ ma (n + 1) := by
  intro known fresh_ saved images isImage thrown tape taped size_ at_ begin_ token value open_ badPlace faultKind faultPlace xs ys pairs rows top heaps endsBehind path order firstOrder ordersMany tSort tMany numbers p M ns hs hT hR hps hb hns hn6 hM hphi ho h9
  have hstep : pE (tape, size_) ns (n + 1) 1 open_ [] p = pStep (tape, size_) ns (pE (tape, size_) ns n) 1 open_ [] p := rfl
  refine CT.of (L := [(0, .ref (ma 0))]) rfl (by decide +kernel) rfl (Nat.le_of_ble_eq_true rfl) ?_
  rcases hw1 : isS (tape, size_) 40 p with _ | _
  · skip
    have w1 := hw1
    have hr : pE (tape, size_) ns (n + 1) 1 open_ [] p = pWrong (tape, size_) p := by rw [hstep]; unfold pStep; rw [if_neg Nat.one_ne_zero, if_pos rfl, if_neg (by rw [w1]; decide)]
    refine g_aload_n 0 dX10_readWithin_0 rfl rfl ?_
    refine g_bipush (v := nI 40) dX10_readWithin_1 (by decide +kernel) ?_
    refine m_cVi (ct_isSign p _ hs hT hR hps (by decide)) hvX10_isSign hyX10_isSign rfl ⟨by dsimp only; omega, by dsimp only; omega⟩ ⟨Nat.zero_le _, Nat.zero_le _⟩ rfl (Nat.le_of_ble_eq_true rfl) dX10_readWithin_3 m_rec (fun r u9 hp => ?_)
    obtain rfl := hp
    refine GG.topi (y := nI 0) (congrArg bI w1) ?_
    refine g_if_ne_n (tgt := 14) dX10_readWithin_6 (by decide) (by decide) (fun h => absurd h (by decide)) (fun _ => ?_)
    refine g_aload_n 0 dX10_readWithin_9 rfl rfl ?_
    refine g_iconst (v := nI 2) dX10_readWithin_10 (by decide +kernel) ?_
    refine m_cVv (ct_blames _ hR.t4 (by decide)) hvX10_blames hyX10_blames rfl ⟨by dsimp only; omega, by dsimp only; omega⟩ ⟨Nat.zero_le _, Nat.zero_le _⟩ rfl (Nat.le_of_ble_eq_true rfl) dX10_readWithin_11 m_rec (fun u hp => ?_)
    obtain ⟨bd2, bp2⟩ := u
    obtain ⟨hk2, hl2⟩ := hp
    have hk2 : bd2 = _ := hk2
    have hl2 : bp2 = _ := hl2
    have hbd : 0 < bd2 ∧ bd2 < 10 := by rw [hk2]; split <;> decide
    refine g_aload_n 0 dX10_readWithin_14 rfl rfl ?_
    refine m_cVv (ct_opens_bad hbd (by omega)) hvX10_opens hyX10_opens rfl ⟨by dsimp only; omega, by dsimp only; omega⟩ ⟨Nat.zero_le _, Nat.zero_le _⟩ rfl (Nat.le_of_ble_eq_true rfl) dX10_readWithin_15 m_rec (fun u9 h9 => ?_)
    refine g_aload_n 0 dX10_readWithin_18 rfl rfl ?_
    refine m_cVi (ct_readSaying_bad hbd) hvX10_readSaying hyX10_readSaying rfl ⟨by dsimp only; omega, by dsimp only; omega⟩ ⟨Nat.zero_le _, Nat.zero_le _⟩ rfl (Nat.le_of_ble_eq_true rfl) dX10_readWithin_19 m_rec (fun r u9 hp => ?_)
    obtain rfl := hp
    refine GG.topi (y := nI 0) rfl ?_
    refine g_istore_n (L' := [(0, _), (1, _)]) 1 dX10_readWithin_22 rfl (by decide) rfl rfl ?_
    refine g_aload_n 0 dX10_readWithin_23 rfl rfl ?_
    refine g_bipush (v := nI 41) dX10_readWithin_24 (by decide +kernel) ?_
    refine m_cVv (ct_sign_bad _ hbd) hvX10_sign hyX10_sign rfl ⟨by dsimp only; omega, by dsimp only; omega⟩ ⟨Nat.zero_le _, Nat.zero_le _⟩ rfl (Nat.le_of_ble_eq_true rfl) dX10_readWithin_26 m_rec (fun u9 h9 => ?_)
    refine g_aload_n 0 dX10_readWithin_29 rfl rfl ?_
    refine g_dup dX10_readWithin_30 rfl ?_
    refine m_get_open dX10_readWithin_31 ?_
    refine g_iconst (v := nI 1) dX10_readWithin_34 (by decide +kernel) ?_
    refine g_isub_n dX10_readWithin_35 (by omega) ?_
    refine GG.topi (y := nI open_) (congrArg nI (by omega)) ?_
    refine m_put_open dX10_readWithin_36 ?_
    refine g_iload_n 1 dX10_readWithin_39 rfl rfl ?_
    exact g_iret (_, _, _, _, _, _, _) dX10_readWithin_40 (Nat.le_refl _) (Nat.le_refl _) (by exact ⟨RdR.no hr (by first | exact ht4 | exact RdP.t4 (by assumption)) (by first | exact hv9 | exact RdP.v9 (by assumption)) (by first | assumption | exact bad_k (by assumption) (by assumption)) (by first | assumption | exact bad_l (by assumption) (by assumption)) hbd, RdE.no hr⟩) (fun _ h => h)
  · skip
    have w1 := hw1
    by_cases ho8 : open_ = 8
    · skip
      have hr : pE (tape, size_) ns (n + 1) 1 open_ [] p = PR.no 5 (tkB (tape, size_) p) := by rw [hstep]; unfold pStep; rw [if_neg Nat.one_ne_zero, if_pos rfl, if_pos w1, if_pos ho8]
      refine g_aload_n 0 dX10_readWithin_0 rfl rfl ?_
      refine g_bipush (v := nI 40) dX10_readWithin_1 (by decide +kernel) ?_
      refine m_cVi (ct_isSign p _ hs hT hR hps (by decide)) hvX10_isSign hyX10_isSign rfl ⟨by dsimp only; omega, by dsimp only; omega⟩ ⟨Nat.zero_le _, Nat.zero_le _⟩ rfl (Nat.le_of_ble_eq_true rfl) dX10_readWithin_3 m_rec (fun r u9 hp => ?_)
      obtain rfl := hp
      refine GG.topi (y := nI 1) (congrArg bI w1) ?_
      refine g_if_ne_n (tgt := 14) dX10_readWithin_6 (by decide) (by decide) (fun _ => ?_) (fun h => absurd h (by decide))
      refine g_aload_n 0 dX10_readWithin_14 rfl rfl ?_
      refine m_cVv (ct_opens_over p hs hT hR hps ho8 (by rw [hR.2.2.1, (isS_iff.mp w1).1]; decide)) hvX10_opens hyX10_opens rfl ⟨by dsimp only; omega, by dsimp only; omega⟩ ⟨Nat.zero_le _, Nat.zero_le _⟩ rfl (Nat.le_of_ble_eq_true rfl) dX10_readWithin_15 m_rec (fun u hp => ?_)
      obtain ⟨bd2, bp2⟩ := u
      obtain ⟨hk2, hl2⟩ := hp
      have hk2 : bd2 = 5 := hk2
      have hl2 : bp2 = begin_ := hl2
      have hbd : 0 < bd2 ∧ bd2 < 10 := by omega
      refine g_aload_n 0 dX10_readWithin_18 rfl rfl ?_
      refine m_cVi (ct_readSaying_bad hbd) hvX10_readSaying hyX10_readSaying rfl ⟨by dsimp only; omega, by dsimp only; omega⟩ ⟨Nat.zero_le _, Nat.zero_le _⟩ rfl (Nat.le_of_ble_eq_true rfl) dX10_readWithin_19 m_rec (fun r u9 hp => ?_)
      obtain rfl := hp
      refine GG.topi (y := nI 0) rfl ?_
      refine g_istore_n (L' := [(0, _), (1, _)]) 1 dX10_readWithin_22 rfl (by decide) rfl rfl ?_
      refine g_aload_n 0 dX10_readWithin_23 rfl rfl ?_
      refine g_bipush (v := nI 41) dX10_readWithin_24 (by decide +kernel) ?_
      refine m_cVv (ct_sign_bad _ hbd) hvX10_sign hyX10_sign rfl ⟨by dsimp only; omega, by dsimp only; omega⟩ ⟨Nat.zero_le _, Nat.zero_le _⟩ rfl (Nat.le_of_ble_eq_true rfl) dX10_readWithin_26 m_rec (fun u9 h9 => ?_)
      refine g_aload_n 0 dX10_readWithin_29 rfl rfl ?_
      refine g_dup dX10_readWithin_30 rfl ?_
      refine m_get_open dX10_readWithin_31 ?_
      refine g_iconst (v := nI 1) dX10_readWithin_34 (by decide +kernel) ?_
      refine g_isub_n dX10_readWithin_35 (by omega) ?_
      refine GG.topi (y := nI open_) (congrArg nI (by omega)) ?_
      refine m_put_open dX10_readWithin_36 ?_
      refine g_iload_n 1 dX10_readWithin_39 rfl rfl ?_
      exact g_iret (_, _, _, _, _, _, _) dX10_readWithin_40 (Nat.le_refl _) (Nat.le_refl _) (by exact ⟨RdR.no hr (by first | exact ht4 | exact RdP.t4 (by assumption)) (by first | exact hv9 | exact RdP.v9 (by assumption)) (by first | assumption | exact bad_k (by assumption) (by assumption)) (by first | assumption | exact bad_l (by assumption) (by assumption)) hbd, RdE.no hr⟩) (fun _ h => h)
    · skip
      rcases hq : pE (tape, size_) ns n 4 (open_ + 1) [] (tkE (tape, size_) p) with ⟨k, l9⟩ | ⟨f, q⟩
      · skip
        have hr : pE (tape, size_) ns (n + 1) 1 open_ [] p = PR.no k l9 := by rw [hstep]; unfold pStep; rw [if_neg Nat.one_ne_zero, if_pos rfl, if_pos w1, if_neg ho8]; show PR.bind (pE (tape, size_) ns n 4 (open_ + 1) [] (tkE (tape, size_) p)) _ = _; rw [hq]; rfl
        refine g_aload_n 0 dX10_readWithin_0 rfl rfl ?_
        refine g_bipush (v := nI 40) dX10_readWithin_1 (by decide +kernel) ?_
        refine m_cVi (ct_isSign p _ hs hT hR hps (by decide)) hvX10_isSign hyX10_isSign rfl ⟨by dsimp only; omega, by dsimp only; omega⟩ ⟨Nat.zero_le _, Nat.zero_le _⟩ rfl (Nat.le_of_ble_eq_true rfl) dX10_readWithin_3 m_rec (fun r u9 hp => ?_)
        obtain rfl := hp
        refine GG.topi (y := nI 1) (congrArg bI w1) ?_
        refine g_if_ne_n (tgt := 14) dX10_readWithin_6 (by decide) (by decide) (fun _ => ?_) (fun h => absurd h (by decide))
        refine g_aload_n 0 dX10_readWithin_14 rfl rfl ?_
        refine m_cVv (ct_opens p hs hT hR hps (by omega)) hvX10_opens hyX10_opens rfl ⟨by dsimp only; omega, by dsimp only; omega⟩ ⟨Nat.zero_le _, Nat.zero_le _⟩ rfl (Nat.le_of_ble_eq_true rfl) dX10_readWithin_15 m_rec (fun u hp => ?_)
        obtain ⟨a2, b2, t2, v2⟩ := u
        have hR2 : RdP (tape, size_) (tkE (tape, size_) p) a2 b2 t2 v2 := hp
        have hps2 : (tkE (tape, size_) p) ≤ size_ := tkE_le (X := (tape, size_)) hps
        have hb2 : bnd (tape, size_) (tkE (tape, size_) p) := bnd_S w1
        refine g_aload_n 0 dX10_readWithin_18 rfl rfl ?_
        refine m_cVi (hS n (Nat.lt_succ_self n) (tkE (tape, size_) p) M ns hs hT hR2 hps2 hb2 hns hn6 hM (by have := phi_S w1; omega) (by omega) (okK_n hq hr h9)) hvX10_readSaying hyX10_readSaying rfl ⟨by dsimp only; omega, by dsimp only; omega⟩ ⟨Nat.zero_le _, Nat.zero_le _⟩ rfl (Nat.le_of_ble_eq_true rfl) dX10_readWithin_19 m_rec (fun r u hp => ?_)
        obtain ⟨fr3, a3, b3, t3, v3, bd3, bp3⟩ := u
        obtain ⟨hr3, he3⟩ := hp
        obtain ⟨ht4, hv9, hk3, hl3, hbd⟩ := hr3.isno hq
        have hbd : 0 < bd3 ∧ bd3 < 10 := hbd
        refine g_istore_n (L' := [(0, _), (1, _)]) 1 dX10_readWithin_22 rfl (by decide) rfl rfl ?_
        refine g_aload_n 0 dX10_readWithin_23 rfl rfl ?_
        refine g_bipush (v := nI 41) dX10_readWithin_24 (by decide +kernel) ?_
        refine m_cVv (ct_sign_bad _ hbd) hvX10_sign hyX10_sign rfl ⟨by dsimp only; omega, by dsimp only; omega⟩ ⟨Nat.zero_le _, Nat.zero_le _⟩ rfl (Nat.le_of_ble_eq_true rfl) dX10_readWithin_26 m_rec (fun u9 h9 => ?_)
        refine g_aload_n 0 dX10_readWithin_29 rfl rfl ?_
        refine g_dup dX10_readWithin_30 rfl ?_
        refine m_get_open dX10_readWithin_31 ?_
        refine g_iconst (v := nI 1) dX10_readWithin_34 (by decide +kernel) ?_
        refine g_isub_n dX10_readWithin_35 (by omega) ?_
        refine GG.topi (y := nI open_) (congrArg nI (by omega)) ?_
        refine m_put_open dX10_readWithin_36 ?_
        refine g_iload_n 1 dX10_readWithin_39 rfl rfl ?_
        exact g_iret (_, _, _, _, _, _, _) dX10_readWithin_40 (Nat.le_refl _) (Nat.le_refl _) (by exact ⟨RdR.no hr (by first | exact ht4 | exact RdP.t4 (by assumption)) (by first | exact hv9 | exact RdP.v9 (by assumption)) (by first | assumption | exact bad_k (by assumption) (by assumption)) (by first | assumption | exact bad_l (by assumption) (by assumption)) hbd, RdE.no hr⟩) (fun _ h => h)
      · skip
        rcases hw2 : isS (tape, size_) 41 q with _ | _
        · skip
          have w2 := hw2
          have hr : pE (tape, size_) ns (n + 1) 1 open_ [] p = pWrong (tape, size_) q := by rw [hstep]; unfold pStep; rw [if_neg Nat.one_ne_zero, if_pos rfl, if_pos w1, if_neg ho8]; show PR.bind (pE (tape, size_) ns n 4 (open_ + 1) [] (tkE (tape, size_) p)) _ = _; rw [hq]; show (if isS (tape, size_) 41 q = true then _ else _) = _; rw [if_neg (by rw [w2]; decide)]
          refine g_aload_n 0 dX10_readWithin_0 rfl rfl ?_
          refine g_bipush (v := nI 40) dX10_readWithin_1 (by decide +kernel) ?_
          refine m_cVi (ct_isSign p _ hs hT hR hps (by decide)) hvX10_isSign hyX10_isSign rfl ⟨by dsimp only; omega, by dsimp only; omega⟩ ⟨Nat.zero_le _, Nat.zero_le _⟩ rfl (Nat.le_of_ble_eq_true rfl) dX10_readWithin_3 m_rec (fun r u9 hp => ?_)
          obtain rfl := hp
          refine GG.topi (y := nI 1) (congrArg bI w1) ?_
          refine g_if_ne_n (tgt := 14) dX10_readWithin_6 (by decide) (by decide) (fun _ => ?_) (fun h => absurd h (by decide))
          refine g_aload_n 0 dX10_readWithin_14 rfl rfl ?_
          refine m_cVv (ct_opens p hs hT hR hps (by omega)) hvX10_opens hyX10_opens rfl ⟨by dsimp only; omega, by dsimp only; omega⟩ ⟨Nat.zero_le _, Nat.zero_le _⟩ rfl (Nat.le_of_ble_eq_true rfl) dX10_readWithin_15 m_rec (fun u hp => ?_)
          obtain ⟨a2, b2, t2, v2⟩ := u
          have hR2 : RdP (tape, size_) (tkE (tape, size_) p) a2 b2 t2 v2 := hp
          have hps2 : (tkE (tape, size_) p) ≤ size_ := tkE_le (X := (tape, size_)) hps
          have hb2 : bnd (tape, size_) (tkE (tape, size_) p) := bnd_S w1
          refine g_aload_n 0 dX10_readWithin_18 rfl rfl ?_
          refine m_cVi (hS n (Nat.lt_succ_self n) (tkE (tape, size_) p) M ns hs hT hR2 hps2 hb2 hns hn6 hM (by have := phi_S w1; omega) (by omega) (okK_o hq)) hvX10_readSaying hyX10_readSaying rfl ⟨by dsimp only; omega, by dsimp only; omega⟩ ⟨Nat.zero_le _, Nat.zero_le _⟩ rfl (Nat.le_of_ble_eq_true rfl) dX10_readWithin_19 m_rec (fun r u hp => ?_)
          obtain ⟨fr3, a3, b3, t3, v3, bd3, bp3⟩ := u
          obtain ⟨hr3, he3⟩ := hp
          obtain ⟨hz3, hR3, hq3⟩ := hr3.isok hq
          have hz3 : bd3 = 0 := hz3
          subst hz3
          obtain ⟨M3, m3, g31, g32, g33, g34, g35, g36, g37⟩ := he3 f q hq
          have g33 : fr3 7 = nI M3 := g33
          have hns3 : fr3 5 = nI ns := (g37 5 (by decide) (by omega)).trans hns
          have hph3 : 2 * M ≤ phi (tape, size_) (tkE (tape, size_) p) := (by have := phi_S w1; omega)
          have hps3 : q ≤ size_ := hq3
          have hb3 : bnd (tape, size_) q := g36
          have hlt3 : M3 < 450 := by have := (phi_le (tape, size_) q).2; omega
          refine GG.topi g32 ?_
          refine g_istore_n (L' := [(0, _), (1, _)]) 1 dX10_readWithin_22 rfl (by decide) rfl rfl ?_
          refine g_aload_n 0 dX10_readWithin_23 rfl rfl ?_
          refine g_bipush (v := nI 41) dX10_readWithin_24 (by decide +kernel) ?_
          refine m_cVv (ct_sign q _ hs hT hR3 hps3 (by decide)) hvX10_sign hyX10_sign rfl ⟨by dsimp only; omega, by dsimp only; omega⟩ ⟨Nat.zero_le _, Nat.zero_le _⟩ rfl (Nat.le_of_ble_eq_true rfl) dX10_readWithin_26 m_rec (fun u hp => ?_)
          obtain ⟨a4, b4, t4, v4, bd4, bp4⟩ := u
          have hr4 := RdR.isno hp (show pSgn _ _ _ = PR.no (if tkK (tape, size_) q = 4 then 1 else 2) (tkB (tape, size_) q) by unfold pSgn; rw [if_neg (by rw [w2]; decide)]; rfl)
          obtain ⟨ht4, hv9, hk4, hl4, hbd⟩ := hr4
          have hbd : 0 < bd4 ∧ bd4 < 10 := hbd
          refine g_aload_n 0 dX10_readWithin_29 rfl rfl ?_
          refine g_dup dX10_readWithin_30 rfl ?_
          refine m_get_open dX10_readWithin_31 ?_
          refine g_iconst (v := nI 1) dX10_readWithin_34 (by decide +kernel) ?_
          refine g_isub_n dX10_readWithin_35 (by omega) ?_
          refine GG.topi (y := nI open_) (congrArg nI (by omega)) ?_
          refine m_put_open dX10_readWithin_36 ?_
          refine g_iload_n 1 dX10_readWithin_39 rfl rfl ?_
          exact g_iret (_, _, _, _, _, _, _) dX10_readWithin_40 (Nat.le_refl _) (Nat.le_refl _) (by exact ⟨RdR.no hr (by first | exact ht4 | exact RdP.t4 (by assumption)) (by first | exact hv9 | exact RdP.v9 (by assumption)) (by first | assumption | exact bad_k (by assumption) (by assumption)) (by first | assumption | exact bad_l (by assumption) (by assumption)) hbd, RdE.no hr⟩) (fun _ h => h)
        · skip
          have w2 := hw2
          have hr : pE (tape, size_) ns (n + 1) 1 open_ [] p = PR.ok f (tkE (tape, size_) q) := by rw [hstep]; unfold pStep; rw [if_neg Nat.one_ne_zero, if_pos rfl, if_pos w1, if_neg ho8]; show PR.bind (pE (tape, size_) ns n 4 (open_ + 1) [] (tkE (tape, size_) p)) _ = _; rw [hq]; show (if isS (tape, size_) 41 q = true then _ else _) = _; rw [if_pos w2]
          refine g_aload_n 0 dX10_readWithin_0 rfl rfl ?_
          refine g_bipush (v := nI 40) dX10_readWithin_1 (by decide +kernel) ?_
          refine m_cVi (ct_isSign p _ hs hT hR hps (by decide)) hvX10_isSign hyX10_isSign rfl ⟨by dsimp only; omega, by dsimp only; omega⟩ ⟨Nat.zero_le _, Nat.zero_le _⟩ rfl (Nat.le_of_ble_eq_true rfl) dX10_readWithin_3 m_rec (fun r u9 hp => ?_)
          obtain rfl := hp
          refine GG.topi (y := nI 1) (congrArg bI w1) ?_
          refine g_if_ne_n (tgt := 14) dX10_readWithin_6 (by decide) (by decide) (fun _ => ?_) (fun h => absurd h (by decide))
          refine g_aload_n 0 dX10_readWithin_14 rfl rfl ?_
          refine m_cVv (ct_opens p hs hT hR hps (by omega)) hvX10_opens hyX10_opens rfl ⟨by dsimp only; omega, by dsimp only; omega⟩ ⟨Nat.zero_le _, Nat.zero_le _⟩ rfl (Nat.le_of_ble_eq_true rfl) dX10_readWithin_15 m_rec (fun u hp => ?_)
          obtain ⟨a2, b2, t2, v2⟩ := u
          have hR2 : RdP (tape, size_) (tkE (tape, size_) p) a2 b2 t2 v2 := hp
          have hps2 : (tkE (tape, size_) p) ≤ size_ := tkE_le (X := (tape, size_)) hps
          have hb2 : bnd (tape, size_) (tkE (tape, size_) p) := bnd_S w1
          refine g_aload_n 0 dX10_readWithin_18 rfl rfl ?_
          refine m_cVi (hS n (Nat.lt_succ_self n) (tkE (tape, size_) p) M ns hs hT hR2 hps2 hb2 hns hn6 hM (by have := phi_S w1; omega) (by omega) (okK_o hq)) hvX10_readSaying hyX10_readSaying rfl ⟨by dsimp only; omega, by dsimp only; omega⟩ ⟨Nat.zero_le _, Nat.zero_le _⟩ rfl (Nat.le_of_ble_eq_true rfl) dX10_readWithin_19 m_rec (fun r u hp => ?_)
          obtain ⟨fr3, a3, b3, t3, v3, bd3, bp3⟩ := u
          obtain ⟨hr3, he3⟩ := hp
          obtain ⟨hz3, hR3, hq3⟩ := hr3.isok hq
          have hz3 : bd3 = 0 := hz3
          subst hz3
          obtain ⟨M3, m3, g31, g32, g33, g34, g35, g36, g37⟩ := he3 f q hq
          have g33 : fr3 7 = nI M3 := g33
          have hns3 : fr3 5 = nI ns := (g37 5 (by decide) (by omega)).trans hns
          have hph3 : 2 * M ≤ phi (tape, size_) (tkE (tape, size_) p) := (by have := phi_S w1; omega)
          have hps3 : q ≤ size_ := hq3
          have hb3 : bnd (tape, size_) q := g36
          have hlt3 : M3 < 450 := by have := (phi_le (tape, size_) q).2; omega
          refine GG.topi g32 ?_
          refine g_istore_n (L' := [(0, _), (1, _)]) 1 dX10_readWithin_22 rfl (by decide) rfl rfl ?_
          refine g_aload_n 0 dX10_readWithin_23 rfl rfl ?_
          refine g_bipush (v := nI 41) dX10_readWithin_24 (by decide +kernel) ?_
          refine m_cVv (ct_sign q _ hs hT hR3 hps3 (by decide)) hvX10_sign hyX10_sign rfl ⟨by dsimp only; omega, by dsimp only; omega⟩ ⟨Nat.zero_le _, Nat.zero_le _⟩ rfl (Nat.le_of_ble_eq_true rfl) dX10_readWithin_26 m_rec (fun u hp => ?_)
          obtain ⟨a4, b4, t4, v4, bd4, bp4⟩ := u
          obtain ⟨hz4, hR4, hq4⟩ := RdR.isok hp (show pSgn _ _ _ = PR.ok () (tkE (tape, size_) q) by unfold pSgn; rw [if_pos w2])
          have hz4 : bd4 = 0 := hz4
          subst hz4
          have hps4 : (tkE (tape, size_) q) ≤ size_ := hq4
          have hb4 : bnd (tape, size_) (tkE (tape, size_) q) := bnd_S w2
          refine g_aload_n 0 dX10_readWithin_29 rfl rfl ?_
          refine g_dup dX10_readWithin_30 rfl ?_
          refine m_get_open dX10_readWithin_31 ?_
          refine g_iconst (v := nI 1) dX10_readWithin_34 (by decide +kernel) ?_
          refine g_isub_n dX10_readWithin_35 (by omega) ?_
          refine GG.topi (y := nI open_) (congrArg nI (by omega)) ?_
          refine m_put_open dX10_readWithin_36 ?_
          refine g_iload_n 1 dX10_readWithin_39 rfl rfl ?_
          exact g_iret (_, _, _, _, _, _, _) dX10_readWithin_40 (Nat.le_refl _) (Nat.le_refl _) (by exact ⟨RdR.ok hr hR4 hps4, RdE.same hr (phi_S w1) (by omega) g31 g33 g34 ⟨q, g35, phi_S w2⟩ hb4 g37⟩) (fun _ h => h)
set_option maxHeartbeats 8000000 in
theorem say_s {n : Nat} (hJ : JoinC l D cl tys mi cI cJ cZ ma n) : SayC4 l D cl tys mi cI cJ cZ ma n := by
  intro known fresh_ saved images isImage thrown tape taped size_ at_ begin_ token value open_ badPlace faultKind faultPlace xs ys pairs rows top heaps endsBehind path order firstOrder ordersMany tSort tMany numbers p M ns hs hT hR hps hb hns hn6 hM hphi ho h9
  refine CT.of (L := [(0, .ref (ma 0))]) rfl (by decide +kernel) rfl (Nat.le_of_ble_eq_true rfl) ?_
  refine g_aload_n 0 dX10_readSaying_0 rfl rfl ?_
  refine g_iconst (v := nI 1) dX10_readSaying_1 (by decide +kernel) ?_
  refine m_cVi (hJ p M ns hs hT hR hps hb hns hn6 hM hphi ho h9) hvX10_readJoined hyX10_readJoined rfl ⟨by dsimp only; omega, by dsimp only; omega⟩ ⟨Nat.zero_le _, Nat.zero_le _⟩ rfl (Nat.le_of_ble_eq_true rfl) dX10_readSaying_2 m_rec (fun r u hp => ?_)
  exact g_iret u dX10_readSaying_5 (Nat.le_refl _) (Nat.le_refl _) (by exact hp) (fun _ h => h)
end
