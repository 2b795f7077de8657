/-! READING: marks beside one another -/
set_option maxRecDepth 100000
/-- behind the first: one alone, or several that are strung -/
def JInv (X : Txt) (ns d M p : Nat) (fr0 : Nat → Int32) (acc : List Sem) (q : Nat) (fr : Nat → Int32) (M1 first last sv : Nat) : Prop := M ≤ M1 ∧ fr 7 = nI M1 ∧ (∀ j, ¬ j = 7 → j < 66 + 4 * M → fr j = fr0 j) ∧
  ((sv = 0 ∧ first = last ∧ (∃ f, acc = [f] ∧ SayB ns M M1 d f first fr) ∧ 2 * M1 + 3 + phi X p ≤ 2 * M + phi X q) ∨
   (sv = 1 ∧ 2 ≤ acc.length ∧ last < M1 ∧ ChL M (fun f m => SayB ns M last d f m fr) fr acc first last ∧ 2 * M1 + 5 + phi X p ≤ 2 * M + phi X q))
theorem grp_1 (g : List Sem → Sem) (f : Sem) : grp g [f] = f := rfl
theorem grp_2 {g : List Sem → Sem} {acc : List Sem} (h : 2 ≤ acc.length) : grp g acc = g acc := by
  match acc, h with
  | a :: b :: r, _ => rfl
  | [_], h => exact absurd (show 2 ≤ 1 from h) (by decide)
  | [], h => exact absurd (show 2 ≤ 0 from h) (by decide)
/-- the first of several: held by a mark of its own -/
theorem J_hold {X : Txt} {ns d M p q M1 first last : Nat} {fr0 fr : Nat → Int32} {acc : List Sem} (h : JInv X ns d M p fr0 acc q fr M1 first last 0) : ChL M (fun f m => SayB ns M M1 d f m (mkM fr M1 9 0 (nI first))) (mkM fr M1 9 0 (nI first)) acc M1 M1 := by
  obtain ⟨h1, h2, h3, h4⟩ := h
  rcases h4 with ⟨-, e2, ⟨f, e3, h5⟩, h6⟩ | ⟨e, -⟩
  · subst e3
    exact ⟨h1, Nat.le_refl _, ⟨first, mkM_2, SayB.up (Nat.le_refl _) (Nat.le_refl _) (Nat.le_refl _) (fun j j1 j2 => mkM_o (by omega) (Or.inl j2)) _ _ _ _ (Nat.le_refl _) h5⟩, Or.inl ⟨rfl, rfl, mkM_3⟩⟩
  · exact absurd e (by decide)
/-- one more is strung -/
theorem J_next {X : Txt} {ns d M p r M0 M1 M2 first last m : Nat} {fr0 fr1 fr2 : Nat → Int32} {acc : List Sem} {g : Sem} (h1 : M ≤ M0) (hl : last < M1) (hlen : 1 ≤ acc.length) (hc : ChL M (fun f m => SayB ns M last d f m fr1) fr1 acc first last) (h3 : ∀ j, ¬ j = 7 → j < 66 + 4 * M → fr1 j = fr0 j) (hM1 : M0 ≤ M1) (g1 : M1 ≤ M2) (g4 : SayB ns M1 M2 d g m fr2) (g7 : ∀ j, ¬ j = 7 → j < 66 + 4 * M1 → fr2 j = fr1 j) (hp : 2 * M2 + 7 + phi X p ≤ 2 * M + phi X r) :
    JInv X ns d M p fr0 (acc ++ [g]) r (up (mkM fr2 M2 9 0 (nI m)) (66 + 4 * last + 3) (nI M2)) (M2 + 1) first M2 1 := by
  have hlast : M ≤ last := by
    cases acc with
    | nil => exact hc.elim
    | cons x xs => have := hc.1; have := hc.2.1; omega
  refine ⟨by omega, ?_, fun j j1 j2 => ?_, Or.inr ⟨rfl, by rw [List.length_append]; show 2 ≤ acc.length + 1; omega, Nat.lt_succ_self _, ?_, by omega⟩⟩
  · rw [up_n (by omega)]; exact mkM_7
  · rw [up_n (by omega), mkM_o j1 (Or.inl (by omega)), g7 j j1 (by omega)]; exact h3 j j1 j2
  · refine ChL.snoc (next := M2) (last := last) (g := g) (K := mkM fr2 M2 9 0 (nI m)) (K2 := up (mkM fr2 M2 9 0 (nI m)) (66 + 4 * last + 3) (nI M2)) (r := m) (by omega) (fun j j1 j2 => up_n (by omega)) (up_s _ _ _) ((up_n (by omega)).trans mkM_2) ((up_n (by omega)).trans mkM_3) ?_ acc first ?_
    · exact SayB.up (Nat.le_refl _) (by omega) (Nat.le_refl _) (fun j j1 j2 => (up_n (by omega)).trans (mkM_o (by omega) (Or.inl j2))) _ _ _ _ (Nat.le_refl _) g4
    · have hk : ∀ j, 66 + 4 * M ≤ j → j < 66 + 4 * (last + 1) → mkM fr2 M2 9 0 (nI m) j = fr1 j := fun j j1 j2 => (mkM_o (by omega) (Or.inl (by omega))).trans (g7 j (by omega) (by omega))
      exact ChL.up (fun f r' hs => SayB.up (Nat.le_refl _) (Nat.le_refl _) (Nat.le_refl _) (fun j j1 j2 => hk j j1 (by omega)) _ _ _ _ (Nat.le_refl _) hs) hk acc first hc
theorem RdE.one {X : Txt} {ns d d2 M p q M1 first last : Nat} {r : PR Sem} {g : List Sem → Sem} {fr0 fr : Nat → Int32} {acc : List Sem} (h : JInv X ns d M p fr0 acc q fr M1 first last 0) (hr : r = PR.ok (grp g acc) q) (hb : bnd X q) (hd : d ≤ d2) : RdE X ns d2 M p r fr0 fr (nI first) := by
  obtain ⟨h1, h2, h3, h4⟩ := h
  rcases h4 with ⟨-, e2, ⟨f, e3, h5⟩, h6⟩ | ⟨e, -⟩
  · subst e3
    intro f2 q2 e
    rw [hr] at e
    obtain ⟨e1, e2⟩ := PR.inj e
    subst e1; subst e2
    exact ⟨M1, first, h1, rfl, h2, SayB.up (Nat.le_refl _) (Nat.le_refl _) (Nat.le_refl _) (fun _ _ _ => rfl) _ _ _ _ hd h5, h6, hb, h3⟩
  · exact absurd e (by decide)
theorem RdE.many {X : Txt} {ns d M p q M1 first last kd : Nat} {r : PR Sem} {g : List Sem → Sem} {fr0 fr : Nat → Int32} {acc : List Sem} (h : JInv X ns d M p fr0 acc q fr M1 first last 1) (hr : r = PR.ok (grp g acc) q) (hb : bnd X q) (hk : (kd = 0 ∧ g = sAny) ∨ (kd = 1 ∧ g = sAll)) : RdE X ns (d + 1) M p r fr0 (mkM fr M1 kd 0 (nI first)) (nI M1) := by
  obtain ⟨h1, h2, h3, h4⟩ := h
  rcases h4 with ⟨e, -⟩ | ⟨-, e2, e3, h5, h6⟩
  · exact absurd e (by decide)
  · intro f2 q2 e
    rw [hr, grp_2 e2] at e
    obtain ⟨e1, e2⟩ := PR.inj e
    subst e1; subst e2
    have hup : ∀ j, 66 + 4 * M ≤ j → j < 66 + 4 * M1 → mkM fr M1 kd 0 (nI first) j = fr j := fun j j1 j2 => mkM_o (by omega) (Or.inl j2)
    have hB : ChB M (M1 + 1) (fun f m => SayB ns M (M1 + 1) d f m (mkM fr M1 kd 0 (nI first))) (mkM fr M1 kd 0 (nI first)) acc (nI first) :=
      ChB.up (Nat.le_refl _) (Nat.le_succ _) (fun f m hs => SayB.up (Nat.le_refl _) (Nat.le_refl _) (by omega) (fun j j1 j2 => hup j j1 (by omega)) _ _ _ _ (Nat.le_refl _) hs) hup acc _ (ChL.toB e3 acc first h5)
    refine ⟨M1 + 1, M1, by omega, rfl, mkM_7, ⟨⟨h1, Nat.lt_succ_self _⟩, ?_⟩, by omega, hb, fun j j1 j2 => (mkM_o j1 (Or.inl (by omega))).trans (h3 j j1 j2)⟩
    rcases hk with ⟨k1, k2⟩ | ⟨k1, k2⟩
    · subst k1; subst k2
      exact Or.inr (Or.inr (Or.inr (Or.inr (Or.inr (Or.inr (Or.inr (Or.inl ⟨acc, mkM_0, by rw [mkM_2]; exact hB, rfl⟩)))))))
    · subst k1; subst k2
      exact Or.inr (Or.inr (Or.inr (Or.inr (Or.inr (Or.inr (Or.inr (Or.inr ⟨acc, mkM_0, by rw [mkM_2]; exact hB, rfl⟩)))))))
theorem J_first {X : Txt} {ns d M p M2 m q : Nat} {f : Sem} {fr0 fr : Nat → Int32} (g1 : M ≤ M2) (g3 : fr 7 = nI M2) (g4 : SayB ns M M2 d f m fr) (g5 : 2 * M2 + 3 + phi X p ≤ 2 * M + phi X q) (g7 : ∀ j, ¬ j = 7 → j < 66 + 4 * M → fr j = fr0 j) : JInv X ns d M p fr0 [f] q fr M2 m m 0 :=
  ⟨g1, g3, g7, Or.inl ⟨rfl, rfl, ⟨f, rfl, g4⟩, g5⟩⟩
theorem J_b {X : Txt} {ns d M p q M1 first last sv : Nat} {fr0 fr : Nat → Int32} {acc : List Sem} (h : JInv X ns d M p fr0 acc q fr M1 first last sv) : M ≤ M1 ∧ 2 * M1 + 3 + phi X p ≤ 2 * M + phi X q ∧ 1 ≤ acc.length := by
  obtain ⟨h1, h2, h3, h4⟩ := h
  rcases h4 with ⟨-, e2, ⟨f, e3, h5⟩, h6⟩ | ⟨-, e2, e3, h5, h6⟩
  · subst e3; exact ⟨h1, h6, Nat.le_refl _⟩
  · exact ⟨h1, by omega, by omega⟩
/-! THE MODEL, 20: parts, sayings -/
set_option maxRecDepth 100000
section
variable {l : Launch} {D : va_G} {cl : List vw_C} {tys : List (ClassId × FieldType)} {mi : Nat} {cI cJ cZ : ClassId} {ma : Nat → Nat} {known fresh_ saved images : Nat → Int32} {isImage : Nat → Bool} {thrown : Nat} {tape : Nat → Nat} {taped size_ at_ begin_ token value open_ bad badPlace faultKind : Nat} {faultPlace : Int32} {xs ys : Nat → Nat} {pairs : Nat} {rows : Nat → Int64} {top : Nat} {heaps : Nat → Nat} {endsBehind : Nat → Int32} {path order firstOrder : Nat → Nat} {ordersMany : Nat} {tSort : Nat → Int32} {tMany : Nat → Nat} {numbers : Nat → Int64}
set_option maxHeartbeats 8000000 in
theorem part_s {n : Nat} (hF : ∀ k, k < n + 1 → FactC l D cl tys mi cI cJ cZ ma k) : PartC l D cl tys mi cI cJ cZ ma (n + 1) := by
  intro known fresh_ saved images isImage thrown tape taped size_ at_ begin_ token value open_ badPlace faultKind faultPlace xs ys pairs rows top heaps endsBehind path order firstOrder ordersMany tSort tMany numbers p M ns hs hT hR hps hb hns hn6 hM hphi ho h9
  have hstep : pE (tape, size_) ns (n + 1) 2 open_ [] p = PR.bind (pE (tape, size_) ns n 0 open_ [] p) fun f q => pE (tape, size_) ns n 3 open_ [f] q := rfl
  refine CT.of (L := [(0, .ref (ma 0)), (1, .int (nI 0))]) rfl (by decide +kernel) rfl (Nat.le_of_ble_eq_true rfl) ?_
  have loopJ : ∀ (k9 : Nat) (acc : List Sem) (q : Nat) (frq : Nat → Int32) (aq bq tq vq bpq M1 first last sv : Nat), k9 ≤ n → RdP (tape, size_) q aq bq tq vq → q ≤ size_ → bnd (tape, size_) q → frq 5 = nI ns → JInv (tape, size_) ns (25 - 3 * open_) M p fresh_ acc q frq M1 first last sv → okK (pE (tape, size_) ns k9 3 open_ acc q) → pE (tape, size_) ns (n + 1) 2 open_ [] p = pE (tape, size_) ns k9 3 open_ acc q → GG l D cl tys cX10_readJoined 6 (some .int) RX10 ({ frames := 21 + 6 * (8 - open_), cells := 0, slots := 0, locals := 430 + 160 * (8 - open_) } : Room) (AM ma) MT (QM (Qi (fun (v : Int32) (u : (Nat → Int32) × Nat × Nat × Nat × Nat × Nat × Nat) => RdR (tape, size_) (pE (tape, size_) ns (n + 1) 2 open_ [] p) u.2.1 u.2.2.1 u.2.2.2.1 u.2.2.2.2.1 u.2.2.2.2.2.1 u.2.2.2.2.2.2 ∧ RdE (tape, size_) ns (26 - 3 * open_) M p (pE (tape, size_) ns (n + 1) 2 open_ [] p) fresh_ u.1 v) (fun (u : (Nat → Int32) × Nat × Nat × Nat × Nat × Nat × Nat) => HM D cl tys mi cI cJ cZ ma known u.1 saved images isImage thrown tape taped size_ u.2.1 u.2.2.1 u.2.2.2.1 u.2.2.2.2.1 open_ u.2.2.2.2.2.1 u.2.2.2.2.2.2 faultKind faultPlace xs ys pairs rows top heaps endsBehind path order firstOrder ordersMany tSort tMany numbers) (AM ma)) 0 0 (AM ma)) (HM D cl tys mi cI cJ cZ ma known frq saved images isImage thrown tape taped size_ aq bq tq vq open_ 0 bpq faultKind faultPlace xs ys pairs rows top heaps endsBehind path order firstOrder ordersMany tSort tMany numbers) 0 0 22 [(0, .ref (ma 0)), (1, .int (nI 0)), (2, .int (nI first)), (3, .int (nI last)), (4, .int (nI sv))] [] := by
    intro k9
    induction k9 with
    | zero => intro acc q frq aq bq tq vq bpq M1 first last sv hk9 hRq hpq hbq hnq hJ hok hrr; exact absurd rfl (hok 9 0 rfl)
    | succ k9 ihJ =>
      intro acc q frq aq bq tq vq bpq M1 first last sv hk9 hRq hpq hbq hnq hJ hok hrr
      obtain ⟨hj1, hj2, hj3⟩ := J_b hJ
      have hMq : frq 7 = nI M1 := hJ.2.1
      have hlq : M1 < 450 := by have := (phi_le (tape, size_) q).2; omega
      have hst2 : pE (tape, size_) ns (k9 + 1) 3 open_ acc q = if isW (tape, size_) wAnd q = true then PR.bind (pE (tape, size_) ns k9 0 open_ [] (tkE (tape, size_) q)) fun f r => pE (tape, size_) ns k9 3 open_ (acc ++ [f]) r else PR.ok (grp sAll acc) q := rfl
      rcases (show sv = 0 ∨ sv = 1 from hJ.2.2.2.elim (fun z => Or.inl z.1) (fun z => Or.inr z.1)) with rfl | rfl
      · skip
        rcases hw : isW (tape, size_) wAnd q with _ | _
        · skip
          have w := hw
          have hr0 : pE (tape, size_) ns (k9 + 1) 3 open_ acc q = PR.ok (grp sAll acc) q := by rw [hst2, if_neg (by rw [w]; decide)]
          have hr := hrr.trans hr0
          refine g_aload_n 0 dX10_readJoined_22 rfl rfl ?_
          refine g_iload_n 1 dX10_readJoined_23 rfl rfl ?_
          refine g_if_eq_n (tgt := 32) dX10_readJoined_24 (by decide) (by decide) (fun _ => ?_) (fun h => absurd h (by decide))
          refine g_ldcS st_X10_189 dX10_readJoined_32 ?_
          refine m_cVi (ct_took q wAnd hs hT hRq hpq st_X10_189 wd_X10_189) hvX10_took hyX10_took rfl ⟨by dsimp only; omega, by dsimp only; omega⟩ ⟨Nat.zero_le _, Nat.zero_le _⟩ rfl (Nat.le_of_ble_eq_true rfl) dX10_readJoined_34 m_rec (fun r u hp => ?_)
          obtain ⟨a1, b1, t1, v1⟩ := u
          obtain ⟨hp, hq1⟩ := hp
          have hR1 : RdP (tape, size_) q a1 b1 t1 v1 := by have h := hq1; unfold opt at h; rw [if_neg (by rw [w]; decide)] at h; exact h
          obtain rfl := hp
          have hps1 : q ≤ size_ := hpq
          have hb1 : bnd (tape, size_) q := hbq
          refine GG.topi (y := nI 0) (congrArg bI w) ?_
          refine g_if_eq_n (tgt := 97) dX10_readJoined_37 (by decide) (by decide) (fun _ => ?_) (fun h => absurd h (by decide))
          refine g_iload dX10_readJoined_97 rfl ?_
          refine g_if_eq_n (tgt := 120) dX10_readJoined_99 (by decide) (by decide) (fun _ => ?_) (fun h => absurd h (by decide))
          refine g_iload_n 2 dX10_readJoined_120 rfl rfl ?_
          exact g_iret (_, _, _, _, _, _, _) dX10_readJoined_121 (Nat.le_refl _) (Nat.le_refl _) (by exact ⟨RdR.ok hr hR1 hps1, RdE.one hJ hr hb1 (by omega)⟩) (fun _ h => h)
        · skip
          have w := hw
          rcases hq : pE (tape, size_) ns k9 0 open_ [] (tkE (tape, size_) q) with ⟨k, l9⟩ | ⟨f, z9⟩
          · skip
            have hr0 : pE (tape, size_) ns (k9 + 1) 3 open_ acc q = PR.no k l9 := by rw [hst2, if_pos w]; show PR.bind (pE (tape, size_) ns k9 0 open_ [] (tkE (tape, size_) q)) _ = _; rw [hq]; rfl
            have hr := hrr.trans hr0
            refine g_aload_n 0 dX10_readJoined_22 rfl rfl ?_
            refine g_iload_n 1 dX10_readJoined_23 rfl rfl ?_
            refine g_if_eq_n (tgt := 32) dX10_readJoined_24 (by decide) (by decide) (fun _ => ?_) (fun h => absurd h (by decide))
            refine g_ldcS st_X10_189 dX10_readJoined_32 ?_
            refine m_cVi (ct_took q wAnd hs hT hRq hpq st_X10_189 wd_X10_189) hvX10_took hyX10_took rfl ⟨by dsimp only; omega, by dsimp only; omega⟩ ⟨Nat.zero_le _, Nat.zero_le _⟩ rfl (Nat.le_of_ble_eq_true rfl) dX10_readJoined_34 m_rec (fun r u hp => ?_)
            obtain ⟨a1, b1, t1, v1⟩ := u
            obtain ⟨hp, hq1⟩ := hp
            have hR1 : RdP (tape, size_) (tkE (tape, size_) q) a1 b1 t1 v1 := by have h := hq1; unfold opt at h; rw [if_pos w] at h; exact h
            obtain rfl := hp
            have hps1 : (tkE (tape, size_) q) ≤ size_ := tkE_le (X := (tape, size_)) hpq
            have hb1 : bnd (tape, size_) (tkE (tape, size_) q) := bnd_W w
            refine GG.topi (y := nI 1) (congrArg bI w) ?_
            refine g_if_eq_n (tgt := 97) dX10_readJoined_37 (by decide) (by decide) (fun h => absurd h (by decide)) (fun _ => ?_)
            refine g_iload dX10_readJoined_40 rfl ?_
            refine g_if_ne_n (tgt := 56) dX10_readJoined_42 (by decide) (by decide) (fun h => absurd h (by decide)) (fun _ => ?_)
            refine g_aload_n 0 dX10_readJoined_45 rfl rfl ?_
            refine g_bipush (v := nI 9) dX10_readJoined_46 (by decide +kernel) ?_
            refine g_iconst (v := nI 0) dX10_readJoined_48 (by decide +kernel) ?_
            refine g_iload_n 2 dX10_readJoined_49 rfl rfl ?_
            refine m_cVi (ct_mark M1 _ _ _ hMq (by omega)) hvX10_mark hyX10_mark rfl ⟨by dsimp only; omega, by dsimp only; omega⟩ ⟨Nat.zero_le _, Nat.zero_le _⟩ rfl (Nat.le_of_ble_eq_true rfl) dX10_readJoined_50 m_rec (fun r u hp => ?_)
            obtain ⟨hp, hu2⟩ := hp
            have hu2 : u = _ := hu2
            subst hu2
            obtain rfl := hp
            refine g_istore_n (L' := [(0, _), (1, _), (2, _), (3, _), (4, _)]) 2 dX10_readJoined_53 rfl (by decide) rfl rfl ?_
            refine g_iload_n 2 dX10_readJoined_54 rfl rfl ?_
            refine g_istore_n (L' := [(0, _), (1, _), (2, _), (3, _), (4, _)]) 3 dX10_readJoined_55 rfl (by decide) rfl rfl ?_
            refine g_aload_n 0 dX10_readJoined_56 rfl rfl ?_
            refine g_bipush (v := nI 9) dX10_readJoined_57 (by decide +kernel) ?_
            refine g_iconst (v := nI 0) dX10_readJoined_59 (by decide +kernel) ?_
            refine g_iload_n 1 dX10_readJoined_60 rfl rfl ?_
            refine g_if_eq_n (tgt := 72) dX10_readJoined_61 (by decide) (by decide) (fun _ => ?_) (fun h => absurd h (by decide))
            refine g_aload_n 0 dX10_readJoined_72 rfl rfl ?_
            refine m_cVi (hF k9 (by omega) (tkE (tape, size_) q) (M1 + 1) ns hs hT hR1 hps1 hb1 ((mkM_o (by decide) (Or.inl (by omega))).trans hnq) hn6 mkM_7 (by have : phi (tape, size_) q + 3 + 1 ≤ _ := phi_W hbq w; omega) (by omega) (okK_n hq hr0 hok)) hvX10_readFact hyX10_readFact rfl ⟨by dsimp only; omega, by dsimp only; omega⟩ ⟨Nat.zero_le _, Nat.zero_le _⟩ rfl (Nat.le_of_ble_eq_true rfl) dX10_readJoined_73 m_rec (fun r u hp => ?_)
            obtain ⟨fr3, a3, b3, t3, v3, bd3, bp3⟩ := u
            obtain ⟨hr3, he3⟩ := hp
            obtain ⟨ht4, hv9, hk3, hl3, hbd⟩ := hr3.isno hq
            have hbd : 0 < bd3 ∧ bd3 < 10 := hbd
            refine m_cVi (ct_mark_bad _ _ _ hbd) hvX10_mark hyX10_mark rfl ⟨by dsimp only; omega, by dsimp only; omega⟩ ⟨Nat.zero_le _, Nat.zero_le _⟩ rfl (Nat.le_of_ble_eq_true rfl) dX10_readJoined_76 m_rec (fun r u9 hp => ?_)
            obtain rfl := hp
            refine GG.topi (y := nI 0) rfl ?_
            refine g_istore (L' := [(0, _), (1, _), (2, _), (3, _), (4, _), (5, _)]) dX10_readJoined_79 (by decide) rfl rfl ?_
            refine g_aload_n 0 dX10_readJoined_81 rfl rfl ?_
            refine g_iload_n 3 dX10_readJoined_82 rfl rfl ?_
            refine g_iload dX10_readJoined_83 rfl ?_
            refine m_cVv (ct_beside_bad _ _ hbd) hvX10_beside hyX10_beside rfl ⟨by dsimp only; omega, by dsimp only; omega⟩ ⟨Nat.zero_le _, Nat.zero_le _⟩ rfl (Nat.le_of_ble_eq_true rfl) dX10_readJoined_85 m_rec (fun u9 h9 => ?_)
            refine g_iload dX10_readJoined_88 rfl ?_
            refine g_istore_n (L' := [(0, _), (1, _), (2, _), (3, _), (4, _), (5, _)]) 3 dX10_readJoined_90 rfl (by decide) rfl rfl ?_
            refine g_iconst (v := nI 1) dX10_readJoined_91 (by decide +kernel) ?_
            refine g_istore (L' := [(0, _), (1, _), (2, _), (3, _), (4, _), (5, _)]) dX10_readJoined_92 (by decide) rfl rfl ?_
            refine g_goto (tgt := 22) dX10_readJoined_94 (by decide) ?_
            refine g_aload_n 0 dX10_readJoined_22 rfl rfl ?_
            refine g_iload_n 1 dX10_readJoined_23 rfl rfl ?_
            refine g_if_eq_n (tgt := 32) dX10_readJoined_24 (by decide) (by decide) (fun _ => ?_) (fun h => absurd h (by decide))
            refine g_ldcS st_X10_189 dX10_readJoined_32 ?_
            refine m_cVi (ct_took_bad hbd st_X10_189) hvX10_took hyX10_took rfl ⟨by dsimp only; omega, by dsimp only; omega⟩ ⟨Nat.zero_le _, Nat.zero_le _⟩ rfl (Nat.le_of_ble_eq_true rfl) dX10_readJoined_34 m_rec (fun r u9 hp => ?_)
            obtain rfl := hp
            refine GG.topi (y := nI 0) rfl ?_
            refine g_if_eq_n (tgt := 97) dX10_readJoined_37 (by decide) (by decide) (fun _ => ?_) (fun h => absurd h (by decide))
            refine g_iload dX10_readJoined_97 rfl ?_
            refine g_if_eq_n (tgt := 120) dX10_readJoined_99 (by decide) (by decide) (fun h => absurd h (by decide)) (fun _ => ?_)
            refine g_aload_n 0 dX10_readJoined_102 rfl rfl ?_
            refine g_iload_n 1 dX10_readJoined_103 rfl rfl ?_
            refine g_if_eq_n (tgt := 111) dX10_readJoined_104 (by decide) (by decide) (fun _ => ?_) (fun h => absurd h (by decide))
            refine g_iconst (v := nI 1) dX10_readJoined_111 (by decide +kernel) ?_
            refine g_iconst (v := nI 0) dX10_readJoined_112 (by decide +kernel) ?_
            refine g_iload_n 2 dX10_readJoined_113 rfl rfl ?_
            refine m_cVi (ct_mark_bad _ _ _ hbd) hvX10_mark hyX10_mark rfl ⟨by dsimp only; omega, by dsimp only; omega⟩ ⟨Nat.zero_le _, Nat.zero_le _⟩ rfl (Nat.le_of_ble_eq_true rfl) dX10_readJoined_114 m_rec (fun r u9 hp => ?_)
            obtain rfl := hp
            refine GG.topi (y := nI 0) rfl ?_
            refine g_goto (tgt := 121) dX10_readJoined_117 (by decide) ?_
            exact g_iret (_, _, _, _, _, _, _) dX10_readJoined_121 (Nat.le_refl _) (Nat.le_refl _) (by exact ⟨RdR.no hr (by first | exact ht4 | exact RdP.t4 (by assumption)) (by first | exact hv9 | exact RdP.v9 (by assumption)) (by first | assumption | exact bad_k (by assumption) (by assumption)) (by first | assumption | exact bad_l (by assumption) (by assumption)) hbd, RdE.no hr⟩) (fun _ h => h)
          · skip
            have hr0 : pE (tape, size_) ns (k9 + 1) 3 open_ acc q = pE (tape, size_) ns k9 3 open_ (acc ++ [f]) z9 := by rw [hst2, if_pos w]; show PR.bind (pE (tape, size_) ns k9 0 open_ [] (tkE (tape, size_) q)) _ = _; rw [hq]; rfl
            refine g_aload_n 0 dX10_readJoined_22 rfl rfl ?_
            refine g_iload_n 1 dX10_readJoined_23 rfl rfl ?_
            refine g_if_eq_n (tgt := 32) dX10_readJoined_24 (by decide) (by decide) (fun _ => ?_) (fun h => absurd h (by decide))
            refine g_ldcS st_X10_189 dX10_readJoined_32 ?_
            refine m_cVi (ct_took q wAnd hs hT hRq hpq st_X10_189 wd_X10_189) hvX10_took hyX10_took rfl ⟨by dsimp only; omega, by dsimp only; omega⟩ ⟨Nat.zero_le _, Nat.zero_le _⟩ rfl (Nat.le_of_ble_eq_true rfl) dX10_readJoined_34 m_rec (fun r u hp => ?_)
            obtain ⟨a1, b1, t1, v1⟩ := u
            obtain ⟨hp, hq1⟩ := hp
            have hR1 : RdP (tape, size_) (tkE (tape, size_) q) a1 b1 t1 v1 := by have h := hq1; unfold opt at h; rw [if_pos w] at h; exact h
            obtain rfl := hp
            have hps1 : (tkE (tape, size_) q) ≤ size_ := tkE_le (X := (tape, size_)) hpq
            have hb1 : bnd (tape, size_) (tkE (tape, size_) q) := bnd_W w
            refine GG.topi (y := nI 1) (congrArg bI w) ?_
            refine g_if_eq_n (tgt := 97) dX10_readJoined_37 (by decide) (by decide) (fun h => absurd h (by decide)) (fun _ => ?_)
            refine g_iload dX10_readJoined_40 rfl ?_
            refine g_if_ne_n (tgt := 56) dX10_readJoined_42 (by decide) (by decide) (fun h => absurd h (by decide)) (fun _ => ?_)
            refine g_aload_n 0 dX10_readJoined_45 rfl rfl ?_
            refine g_bipush (v := nI 9) dX10_readJoined_46 (by decide +kernel) ?_
            refine g_iconst (v := nI 0) dX10_readJoined_48 (by decide +kernel) ?_
            refine g_iload_n 2 dX10_readJoined_49 rfl rfl ?_
            refine m_cVi (ct_mark M1 _ _ _ hMq (by omega)) hvX10_mark hyX10_mark rfl ⟨by dsimp only; omega, by dsimp only; omega⟩ ⟨Nat.zero_le _, Nat.zero_le _⟩ rfl (Nat.le_of_ble_eq_true rfl) dX10_readJoined_50 m_rec (fun r u hp => ?_)
            obtain ⟨hp, hu2⟩ := hp
            have hu2 : u = _ := hu2
            subst hu2
            obtain rfl := hp
            refine g_istore_n (L' := [(0, _), (1, _), (2, _), (3, _), (4, _)]) 2 dX10_readJoined_53 rfl (by decide) rfl rfl ?_
            refine g_iload_n 2 dX10_readJoined_54 rfl rfl ?_
            refine g_istore_n (L' := [(0, _), (1, _), (2, _), (3, _), (4, _)]) 3 dX10_readJoined_55 rfl (by decide) rfl rfl ?_
            refine g_aload_n 0 dX10_readJoined_56 rfl rfl ?_
            refine g_bipush (v := nI 9) dX10_readJoined_57 (by decide +kernel) ?_
            refine g_iconst (v := nI 0) dX10_readJoined_59 (by decide +kernel) ?_
            refine g_iload_n 1 dX10_readJoined_60 rfl rfl ?_
            refine g_if_eq_n (tgt := 72) dX10_readJoined_61 (by decide) (by decide) (fun _ => ?_) (fun h => absurd h (by decide))
            refine g_aload_n 0 dX10_readJoined_72 rfl rfl ?_
            refine m_cVi (hF k9 (by omega) (tkE (tape, size_) q) (M1 + 1) ns hs hT hR1 hps1 hb1 ((mkM_o (by decide) (Or.inl (by omega))).trans hnq) hn6 mkM_7 (by have : phi (tape, size_) q + 3 + 1 ≤ _ := phi_W hbq w; omega) (by omega) (okK_o hq)) hvX10_readFact hyX10_readFact rfl ⟨by dsimp only; omega, by dsimp only; omega⟩ ⟨Nat.zero_le _, Nat.zero_le _⟩ rfl (Nat.le_of_ble_eq_true rfl) dX10_readJoined_73 m_rec (fun r u hp => ?_)
            obtain ⟨fr3, a3, b3, t3, v3, bd3, bp3⟩ := u
            obtain ⟨hr3, he3⟩ := hp
            obtain ⟨hz3, hR3, hq3⟩ := hr3.isok hq
            have hz3 : bd3 = 0 := hz3
            subst hz3
            obtain ⟨M3, m3, g31, g32, g33, g34, g35, g36, g37⟩ := he3 f z9 hq
            have g33 : fr3 7 = nI M3 := g33
            have hns3 : fr3 5 = nI ns := (g37 5 (by decide) (by omega)).trans ((mkM_o (by decide) (Or.inl (by omega))).trans hnq)
            have hph3 : 2 * (M1 + 1) ≤ phi (tape, size_) (tkE (tape, size_) q) := (by have : phi (tape, size_) q + 3 + 1 ≤ _ := phi_W hbq w; omega)
            have hps3 : z9 ≤ size_ := hq3
            have hb3 : bnd (tape, size_) z9 := g36
            have hlt3 : M3 < 450 := by have := (phi_le (tape, size_) z9).2; omega
            refine GG.topi g32 ?_
            refine m_cVi (ct_mark M3 _ _ _ g33 (by omega)) hvX10_mark hyX10_mark rfl ⟨by dsimp only; omega, by dsimp only; omega⟩ ⟨Nat.zero_le _, Nat.zero_le _⟩ rfl (Nat.le_of_ble_eq_true rfl) dX10_readJoined_76 m_rec (fun r u hp => ?_)
            obtain ⟨hp, hu4⟩ := hp
            have hu4 : u = _ := hu4
            subst hu4
            obtain rfl := hp
            refine g_istore (L' := [(0, _), (1, _), (2, _), (3, _), (4, _), (5, _)]) dX10_readJoined_79 (by decide) rfl rfl ?_
            refine g_aload_n 0 dX10_readJoined_81 rfl rfl ?_
            refine g_iload_n 3 dX10_readJoined_82 rfl rfl ?_
            refine g_iload dX10_readJoined_83 rfl ?_
            refine m_cVv (ct_beside M1 _ (by have h8 : M1 < _ := Nat.lt_succ_self _; omega)) hvX10_beside hyX10_beside rfl ⟨by dsimp only; omega, by dsimp only; omega⟩ ⟨Nat.zero_le _, Nat.zero_le _⟩ rfl (Nat.le_of_ble_eq_true rfl) dX10_readJoined_85 m_rec (fun u hp => ?_)
            have hu5 : u = _ := hp
            subst hu5
            refine g_iload dX10_readJoined_88 rfl ?_
            refine g_istore_n (L' := [(0, _), (1, _), (2, _), (3, _), (4, _), (5, _)]) 3 dX10_readJoined_90 rfl (by decide) rfl rfl ?_
            refine g_iconst (v := nI 1) dX10_readJoined_91 (by decide +kernel) ?_
            refine g_istore (L' := [(0, _), (1, _), (2, _), (3, _), (4, _), (5, _)]) dX10_readJoined_92 (by decide) rfl rfl ?_
            refine g_goto (tgt := 22) dX10_readJoined_94 (by decide) ?_
            refine GG.locals [0, 1, 2, 3, 4] rfl ?_
            skip
            have hlz : M1 < (M1 + 1) := Nat.lt_succ_self _
            have hJ2 := J_next (X := (tape, size_)) (p := p) (r := z9) (M0 := M1) hj1 hlz hj3 (J_hold hJ) (fun j j1 j2 => (mkM_o j1 (Or.inl (by omega))).trans (hJ.2.2.1 j j1 j2)) (Nat.le_succ _) g31 g34 g37 (by have : phi (tape, size_) q + 3 + 1 ≤ _ := phi_W hbq w; have := g35; omega)
            exact ihJ (acc ++ [f]) z9 _ _ _ _ _ _ (M3 + 1) M1 M3 1 (by omega) hR3 hps3 hb3 ((up_n (by omega)).trans ((mkM_o (by decide) (Or.inl (by omega))).trans hns3)) hJ2 (by rw [← hr0]; exact hok) (hrr.trans hr0)
      · skip
        rcases hw : isW (tape, size_) wAnd q with _ | _
        · skip
          have w := hw
          have hr0 : pE (tape, size_) ns (k9 + 1) 3 open_ acc q = PR.ok (grp sAll acc) q := by rw [hst2, if_neg (by rw [w]; decide)]
          have hr := hrr.trans hr0
          refine g_aload_n 0 dX10_readJoined_22 rfl rfl ?_
          refine g_iload_n 1 dX10_readJoined_23 rfl rfl ?_
          refine g_if_eq_n (tgt := 32) dX10_readJoined_24 (by decide) (by decide) (fun _ => ?_) (fun h => absurd h (by decide))
          refine g_ldcS st_X10_189 dX10_readJoined_32 ?_
          refine m_cVi (ct_took q wAnd hs hT hRq hpq st_X10_189 wd_X10_189) hvX10_took hyX10_took rfl ⟨by dsimp only; omega, by dsimp only; omega⟩ ⟨Nat.zero_le _, Nat.zero_le _⟩ rfl (Nat.le_of_ble_eq_true rfl) dX10_readJoined_34 m_rec (fun r u hp => ?_)
          obtain ⟨a1, b1, t1, v1⟩ := u
          obtain ⟨hp, hq1⟩ := hp
          have hR1 : RdP (tape, size_) q a1 b1 t1 v1 := by have h := hq1; unfold opt at h; rw [if_neg (by rw [w]; decide)] at h; exact h
          obtain rfl := hp
          have hps1 : q ≤ size_ := hpq
          have hb1 : bnd (tape, size_) q := hbq
          refine GG.topi (y := nI 0) (congrArg bI w) ?_
          refine g_if_eq_n (tgt := 97) dX10_readJoined_37 (by decide) (by decide) (fun _ => ?_) (fun h => absurd h (by decide))
          refine g_iload dX10_readJoined_97 rfl ?_
          refine g_if_eq_n (tgt := 120) dX10_readJoined_99 (by decide) (by decide) (fun h => absurd h (by decide)) (fun _ => ?_)
          refine g_aload_n 0 dX10_readJoined_102 rfl rfl ?_
          refine g_iload_n 1 dX10_readJoined_103 rfl rfl ?_
          refine g_if_eq_n (tgt := 111) dX10_readJoined_104 (by decide) (by decide) (fun _ => ?_) (fun h => absurd h (by decide))
          refine g_iconst (v := nI 1) dX10_readJoined_111 (by decide +kernel) ?_
          refine g_iconst (v := nI 0) dX10_readJoined_112 (by decide +kernel) ?_
          refine g_iload_n 2 dX10_readJoined_113 rfl rfl ?_
          refine m_cVi (ct_mark M1 _ _ _ hMq (by omega)) hvX10_mark hyX10_mark rfl ⟨by dsimp only; omega, by dsimp only; omega⟩ ⟨Nat.zero_le _, Nat.zero_le _⟩ rfl (Nat.le_of_ble_eq_true rfl) dX10_readJoined_114 m_rec (fun r u hp => ?_)
          obtain ⟨hp, hu2⟩ := hp
          have hu2 : u = _ := hu2
          subst hu2
          obtain rfl := hp
          refine g_goto (tgt := 121) dX10_readJoined_117 (by decide) ?_
          exact g_iret (_, _, _, _, _, _, _) dX10_readJoined_121 (Nat.le_refl _) (Nat.le_refl _) (by exact ⟨RdR.ok hr hR1 hps1, by have e9 : 26 - 3 * open_ = (25 - 3 * open_) + 1 := (by omega); rw [e9]; exact RdE.many hJ hr hb1 (by first | exact Or.inl ⟨rfl, rfl⟩ | exact Or.inr ⟨rfl, rfl⟩)⟩) (fun _ h => h)
        · skip
          have w := hw
          rcases hq : pE (tape, size_) ns k9 0 open_ [] (tkE (tape, size_) q) with ⟨k, l9⟩ | ⟨f, z9⟩
          · skip
            have hr0 : pE (tape, size_) ns (k9 + 1) 3 open_ acc q = PR.no k l9 := by rw [hst2, if_pos w]; show PR.bind (pE (tape, size_) ns k9 0 open_ [] (tkE (tape, size_) q)) _ = _; rw [hq]; rfl
            have hr := hrr.trans hr0
            refine g_aload_n 0 dX10_readJoined_22 rfl rfl ?_
            refine g_iload_n 1 dX10_readJoined_23 rfl rfl ?_
            refine g_if_eq_n (tgt := 32) dX10_readJoined_24 (by decide) (by decide) (fun _ => ?_) (fun h => absurd h (by decide))
            refine g_ldcS st_X10_189 dX10_readJoined_32 ?_
            refine m_cVi (ct_took q wAnd hs hT hRq hpq st_X10_189 wd_X10_189) hvX10_took hyX10_took rfl ⟨by dsimp only; omega, by dsimp only; omega⟩ ⟨Nat.zero_le _, Nat.zero_le _⟩ rfl (Nat.le_of_ble_eq_true rfl) dX10_readJoined_34 m_rec (fun r u hp => ?_)
            obtain ⟨a1, b1, t1, v1⟩ := u
            obtain ⟨hp, hq1⟩ := hp
            have hR1 : RdP (tape, size_) (tkE (tape, size_) q) a1 b1 t1 v1 := by have h := hq1; unfold opt at h; rw [if_pos w] at h; exact h
            obtain rfl := hp
            have hps1 : (tkE (tape, size_) q) ≤ size_ := tkE_le (X := (tape, size_)) hpq
            have hb1 : bnd (tape, size_) (tkE (tape, size_) q) := bnd_W w
            refine GG.topi (y := nI 1) (congrArg bI w) ?_
            refine g_if_eq_n (tgt := 97) dX10_readJoined_37 (by decide) (by decide) (fun h => absurd h (by decide)) (fun _ => ?_)
            refine g_iload dX10_readJoined_40 rfl ?_
            refine g_if_ne_n (tgt := 56) dX10_readJoined_42 (by decide) (by decide) (fun _ => ?_) (fun h => absurd h (by decide))
            refine g_aload_n 0 dX10_readJoined_56 rfl rfl ?_
            refine g_bipush (v := nI 9) dX10_readJoined_57 (by decide +kernel) ?_
            refine g_iconst (v := nI 0) dX10_readJoined_59 (by decide +kernel) ?_
            refine g_iload_n 1 dX10_readJoined_60 rfl rfl ?_
            refine g_if_eq_n (tgt := 72) dX10_readJoined_61 (by decide) (by decide) (fun _ => ?_) (fun h => absurd h (by decide))
            refine g_aload_n 0 dX10_readJoined_72 rfl rfl ?_
            refine m_cVi (hF k9 (by omega) (tkE (tape, size_) q) M1 ns hs hT hR1 hps1 hb1 hnq hn6 hMq (by have : phi (tape, size_) q + 3 + 1 ≤ _ := phi_W hbq w; omega) (by omega) (okK_n hq hr0 hok)) hvX10_readFact hyX10_readFact rfl ⟨by dsimp only; omega, by dsimp only; omega⟩ ⟨Nat.zero_le _, Nat.zero_le _⟩ rfl (Nat.le_of_ble_eq_true rfl) dX10_readJoined_73 m_rec (fun r u hp => ?_)
            obtain ⟨fr2, a2, b2, t2, v2, bd2, bp2⟩ := u
            obtain ⟨hr2, he2⟩ := hp
            obtain ⟨ht4, hv9, hk2, hl2, hbd⟩ := hr2.isno hq
            have hbd : 0 < bd2 ∧ bd2 < 10 := hbd
            refine m_cVi (ct_mark_bad _ _ _ hbd) hvX10_mark hyX10_mark rfl ⟨by dsimp only; omega, by dsimp only; omega⟩ ⟨Nat.zero_le _, Nat.zero_le _⟩ rfl (Nat.le_of_ble_eq_true rfl) dX10_readJoined_76 m_rec (fun r u9 hp => ?_)
            obtain rfl := hp
            refine GG.topi (y := nI 0) rfl ?_
            refine g_istore (L' := [(0, _), (1, _), (2, _), (3, _), (4, _), (5, _)]) dX10_readJoined_79 (by decide) rfl rfl ?_
            refine g_aload_n 0 dX10_readJoined_81 rfl rfl ?_
            refine g_iload_n 3 dX10_readJoined_82 rfl rfl ?_
            refine g_iload dX10_readJoined_83 rfl ?_
            refine m_cVv (ct_beside_bad _ _ hbd) hvX10_beside hyX10_beside rfl ⟨by dsimp only; omega, by dsimp only; omega⟩ ⟨Nat.zero_le _, Nat.zero_le _⟩ rfl (Nat.le_of_ble_eq_true rfl) dX10_readJoined_85 m_rec (fun u9 h9 => ?_)
            refine g_iload dX10_readJoined_88 rfl ?_
            refine g_istore_n (L' := [(0, _), (1, _), (2, _), (3, _), (4, _), (5, _)]) 3 dX10_readJoined_90 rfl (by decide) rfl rfl ?_
            refine g_iconst (v := nI 1) dX10_readJoined_91 (by decide +kernel) ?_
            refine g_istore (L' := [(0, _), (1, _), (2, _), (3, _), (4, _), (5, _)]) dX10_readJoined_92 (by decide) rfl rfl ?_
            refine g_goto (tgt := 22) dX10_readJoined_94 (by decide) ?_
            refine g_aload_n 0 dX10_readJoined_22 rfl rfl ?_
            refine g_iload_n 1 dX10_readJoined_23 rfl rfl ?_
            refine g_if_eq_n (tgt := 32) dX10_readJoined_24 (by decide) (by decide) (fun _ => ?_) (fun h => absurd h (by decide))
            refine g_ldcS st_X10_189 dX10_readJoined_32 ?_
            refine m_cVi (ct_took_bad hbd st_X10_189) hvX10_took hyX10_took rfl ⟨by dsimp only; omega, by dsimp only; omega⟩ ⟨Nat.zero_le _, Nat.zero_le _⟩ rfl (Nat.le_of_ble_eq_true rfl) dX10_readJoined_34 m_rec (fun r u9 hp => ?_)
            obtain rfl := hp
            refine GG.topi (y := nI 0) rfl ?_
            refine g_if_eq_n (tgt := 97) dX10_readJoined_37 (by decide) (by decide) (fun _ => ?_) (fun h => absurd h (by decide))
            refine g_iload dX10_readJoined_97 rfl ?_
            refine g_if_eq_n (tgt := 120) dX10_readJoined_99 (by decide) (by decide) (fun h => absurd h (by decide)) (fun _ => ?_)
            refine g_aload_n 0 dX10_readJoined_102 rfl rfl ?_
            refine g_iload_n 1 dX10_readJoined_103 rfl rfl ?_
            refine g_if_eq_n (tgt := 111) dX10_readJoined_104 (by decide) (by decide) (fun _ => ?_) (fun h => absurd h (by decide))
            refine g_iconst (v := nI 1) dX10_readJoined_111 (by decide +kernel) ?_
            refine g_iconst (v := nI 0) dX10_readJoined_112 (by decide +kernel) ?_
            refine g_iload_n 2 dX10_readJoined_113 rfl rfl ?_
            refine m_cVi (ct_mark_bad _ _ _ hbd) hvX10_mark hyX10_mark rfl ⟨by dsimp only; omega, by dsimp only; omega⟩ ⟨Nat.zero_le _, Nat.zero_le _⟩ rfl (Nat.le_of_ble_eq_true rfl) dX10_readJoined_114 m_rec (fun r u9 hp => ?_)
            obtain rfl := hp
            refine GG.topi (y := nI 0) rfl ?_
            refine g_goto (tgt := 121) dX10_readJoined_117 (by decide) ?_
            exact g_iret (_, _, _, _, _, _, _) dX10_readJoined_121 (Nat.le_refl _) (Nat.le_refl _) (by exact ⟨RdR.no hr (by first | exact ht4 | exact RdP.t4 (by assumption)) (by first | exact hv9 | exact RdP.v9 (by assumption)) (by first | assumption | exact bad_k (by assumption) (by assumption)) (by first | assumption | exact bad_l (by assumption) (by assumption)) hbd, RdE.no hr⟩) (fun _ h => h)
          · skip
            have hr0 : pE (tape, size_) ns (k9 + 1) 3 open_ acc q = pE (tape, size_) ns k9 3 open_ (acc ++ [f]) z9 := by rw [hst2, if_pos w]; show PR.bind (pE (tape, size_) ns k9 0 open_ [] (tkE (tape, size_) q)) _ = _; rw [hq]; rfl
            refine g_aload_n 0 dX10_readJoined_22 rfl rfl ?_
            refine g_iload_n 1 dX10_readJoined_23 rfl rfl ?_
            refine g_if_eq_n (tgt := 32) dX10_readJoined_24 (by decide) (by decide) (fun _ => ?_) (fun h => absurd h (by decide))
            refine g_ldcS st_X10_189 dX10_readJoined_32 ?_
            refine m_cVi (ct_took q wAnd hs hT hRq hpq st_X10_189 wd_X10_189) hvX10_took hyX10_took rfl ⟨by dsimp only; omega, by dsimp only; omega⟩ ⟨Nat.zero_le _, Nat.zero_le _⟩ rfl (Nat.le_of_ble_eq_true rfl) dX10_readJoined_34 m_rec (fun r u hp => ?_)
            obtain ⟨a1, b1, t1, v1⟩ := u
            obtain ⟨hp, hq1⟩ := hp
            have hR1 : RdP (tape, size_) (tkE (tape, size_) q) a1 b1 t1 v1 := by have h := hq1; unfold opt at h; rw [if_pos w] at h; exact h
            obtain rfl := hp
            have hps1 : (tkE (tape, size_) q) ≤ size_ := tkE_le (X := (tape, size_)) hpq
            have hb1 : bnd (tape, size_) (tkE (tape, size_) q) := bnd_W w
            refine GG.topi (y := nI 1) (congrArg bI w) ?_
            refine g_if_eq_n (tgt := 97) dX10_readJoined_37 (by decide) (by decide) (fun h => absurd h (by decide)) (fun _ => ?_)
            refine g_iload dX10_readJoined_40 rfl ?_
            refine g_if_ne_n (tgt := 56) dX10_readJoined_42 (by decide) (by decide) (fun _ => ?_) (fun h => absurd h (by decide))
            refine g_aload_n 0 dX10_readJoined_56 rfl rfl ?_
            refine g_bipush (v := nI 9) dX10_readJoined_57 (by decide +kernel) ?_
            refine g_iconst (v := nI 0) dX10_readJoined_59 (by decide +kernel) ?_
            refine g_iload_n 1 dX10_readJoined_60 rfl rfl ?_
            refine g_if_eq_n (tgt := 72) dX10_readJoined_61 (by decide) (by decide) (fun _ => ?_) (fun h => absurd h (by decide))
            refine g_aload_n 0 dX10_readJoined_72 rfl rfl ?_
            refine m_cVi (hF k9 (by omega) (tkE (tape, size_) q) M1 ns hs hT hR1 hps1 hb1 hnq hn6 hMq (by have : phi (tape, size_) q + 3 + 1 ≤ _ := phi_W hbq w; omega) (by omega) (okK_o hq)) hvX10_readFact hyX10_readFact rfl ⟨by dsimp only; omega, by dsimp only; omega⟩ ⟨Nat.zero_le _, Nat.zero_le _⟩ rfl (Nat.le_of_ble_eq_true rfl) dX10_readJoined_73 m_rec (fun r u hp => ?_)
            obtain ⟨fr2, a2, b2, t2, v2, bd2, bp2⟩ := u
            obtain ⟨hr2, he2⟩ := hp
            obtain ⟨hz2, hR2, hq2⟩ := hr2.isok hq
            have hz2 : bd2 = 0 := hz2
            subst hz2
            obtain ⟨M2, m2, g21, g22, g23, g24, g25, g26, g27⟩ := he2 f z9 hq
            have g23 : fr2 7 = nI M2 := g23
            have hns2 : fr2 5 = nI ns := (g27 5 (by decide) (by omega)).trans hnq
            have hph2 : 2 * M1 ≤ phi (tape, size_) (tkE (tape, size_) q) := (by have : phi (tape, size_) q + 3 + 1 ≤ _ := phi_W hbq w; omega)
            have hps2 : z9 ≤ size_ := hq2
            have hb2 : bnd (tape, size_) z9 := g26
            have hlt2 : M2 < 450 := by have := (phi_le (tape, size_) z9).2; omega
            refine GG.topi g22 ?_
            refine m_cVi (ct_mark M2 _ _ _ g23 (by omega)) hvX10_mark hyX10_mark rfl ⟨by dsimp only; omega, by dsimp only; omega⟩ ⟨Nat.zero_le _, Nat.zero_le _⟩ rfl (Nat.le_of_ble_eq_true rfl) dX10_readJoined_76 m_rec (fun r u hp => ?_)
            obtain ⟨hp, hu3⟩ := hp
            have hu3 : u = _ := hu3
            subst hu3
            obtain rfl := hp
            refine g_istore (L' := [(0, _), (1, _), (2, _), (3, _), (4, _), (5, _)]) dX10_readJoined_79 (by decide) rfl rfl ?_
            refine g_aload_n 0 dX10_readJoined_81 rfl rfl ?_
            refine g_iload_n 3 dX10_readJoined_82 rfl rfl ?_
            refine g_iload dX10_readJoined_83 rfl ?_
            refine m_cVv (ct_beside last _ (by have h8 : last < _ := hJ.2.2.2.elim (fun z => absurd z.1 (by decide)) (fun z => z.2.2.1); omega)) hvX10_beside hyX10_beside rfl ⟨by dsimp only; omega, by dsimp only; omega⟩ ⟨Nat.zero_le _, Nat.zero_le _⟩ rfl (Nat.le_of_ble_eq_true rfl) dX10_readJoined_85 m_rec (fun u hp => ?_)
            have hu4 : u = _ := hp
            subst hu4
            refine g_iload dX10_readJoined_88 rfl ?_
            refine g_istore_n (L' := [(0, _), (1, _), (2, _), (3, _), (4, _), (5, _)]) 3 dX10_readJoined_90 rfl (by decide) rfl rfl ?_
            refine g_iconst (v := nI 1) dX10_readJoined_91 (by decide +kernel) ?_
            refine g_istore (L' := [(0, _), (1, _), (2, _), (3, _), (4, _), (5, _)]) dX10_readJoined_92 (by decide) rfl rfl ?_
            refine g_goto (tgt := 22) dX10_readJoined_94 (by decide) ?_
            refine GG.locals [0, 1, 2, 3, 4] rfl ?_
            have h55 : 2 * M1 + 5 + phi (tape, size_) p ≤ 2 * M + phi (tape, size_) q := hJ.2.2.2.elim (fun z => absurd z.1 (by decide)) (fun z => z.2.2.2.2)
            have hlz : last < M1 := hJ.2.2.2.elim (fun z => absurd z.1 (by decide)) (fun z => z.2.2.1)
            have hJ2 := J_next (X := (tape, size_)) (p := p) (r := z9) (M0 := M1) hj1 hlz hj3 (hJ.2.2.2.elim (fun z => absurd z.1 (by decide)) (fun z => z.2.2.2.1)) hJ.2.2.1 (Nat.le_refl _) g21 g24 g27 (by have : phi (tape, size_) q + 3 + 1 ≤ _ := phi_W hbq w; have := g25; omega)
            exact ihJ (acc ++ [f]) z9 _ _ _ _ _ _ (M2 + 1) first M2 1 (by omega) hR2 hps2 hb2 ((up_n (by omega)).trans ((mkM_o (by decide) (Or.inl (by omega))).trans hns2)) hJ2 (by rw [← hr0]; exact hok) (hrr.trans hr0)
  rcases hq : pE (tape, size_) ns n 0 open_ [] p with ⟨k, l9⟩ | ⟨f, q⟩
  · skip
    have hr : pE (tape, size_) ns (n + 1) 2 open_ [] p = PR.no k l9 := by rw [hstep, hq]; rfl
    refine g_iload_n 1 dX10_readJoined_0 rfl rfl ?_
    refine g_if_eq_n (tgt := 12) dX10_readJoined_1 (by decide) (by decide) (fun _ => ?_) (fun h => absurd h (by decide))
    refine g_aload_n 0 dX10_readJoined_12 rfl rfl ?_
    refine m_cVi (hF n (Nat.lt_succ_self n) p M ns hs hT hR hps hb hns hn6 hM hphi (by omega) (okK_n hq hr h9)) hvX10_readFact hyX10_readFact rfl ⟨by dsimp only; omega, by dsimp only; omega⟩ ⟨Nat.zero_le _, Nat.zero_le _⟩ rfl (Nat.le_of_ble_eq_true rfl) dX10_readJoined_13 m_rec (fun r u hp => ?_)
    obtain ⟨fr1, a1, b1, t1, v1, bd1, bp1⟩ := u
    obtain ⟨hr1, he1⟩ := hp
    obtain ⟨ht4, hv9, hk1, hl1, hbd⟩ := hr1.isno hq
    have hbd : 0 < bd1 ∧ bd1 < 10 := hbd
    refine g_istore_n (L' := [(0, _), (1, _), (2, _)]) 2 dX10_readJoined_16 rfl (by decide) rfl rfl ?_
    refine g_iload_n 2 dX10_readJoined_17 rfl rfl ?_
    refine g_istore_n (L' := [(0, _), (1, _), (2, _), (3, _)]) 3 dX10_readJoined_18 rfl (by decide) rfl rfl ?_
    refine g_iconst (v := nI 0) dX10_readJoined_19 (by decide +kernel) ?_
    refine g_istore (L' := [(0, _), (1, _), (2, _), (3, _), (4, _)]) dX10_readJoined_20 (by decide) rfl rfl ?_
    refine g_aload_n 0 dX10_readJoined_22 rfl rfl ?_
    refine g_iload_n 1 dX10_readJoined_23 rfl rfl ?_
    refine g_if_eq_n (tgt := 32) dX10_readJoined_24 (by decide) (by decide) (fun _ => ?_) (fun h => absurd h (by decide))
    refine g_ldcS st_X10_189 dX10_readJoined_32 ?_
    refine m_cVi (ct_took_bad hbd st_X10_189) hvX10_took hyX10_took rfl ⟨by dsimp only; omega, by dsimp only; omega⟩ ⟨Nat.zero_le _, Nat.zero_le _⟩ rfl (Nat.le_of_ble_eq_true rfl) dX10_readJoined_34 m_rec (fun r u9 hp => ?_)
    obtain rfl := hp
    refine GG.topi (y := nI 0) rfl ?_
    refine g_if_eq_n (tgt := 97) dX10_readJoined_37 (by decide) (by decide) (fun _ => ?_) (fun h => absurd h (by decide))
    refine g_iload dX10_readJoined_97 rfl ?_
    refine g_if_eq_n (tgt := 120) dX10_readJoined_99 (by decide) (by decide) (fun _ => ?_) (fun h => absurd h (by decide))
    refine g_iload_n 2 dX10_readJoined_120 rfl rfl ?_
    exact g_iret (_, _, _, _, _, _, _) dX10_readJoined_121 (Nat.le_refl _) (Nat.le_refl _) (by exact ⟨RdR.no hr (by first | exact ht4 | exact RdP.t4 (by assumption)) (by first | exact hv9 | exact RdP.v9 (by assumption)) (by first | assumption | exact bad_k (by assumption) (by assumption)) (by first | assumption | exact bad_l (by assumption) (by assumption)) hbd, RdE.no hr⟩) (fun _ h => h)
  · skip
    have hr : pE (tape, size_) ns (n + 1) 2 open_ [] p = pE (tape, size_) ns n 3 open_ [f] q := by rw [hstep, hq]; rfl
    refine g_iload_n 1 dX10_readJoined_0 rfl rfl ?_
    refine g_if_eq_n (tgt := 12) dX10_readJoined_1 (by decide) (by decide) (fun _ => ?_) (fun h => absurd h (by decide))
    refine g_aload_n 0 dX10_readJoined_12 rfl rfl ?_
    refine m_cVi (hF n (Nat.lt_succ_self n) p M ns hs hT hR hps hb hns hn6 hM hphi (by omega) (okK_o hq)) hvX10_readFact hyX10_readFact rfl ⟨by dsimp only; omega, by dsimp only; omega⟩ ⟨Nat.zero_le _, Nat.zero_le _⟩ rfl (Nat.le_of_ble_eq_true rfl) dX10_readJoined_13 m_rec (fun r u hp => ?_)
    obtain ⟨fr1, a1, b1, t1, v1, bd1, bp1⟩ := u
    obtain ⟨hr1, he1⟩ := hp
    obtain ⟨hz1, hR1, hq1⟩ := hr1.isok hq
    have hz1 : bd1 = 0 := hz1
    subst hz1
    obtain ⟨M1, m1, g11, g12, g13, g14, g15, g16, g17⟩ := he1 f q hq
    have g13 : fr1 7 = nI M1 := g13
    have hns1 : fr1 5 = nI ns := (g17 5 (by decide) (by omega)).trans hns
    have hph1 : 2 * M ≤ phi (tape, size_) p := hphi
    have hps1 : q ≤ size_ := hq1
    have hb1 : bnd (tape, size_) q := g16
    have hlt1 : M1 < 450 := by have := (phi_le (tape, size_) q).2; omega
    refine GG.topi g12 ?_
    refine g_istore_n (L' := [(0, _), (1, _), (2, _)]) 2 dX10_readJoined_16 rfl (by decide) rfl rfl ?_
    refine g_iload_n 2 dX10_readJoined_17 rfl rfl ?_
    refine g_istore_n (L' := [(0, _), (1, _), (2, _), (3, _)]) 3 dX10_readJoined_18 rfl (by decide) rfl rfl ?_
    refine g_iconst (v := nI 0) dX10_readJoined_19 (by decide +kernel) ?_
    refine g_istore (L' := [(0, _), (1, _), (2, _), (3, _), (4, _)]) dX10_readJoined_20 (by decide) rfl rfl ?_
    refine GG.locals [0, 1, 2, 3, 4] rfl ?_
    exact loopJ n [f] q _ _ _ _ _ _ M1 m1 m1 0 (Nat.le_refl _) hR1 hps1 hb1 hns1 (J_first g11 g13 g14 g15 g17) (by rw [← hr]; exact h9) hr
set_option maxHeartbeats 8000000 in
theorem join_s {n : Nat} (hP : ∀ k, k < n + 1 → PartC l D cl tys mi cI cJ cZ ma k) : JoinC l D cl tys mi cI cJ cZ ma (n + 1) := by
  intro known fresh_ saved images isImage thrown tape taped size_ at_ begin_ token value open_ badPlace faultKind faultPlace xs ys pairs rows top heaps endsBehind path order firstOrder ordersMany tSort tMany numbers p M ns hs hT hR hps hb hns hn6 hM hphi ho h9
  have hstep : pE (tape, size_) ns (n + 1) 4 open_ [] p = PR.bind (pE (tape, size_) ns n 2 open_ [] p) fun f q => pE (tape, size_) ns n 5 open_ [f] q := rfl
  refine CT.of (L := [(0, .ref (ma 0)), (1, .int (nI 1))]) rfl (by decide +kernel) rfl (Nat.le_of_ble_eq_true rfl) ?_
  have loopJ : ∀ (k9 : Nat) (acc : List Sem) (q : Nat) (frq : Nat → Int32) (aq bq tq vq bpq M1 first last sv : Nat), k9 ≤ n → RdP (tape, size_) q aq bq tq vq → q ≤ size_ → bnd (tape, size_) q → frq 5 = nI ns → JInv (tape, size_) ns (26 - 3 * open_) M p fresh_ acc q frq M1 first last sv → okK (pE (tape, size_) ns k9 5 open_ acc q) → pE (tape, size_) ns (n + 1) 4 open_ [] p = pE (tape, size_) ns k9 5 open_ acc q → GG l D cl tys cX10_readJoined 6 (some .int) RX10 ({ frames := 22 + 6 * (8 - open_), cells := 0, slots := 0, locals := 460 + 160 * (8 - open_) } : Room) (AM ma) MT (QM (Qi (fun (v : Int32) (u : (Nat → Int32) × Nat × Nat × Nat × Nat × Nat × Nat) => RdR (tape, size_) (pE (tape, size_) ns (n + 1) 4 open_ [] p) u.2.1 u.2.2.1 u.2.2.2.1 u.2.2.2.2.1 u.2.2.2.2.2.1 u.2.2.2.2.2.2 ∧ RdE (tape, size_) ns (27 - 3 * open_) M p (pE (tape, size_) ns (n + 1) 4 open_ [] p) fresh_ u.1 v) (fun (u : (Nat → Int32) × Nat × Nat × Nat × Nat × Nat × Nat) => HM D cl tys mi cI cJ cZ ma known u.1 saved images isImage thrown tape taped size_ u.2.1 u.2.2.1 u.2.2.2.1 u.2.2.2.2.1 open_ u.2.2.2.2.2.1 u.2.2.2.2.2.2 faultKind faultPlace xs ys pairs rows top heaps endsBehind path order firstOrder ordersMany tSort tMany numbers) (AM ma)) 0 0 (AM ma)) (HM D cl tys mi cI cJ cZ ma known frq saved images isImage thrown tape taped size_ aq bq tq vq open_ 0 bpq faultKind faultPlace xs ys pairs rows top heaps endsBehind path order firstOrder ordersMany tSort tMany numbers) 0 0 22 [(0, .ref (ma 0)), (1, .int (nI 1)), (2, .int (nI first)), (3, .int (nI last)), (4, .int (nI sv))] [] := by
    intro k9
    induction k9 with
    | zero => intro acc q frq aq bq tq vq bpq M1 first last sv hk9 hRq hpq hbq hnq hJ hok hrr; exact absurd rfl (hok 9 0 rfl)
    | succ k9 ihJ =>
      intro acc q frq aq bq tq vq bpq M1 first last sv hk9 hRq hpq hbq hnq hJ hok hrr
      obtain ⟨hj1, hj2, hj3⟩ := J_b hJ
      have hMq : frq 7 = nI M1 := hJ.2.1
      have hlq : M1 < 450 := by have := (phi_le (tape, size_) q).2; omega
      have hst2 : pE (tape, size_) ns (k9 + 1) 5 open_ acc q = if isW (tape, size_) wOr q = true then PR.bind (pE (tape, size_) ns k9 2 open_ [] (tkE (tape, size_) q)) fun f r => pE (tape, size_) ns k9 5 open_ (acc ++ [f]) r else PR.ok (grp sAny acc) q := rfl
      rcases (show sv = 0 ∨ sv = 1 from hJ.2.2.2.elim (fun z => Or.inl z.1) (fun z => Or.inr z.1)) with rfl | rfl
      · skip
        rcases hw : isW (tape, size_) wOr q with _ | _
        · skip
          have w := hw
          have hr0 : pE (tape, size_) ns (k9 + 1) 5 open_ acc q = PR.ok (grp sAny acc) q := by rw [hst2, if_neg (by rw [w]; decide)]
          have hr := hrr.trans hr0
          refine g_aload_n 0 dX10_readJoined_22 rfl rfl ?_
          refine g_iload_n 1 dX10_readJoined_23 rfl rfl ?_
          refine g_if_eq_n (tgt := 32) dX10_readJoined_24 (by decide) (by decide) (fun h => absurd h (by decide)) (fun _ => ?_)
          refine g_ldcS st_X10_187 dX10_readJoined_27 ?_
          refine g_goto (tgt := 34) dX10_readJoined_29 (by decide) ?_
          refine m_cVi (ct_took q wOr hs hT hRq hpq st_X10_187 wd_X10_187) hvX10_took hyX10_took rfl ⟨by dsimp only; omega, by dsimp only; omega⟩ ⟨Nat.zero_le _, Nat.zero_le _⟩ rfl (Nat.le_of_ble_eq_true rfl) dX10_readJoined_34 m_rec (fun r u hp => ?_)
          obtain ⟨a1, b1, t1, v1⟩ := u
          obtain ⟨hp, hq1⟩ := hp
          have hR1 : RdP (tape, size_) q a1 b1 t1 v1 := by have h := hq1; unfold opt at h; rw [if_neg (by rw [w]; decide)] at h; exact h
          obtain rfl := hp
          have hps1 : q ≤ size_ := hpq
          have hb1 : bnd (tape, size_) q := hbq
          refine GG.topi (y := nI 0) (congrArg bI w) ?_
          refine g_if_eq_n (tgt := 97) dX10_readJoined_37 (by decide) (by decide) (fun _ => ?_) (fun h => absurd h (by decide))
          refine g_iload dX10_readJoined_97 rfl ?_
          refine g_if_eq_n (tgt := 120) dX10_readJoined_99 (by decide) (by decide) (fun _ => ?_) (fun h => absurd h (by decide))
          refine g_iload_n 2 dX10_readJoined_120 rfl rfl ?_
          exact g_iret (_, _, _, _, _, _, _) dX10_readJoined_121 (Nat.le_refl _) (Nat.le_refl _) (by exact ⟨RdR.ok hr hR1 hps1, RdE.one hJ hr hb1 (by omega)⟩) (fun _ h => h)
        · skip
          have w := hw
          rcases hq : pE (tape, size_) ns k9 2 open_ [] (tkE (tape, size_) q) with ⟨k, l9⟩ | ⟨f, z9⟩
          · skip
            have hr0 : pE (tape, size_) ns (k9 + 1) 5 open_ acc q = PR.no k l9 := by rw [hst2, if_pos w]; show PR.bind (pE (tape, size_) ns k9 2 open_ [] (tkE (tape, size_) q)) _ = _; rw [hq]; rfl
            have hr := hrr.trans hr0
            refine g_aload_n 0 dX10_readJoined_22 rfl rfl ?_
            refine g_iload_n 1 dX10_readJoined_23 rfl rfl ?_
            refine g_if_eq_n (tgt := 32) dX10_readJoined_24 (by decide) (by decide) (fun h => absurd h (by decide)) (fun _ => ?_)
            refine g_ldcS st_X10_187 dX10_readJoined_27 ?_
            refine g_goto (tgt := 34) dX10_readJoined_29 (by decide) ?_
            refine m_cVi (ct_took q wOr hs hT hRq hpq st_X10_187 wd_X10_187) hvX10_took hyX10_took rfl ⟨by dsimp only; omega, by dsimp only; omega⟩ ⟨Nat.zero_le _, Nat.zero_le _⟩ rfl (Nat.le_of_ble_eq_true rfl) dX10_readJoined_34 m_rec (fun r u hp => ?_)
            obtain ⟨a1, b1, t1, v1⟩ := u
            obtain ⟨hp, hq1⟩ := hp
            have hR1 : RdP (tape, size_) (tkE (tape, size_) q) a1 b1 t1 v1 := by have h := hq1; unfold opt at h; rw [if_pos w] at h; exact h
            obtain rfl := hp
            have hps1 : (tkE (tape, size_) q) ≤ size_ := tkE_le (X := (tape, size_)) hpq
            have hb1 : bnd (tape, size_) (tkE (tape, size_) q) := bnd_W w
            refine GG.topi (y := nI 1) (congrArg bI w) ?_
            refine g_if_eq_n (tgt := 97) dX10_readJoined_37 (by decide) (by decide) (fun h => absurd h (by decide)) (fun _ => ?_)
            refine g_iload dX10_readJoined_40 rfl ?_
            refine g_if_ne_n (tgt := 56) dX10_readJoined_42 (by decide) (by decide) (fun h => absurd h (by decide)) (fun _ => ?_)
            refine g_aload_n 0 dX10_readJoined_45 rfl rfl ?_
            refine g_bipush (v := nI 9) dX10_readJoined_46 (by decide +kernel) ?_
            refine g_iconst (v := nI 0) dX10_readJoined_48 (by decide +kernel) ?_
            refine g_iload_n 2 dX10_readJoined_49 rfl rfl ?_
            refine m_cVi (ct_mark M1 _ _ _ hMq (by omega)) hvX10_mark hyX10_mark rfl ⟨by dsimp only; omega, by dsimp only; omega⟩ ⟨Nat.zero_le _, Nat.zero_le _⟩ rfl (Nat.le_of_ble_eq_true rfl) dX10_readJoined_50 m_rec (fun r u hp => ?_)
            obtain ⟨hp, hu2⟩ := hp
            have hu2 : u = _ := hu2
            subst hu2
            obtain rfl := hp
            refine g_istore_n (L' := [(0, _), (1, _), (2, _), (3, _), (4, _)]) 2 dX10_readJoined_53 rfl (by decide) rfl rfl ?_
            refine g_iload_n 2 dX10_readJoined_54 rfl rfl ?_
            refine g_istore_n (L' := [(0, _), (1, _), (2, _), (3, _), (4, _)]) 3 dX10_readJoined_55 rfl (by decide) rfl rfl ?_
            refine g_aload_n 0 dX10_readJoined_56 rfl rfl ?_
            refine g_bipush (v := nI 9) dX10_readJoined_57 (by decide +kernel) ?_
            refine g_iconst (v := nI 0) dX10_readJoined_59 (by decide +kernel) ?_
            refine g_iload_n 1 dX10_readJoined_60 rfl rfl ?_
            refine g_if_eq_n (tgt := 72) dX10_readJoined_61 (by decide) (by decide) (fun h => absurd h (by decide)) (fun _ => ?_)
            refine g_aload_n 0 dX10_readJoined_64 rfl rfl ?_
            refine g_iconst (v := nI 0) dX10_readJoined_65 (by decide +kernel) ?_
            refine m_cVi (hP k9 (by omega) (tkE (tape, size_) q) (M1 + 1) ns hs hT hR1 hps1 hb1 ((mkM_o (by decide) (Or.inl (by omega))).trans hnq) hn6 mkM_7 (by have : phi (tape, size_) q + 2 + 1 ≤ _ := phi_W hbq w; omega) (by omega) (okK_n hq hr0 hok)) hvX10_readJoined hyX10_readJoined rfl ⟨by dsimp only; omega, by dsimp only; omega⟩ ⟨Nat.zero_le _, Nat.zero_le _⟩ rfl (Nat.le_of_ble_eq_true rfl) dX10_readJoined_66 m_rec (fun r u hp => ?_)
            obtain ⟨fr3, a3, b3, t3, v3, bd3, bp3⟩ := u
            obtain ⟨hr3, he3⟩ := hp
            obtain ⟨ht4, hv9, hk3, hl3, hbd⟩ := hr3.isno hq
            have hbd : 0 < bd3 ∧ bd3 < 10 := hbd
            refine g_goto (tgt := 76) dX10_readJoined_69 (by decide) ?_
            refine m_cVi (ct_mark_bad _ _ _ hbd) hvX10_mark hyX10_mark rfl ⟨by dsimp only; omega, by dsimp only; omega⟩ ⟨Nat.zero_le _, Nat.zero_le _⟩ rfl (Nat.le_of_ble_eq_true rfl) dX10_readJoined_76 m_rec (fun r u9 hp => ?_)
            obtain rfl := hp
            refine GG.topi (y := nI 0) rfl ?_
            refine g_istore (L' := [(0, _), (1, _), (2, _), (3, _), (4, _), (5, _)]) dX10_readJoined_79 (by decide) rfl rfl ?_
            refine g_aload_n 0 dX10_readJoined_81 rfl rfl ?_
            refine g_iload_n 3 dX10_readJoined_82 rfl rfl ?_
            refine g_iload dX10_readJoined_83 rfl ?_
            refine m_cVv (ct_beside_bad _ _ hbd) hvX10_beside hyX10_beside rfl ⟨by dsimp only; omega, by dsimp only; omega⟩ ⟨Nat.zero_le _, Nat.zero_le _⟩ rfl (Nat.le_of_ble_eq_true rfl) dX10_readJoined_85 m_rec (fun u9 h9 => ?_)
            refine g_iload dX10_readJoined_88 rfl ?_
            refine g_istore_n (L' := [(0, _), (1, _), (2, _), (3, _), (4, _), (5, _)]) 3 dX10_readJoined_90 rfl (by decide) rfl rfl ?_
            refine g_iconst (v := nI 1) dX10_readJoined_91 (by decide +kernel) ?_
            refine g_istore (L' := [(0, _), (1, _), (2, _), (3, _), (4, _), (5, _)]) dX10_readJoined_92 (by decide) rfl rfl ?_
            refine g_goto (tgt := 22) dX10_readJoined_94 (by decide) ?_
            refine g_aload_n 0 dX10_readJoined_22 rfl rfl ?_
            refine g_iload_n 1 dX10_readJoined_23 rfl rfl ?_
            refine g_if_eq_n (tgt := 32) dX10_readJoined_24 (by decide) (by decide) (fun h => absurd h (by decide)) (fun _ => ?_)
            refine g_ldcS st_X10_187 dX10_readJoined_27 ?_
            refine g_goto (tgt := 34) dX10_readJoined_29 (by decide) ?_
            refine m_cVi (ct_took_bad hbd st_X10_187) hvX10_took hyX10_took rfl ⟨by dsimp only; omega, by dsimp only; omega⟩ ⟨Nat.zero_le _, Nat.zero_le _⟩ rfl (Nat.le_of_ble_eq_true rfl) dX10_readJoined_34 m_rec (fun r u9 hp => ?_)
            obtain rfl := hp
            refine GG.topi (y := nI 0) rfl ?_
            refine g_if_eq_n (tgt := 97) dX10_readJoined_37 (by decide) (by decide) (fun _ => ?_) (fun h => absurd h (by decide))
            refine g_iload dX10_readJoined_97 rfl ?_
            refine g_if_eq_n (tgt := 120) dX10_readJoined_99 (by decide) (by decide) (fun h => absurd h (by decide)) (fun _ => ?_)
            refine g_aload_n 0 dX10_readJoined_102 rfl rfl ?_
            refine g_iload_n 1 dX10_readJoined_103 rfl rfl ?_
            refine g_if_eq_n (tgt := 111) dX10_readJoined_104 (by decide) (by decide) (fun h => absurd h (by decide)) (fun _ => ?_)
            refine g_iconst (v := nI 0) dX10_readJoined_107 (by decide +kernel) ?_
            refine g_goto (tgt := 112) dX10_readJoined_108 (by decide) ?_
            refine g_iconst (v := nI 0) dX10_readJoined_112 (by decide +kernel) ?_
            refine g_iload_n 2 dX10_readJoined_113 rfl rfl ?_
            refine m_cVi (ct_mark_bad _ _ _ hbd) hvX10_mark hyX10_mark rfl ⟨by dsimp only; omega, by dsimp only; omega⟩ ⟨Nat.zero_le _, Nat.zero_le _⟩ rfl (Nat.le_of_ble_eq_true rfl) dX10_readJoined_114 m_rec (fun r u9 hp => ?_)
            obtain rfl := hp
            refine GG.topi (y := nI 0) rfl ?_
            refine g_goto (tgt := 121) dX10_readJoined_117 (by decide) ?_
            exact g_iret (_, _, _, _, _, _, _) dX10_readJoined_121 (Nat.le_refl _) (Nat.le_refl _) (by exact ⟨RdR.no hr (by first | exact ht4 | exact RdP.t4 (by assumption)) (by first | exact hv9 | exact RdP.v9 (by assumption)) (by first | assumption | exact bad_k (by assumption) (by assumption)) (by first | assumption | exact bad_l (by assumption) (by assumption)) hbd, RdE.no hr⟩) (fun _ h => h)
          · skip
            have hr0 : pE (tape, size_) ns (k9 + 1) 5 open_ acc q = pE (tape, size_) ns k9 5 open_ (acc ++ [f]) z9 := by rw [hst2, if_pos w]; show PR.bind (pE (tape, size_) ns k9 2 open_ [] (tkE (tape, size_) q)) _ = _; rw [hq]; rfl
            refine g_aload_n 0 dX10_readJoined_22 rfl rfl ?_
            refine g_iload_n 1 dX10_readJoined_23 rfl rfl ?_
            refine g_if_eq_n (tgt := 32) dX10_readJoined_24 (by decide) (by decide) (fun h => absurd h (by decide)) (fun _ => ?_)
            refine g_ldcS st_X10_187 dX10_readJoined_27 ?_
            refine g_goto (tgt := 34) dX10_readJoined_29 (by decide) ?_
            refine m_cVi (ct_took q wOr hs hT hRq hpq st_X10_187 wd_X10_187) hvX10_took hyX10_took rfl ⟨by dsimp only; omega, by dsimp only; omega⟩ ⟨Nat.zero_le _, Nat.zero_le _⟩ rfl (Nat.le_of_ble_eq_true rfl) dX10_readJoined_34 m_rec (fun r u hp => ?_)
            obtain ⟨a1, b1, t1, v1⟩ := u
            obtain ⟨hp, hq1⟩ := hp
            have hR1 : RdP (tape, size_) (tkE (tape, size_) q) a1 b1 t1 v1 := by have h := hq1; unfold opt at h; rw [if_pos w] at h; exact h
            obtain rfl := hp
            have hps1 : (tkE (tape, size_) q) ≤ size_ := tkE_le (X := (tape, size_)) hpq
            have hb1 : bnd (tape, size_) (tkE (tape, size_) q) := bnd_W w
            refine GG.topi (y := nI 1) (congrArg bI w) ?_
            refine g_if_eq_n (tgt := 97) dX10_readJoined_37 (by decide) (by decide) (fun h => absurd h (by decide)) (fun _ => ?_)
            refine g_iload dX10_readJoined_40 rfl ?_
            refine g_if_ne_n (tgt := 56) dX10_readJoined_42 (by decide) (by decide) (fun h => absurd h (by decide)) (fun _ => ?_)
            refine g_aload_n 0 dX10_readJoined_45 rfl rfl ?_
            refine g_bipush (v := nI 9) dX10_readJoined_46 (by decide +kernel) ?_
            refine g_iconst (v := nI 0) dX10_readJoined_48 (by decide +kernel) ?_
            refine g_iload_n 2 dX10_readJoined_49 rfl rfl ?_
            refine m_cVi (ct_mark M1 _ _ _ hMq (by omega)) hvX10_mark hyX10_mark rfl ⟨by dsimp only; omega, by dsimp only; omega⟩ ⟨Nat.zero_le _, Nat.zero_le _⟩ rfl (Nat.le_of_ble_eq_true rfl) dX10_readJoined_50 m_rec (fun r u hp => ?_)
            obtain ⟨hp, hu2⟩ := hp
            have hu2 : u = _ := hu2
            subst hu2
            obtain rfl := hp
            refine g_istore_n (L' := [(0, _), (1, _), (2, _), (3, _), (4, _)]) 2 dX10_readJoined_53 rfl (by decide) rfl rfl ?_
            refine g_iload_n 2 dX10_readJoined_54 rfl rfl ?_
            refine g_istore_n (L' := [(0, _), (1, _), (2, _), (3, _), (4, _)]) 3 dX10_readJoined_55 rfl (by decide) rfl rfl ?_
            refine g_aload_n 0 dX10_readJoined_56 rfl rfl ?_
            refine g_bipush (v := nI 9) dX10_readJoined_57 (by decide +kernel) ?_
            refine g_iconst (v := nI 0) dX10_readJoined_59 (by decide +kernel) ?_
            refine g_iload_n 1 dX10_readJoined_60 rfl rfl ?_
            refine g_if_eq_n (tgt := 72) dX10_readJoined_61 (by decide) (by decide) (fun h => absurd h (by decide)) (fun _ => ?_)
            refine g_aload_n 0 dX10_readJoined_64 rfl rfl ?_
            refine g_iconst (v := nI 0) dX10_readJoined_65 (by decide +kernel) ?_
            refine m_cVi (hP k9 (by omega) (tkE (tape, size_) q) (M1 + 1) ns hs hT hR1 hps1 hb1 ((mkM_o (by decide) (Or.inl (by omega))).trans hnq) hn6 mkM_7 (by have : phi (tape, size_) q + 2 + 1 ≤ _ := phi_W hbq w; omega) (by omega) (okK_o hq)) hvX10_readJoined hyX10_readJoined rfl ⟨by dsimp only; omega, by dsimp only; omega⟩ ⟨Nat.zero_le _, Nat.zero_le _⟩ rfl (Nat.le_of_ble_eq_true rfl) dX10_readJoined_66 m_rec (fun r u hp => ?_)
            obtain ⟨fr3, a3, b3, t3, v3, bd3, bp3⟩ := u
            obtain ⟨hr3, he3⟩ := hp
            obtain ⟨hz3, hR3, hq3⟩ := hr3.isok hq
            have hz3 : bd3 = 0 := hz3
            subst hz3
            obtain ⟨M3, m3, g31, g32, g33, g34, g35, g36, g37⟩ := he3 f z9 hq
            have g33 : fr3 7 = nI M3 := g33
            have hns3 : fr3 5 = nI ns := (g37 5 (by decide) (by omega)).trans ((mkM_o (by decide) (Or.inl (by omega))).trans hnq)
            have hph3 : 2 * (M1 + 1) ≤ phi (tape, size_) (tkE (tape, size_) q) := (by have : phi (tape, size_) q + 2 + 1 ≤ _ := phi_W hbq w; omega)
            have hps3 : z9 ≤ size_ := hq3
            have hb3 : bnd (tape, size_) z9 := g36
            have hlt3 : M3 < 450 := by have := (phi_le (tape, size_) z9).2; omega
            refine GG.topi g32 ?_
            refine g_goto (tgt := 76) dX10_readJoined_69 (by decide) ?_
            refine m_cVi (ct_mark M3 _ _ _ g33 (by omega)) hvX10_mark hyX10_mark rfl ⟨by dsimp only; omega, by dsimp only; omega⟩ ⟨Nat.zero_le _, Nat.zero_le _⟩ rfl (Nat.le_of_ble_eq_true rfl) dX10_readJoined_76 m_rec (fun r u hp => ?_)
            obtain ⟨hp, hu4⟩ := hp
            have hu4 : u = _ := hu4
            subst hu4
            obtain rfl := hp
            refine g_istore (L' := [(0, _), (1, _), (2, _), (3, _), (4, _), (5, _)]) dX10_readJoined_79 (by decide) rfl rfl ?_
            refine g_aload_n 0 dX10_readJoined_81 rfl rfl ?_
            refine g_iload_n 3 dX10_readJoined_82 rfl rfl ?_
            refine g_iload dX10_readJoined_83 rfl ?_
            refine m_cVv (ct_beside M1 _ (by have h8 : M1 < _ := Nat.lt_succ_self _; omega)) hvX10_beside hyX10_beside rfl ⟨by dsimp only; omega, by dsimp only; omega⟩ ⟨Nat.zero_le _, Nat.zero_le _⟩ rfl (Nat.le_of_ble_eq_true rfl) dX10_readJoined_85 m_rec (fun u hp => ?_)
            have hu5 : u = _ := hp
            subst hu5
            refine g_iload dX10_readJoined_88 rfl ?_
            refine g_istore_n (L' := [(0, _), (1, _), (2, _), (3, _), (4, _), (5, _)]) 3 dX10_readJoined_90 rfl (by decide) rfl rfl ?_
            refine g_iconst (v := nI 1) dX10_readJoined_91 (by decide +kernel) ?_
            refine g_istore (L' := [(0, _), (1, _), (2, _), (3, _), (4, _), (5, _)]) dX10_readJoined_92 (by decide) rfl rfl ?_
            refine g_goto (tgt := 22) dX10_readJoined_94 (by decide) ?_
            refine GG.locals [0, 1, 2, 3, 4] rfl ?_
            skip
            have hlz : M1 < (M1 + 1) := Nat.lt_succ_self _
            have hJ2 := J_next (X := (tape, size_)) (p := p) (r := z9) (M0 := M1) hj1 hlz hj3 (J_hold hJ) (fun j j1 j2 => (mkM_o j1 (Or.inl (by omega))).trans (hJ.2.2.1 j j1 j2)) (Nat.le_succ _) g31 g34 g37 (by have : phi (tape, size_) q + 2 + 1 ≤ _ := phi_W hbq w; have := g35; omega)
            exact ihJ (acc ++ [f]) z9 _ _ _ _ _ _ (M3 + 1) M1 M3 1 (by omega) hR3 hps3 hb3 ((up_n (by omega)).trans ((mkM_o (by decide) (Or.inl (by omega))).trans hns3)) hJ2 (by rw [← hr0]; exact hok) (hrr.trans hr0)
      · skip
        rcases hw : isW (tape, size_) wOr q with _ | _
        · skip
          have w := hw
          have hr0 : pE (tape, size_) ns (k9 + 1) 5 open_ acc q = PR.ok (grp sAny acc) q := by rw [hst2, if_neg (by rw [w]; decide)]
          have hr := hrr.trans hr0
          refine g_aload_n 0 dX10_readJoined_22 rfl rfl ?_
          refine g_iload_n 1 dX10_readJoined_23 rfl rfl ?_
          refine g_if_eq_n (tgt := 32) dX10_readJoined_24 (by decide) (by decide) (fun h => absurd h (by decide)) (fun _ => ?_)
          refine g_ldcS st_X10_187 dX10_readJoined_27 ?_
          refine g_goto (tgt := 34) dX10_readJoined_29 (by decide) ?_
          refine m_cVi (ct_took q wOr hs hT hRq hpq st_X10_187 wd_X10_187) hvX10_took hyX10_took rfl ⟨by dsimp only; omega, by dsimp only; omega⟩ ⟨Nat.zero_le _, Nat.zero_le _⟩ rfl (Nat.le_of_ble_eq_true rfl) dX10_readJoined_34 m_rec (fun r u hp => ?_)
          obtain ⟨a1, b1, t1, v1⟩ := u
          obtain ⟨hp, hq1⟩ := hp
          have hR1 : RdP (tape, size_) q a1 b1 t1 v1 := by have h := hq1; unfold opt at h; rw [if_neg (by rw [w]; decide)] at h; exact h
          obtain rfl := hp
          have hps1 : q ≤ size_ := hpq
          have hb1 : bnd (tape, size_) q := hbq
          refine GG.topi (y := nI 0) (congrArg bI w) ?_
          refine g_if_eq_n (tgt := 97) dX10_readJoined_37 (by decide) (by decide) (fun _ => ?_) (fun h => absurd h (by decide))
          refine g_iload dX10_readJoined_97 rfl ?_
          refine g_if_eq_n (tgt := 120) dX10_readJoined_99 (by decide) (by decide) (fun h => absurd h (by decide)) (fun _ => ?_)
          refine g_aload_n 0 dX10_readJoined_102 rfl rfl ?_
          refine g_iload_n 1 dX10_readJoined_103 rfl rfl ?_
          refine g_if_eq_n (tgt := 111) dX10_readJoined_104 (by decide) (by decide) (fun h => absurd h (by decide)) (fun _ => ?_)
          refine g_iconst (v := nI 0) dX10_readJoined_107 (by decide +kernel) ?_
          refine g_goto (tgt := 112) dX10_readJoined_108 (by decide) ?_
          refine g_iconst (v := nI 0) dX10_readJoined_112 (by decide +kernel) ?_
          refine g_iload_n 2 dX10_readJoined_113 rfl rfl ?_
          refine m_cVi (ct_mark M1 _ _ _ hMq (by omega)) hvX10_mark hyX10_mark rfl ⟨by dsimp only; omega, by dsimp only; omega⟩ ⟨Nat.zero_le _, Nat.zero_le _⟩ rfl (Nat.le_of_ble_eq_true rfl) dX10_readJoined_114 m_rec (fun r u hp => ?_)
          obtain ⟨hp, hu2⟩ := hp
          have hu2 : u = _ := hu2
          subst hu2
          obtain rfl := hp
          refine g_goto (tgt := 121) dX10_readJoined_117 (by decide) ?_
          exact g_iret (_, _, _, _, _, _, _) dX10_readJoined_121 (Nat.le_refl _) (Nat.le_refl _) (by exact ⟨RdR.ok hr hR1 hps1, by have e9 : 27 - 3 * open_ = (26 - 3 * open_) + 1 := (by omega); rw [e9]; exact RdE.many hJ hr hb1 (by first | exact Or.inl ⟨rfl, rfl⟩ | exact Or.inr ⟨rfl, rfl⟩)⟩) (fun _ h => h)
        · skip
          have w := hw
          rcases hq : pE (tape, size_) ns k9 2 open_ [] (tkE (tape, size_) q) with ⟨k, l9⟩ | ⟨f, z9⟩
          · skip
            have hr0 : pE (tape, size_) ns (k9 + 1) 5 open_ acc q = PR.no k l9 := by rw [hst2, if_pos w]; show PR.bind (pE (tape, size_) ns k9 2 open_ [] (tkE (tape, size_) q)) _ = _; rw [hq]; rfl
            have hr := hrr.trans hr0
            refine g_aload_n 0 dX10_readJoined_22 rfl rfl ?_
            refine g_iload_n 1 dX10_readJoined_23 rfl rfl ?_
            refine g_if_eq_n (tgt := 32) dX10_readJoined_24 (by decide) (by decide) (fun h => absurd h (by decide)) (fun _ => ?_)
            refine g_ldcS st_X10_187 dX10_readJoined_27 ?_
            refine g_goto (tgt := 34) dX10_readJoined_29 (by decide) ?_
            refine m_cVi (ct_took q wOr hs hT hRq hpq st_X10_187 wd_X10_187) hvX10_took hyX10_took rfl ⟨by dsimp only; omega, by dsimp only; omega⟩ ⟨Nat.zero_le _, Nat.zero_le _⟩ rfl (Nat.le_of_ble_eq_true rfl) dX10_readJoined_34 m_rec (fun r u hp => ?_)
            obtain ⟨a1, b1, t1, v1⟩ := u
            obtain ⟨hp, hq1⟩ := hp
            have hR1 : RdP (tape, size_) (tkE (tape, size_) q) a1 b1 t1 v1 := by have h := hq1; unfold opt at h; rw [if_pos w] at h; exact h
            obtain rfl := hp
            have hps1 : (tkE (tape, size_) q) ≤ size_ := tkE_le (X := (tape, size_)) hpq
            have hb1 : bnd (tape, size_) (tkE (tape, size_) q) := bnd_W w
            refine GG.topi (y := nI 1) (congrArg bI w) ?_
            refine g_if_eq_n (tgt := 97) dX10_readJoined_37 (by decide) (by decide) (fun h => absurd h (by decide)) (fun _ => ?_)
            refine g_iload dX10_readJoined_40 rfl ?_
            refine g_if_ne_n (tgt := 56) dX10_readJoined_42 (by decide) (by decide) (fun _ => ?_) (fun h => absurd h (by decide))
            refine g_aload_n 0 dX10_readJoined_56 rfl rfl ?_
            refine g_bipush (v := nI 9) dX10_readJoined_57 (by decide +kernel) ?_
            refine g_iconst (v := nI 0) dX10_readJoined_59 (by decide +kernel) ?_
            refine g_iload_n 1 dX10_readJoined_60 rfl rfl ?_
            refine g_if_eq_n (tgt := 72) dX10_readJoined_61 (by decide) (by decide) (fun h => absurd h (by decide)) (fun _ => ?_)
            refine g_aload_n 0 dX10_readJoined_64 rfl rfl ?_
            refine g_iconst (v := nI 0) dX10_readJoined_65 (by decide +kernel) ?_
            refine m_cVi (hP k9 (by omega) (tkE (tape, size_) q) M1 ns hs hT hR1 hps1 hb1 hnq hn6 hMq (by have : phi (tape, size_) q + 2 + 1 ≤ _ := phi_W hbq w; omega) (by omega) (okK_n hq hr0 hok)) hvX10_readJoined hyX10_readJoined rfl ⟨by dsimp only; omega, by dsimp only; omega⟩ ⟨Nat.zero_le _, Nat.zero_le _⟩ rfl (Nat.le_of_ble_eq_true rfl) dX10_readJoined_66 m_rec (fun r u hp => ?_)
            obtain ⟨fr2, a2, b2, t2, v2, bd2, bp2⟩ := u
            obtain ⟨hr2, he2⟩ := hp
            obtain ⟨ht4, hv9, hk2, hl2, hbd⟩ := hr2.isno hq
            have hbd : 0 < bd2 ∧ bd2 < 10 := hbd
            refine g_goto (tgt := 76) dX10_readJoined_69 (by decide) ?_
            refine m_cVi (ct_mark_bad _ _ _ hbd) hvX10_mark hyX10_mark rfl ⟨by dsimp only; omega, by dsimp only; omega⟩ ⟨Nat.zero_le _, Nat.zero_le _⟩ rfl (Nat.le_of_ble_eq_true rfl) dX10_readJoined_76 m_rec (fun r u9 hp => ?_)
            obtain rfl := hp
            refine GG.topi (y := nI 0) rfl ?_
            refine g_istore (L' := [(0, _), (1, _), (2, _), (3, _), (4, _), (5, _)]) dX10_readJoined_79 (by decide) rfl rfl ?_
            refine g_aload_n 0 dX10_readJoined_81 rfl rfl ?_
            refine g_iload_n 3 dX10_readJoined_82 rfl rfl ?_
            refine g_iload dX10_readJoined_83 rfl ?_
            refine m_cVv (ct_beside_bad _ _ hbd) hvX10_beside hyX10_beside rfl ⟨by dsimp only; omega, by dsimp only; omega⟩ ⟨Nat.zero_le _, Nat.zero_le _⟩ rfl (Nat.le_of_ble_eq_true rfl) dX10_readJoined_85 m_rec (fun u9 h9 => ?_)
            refine g_iload dX10_readJoined_88 rfl ?_
            refine g_istore_n (L' := [(0, _), (1, _), (2, _), (3, _), (4, _), (5, _)]) 3 dX10_readJoined_90 rfl (by decide) rfl rfl ?_
            refine g_iconst (v := nI 1) dX10_readJoined_91 (by decide +kernel) ?_
            refine g_istore (L' := [(0, _), (1, _), (2, _), (3, _), (4, _), (5, _)]) dX10_readJoined_92 (by decide) rfl rfl ?_
            refine g_goto (tgt := 22) dX10_readJoined_94 (by decide) ?_
            refine g_aload_n 0 dX10_readJoined_22 rfl rfl ?_
            refine g_iload_n 1 dX10_readJoined_23 rfl rfl ?_
            refine g_if_eq_n (tgt := 32) dX10_readJoined_24 (by decide) (by decide) (fun h => absurd h (by decide)) (fun _ => ?_)
            refine g_ldcS st_X10_187 dX10_readJoined_27 ?_
            refine g_goto (tgt := 34) dX10_readJoined_29 (by decide) ?_
            refine m_cVi (ct_took_bad hbd st_X10_187) hvX10_took hyX10_took rfl ⟨by dsimp only; omega, by dsimp only; omega⟩ ⟨Nat.zero_le _, Nat.zero_le _⟩ rfl (Nat.le_of_ble_eq_true rfl) dX10_readJoined_34 m_rec (fun r u9 hp => ?_)
            obtain rfl := hp
            refine GG.topi (y := nI 0) rfl ?_
            refine g_if_eq_n (tgt := 97) dX10_readJoined_37 (by decide) (by decide) (fun _ => ?_) (fun h => absurd h (by decide))
            refine g_iload dX10_readJoined_97 rfl ?_
            refine g_if_eq_n (tgt := 120) dX10_readJoined_99 (by decide) (by decide) (fun h => absurd h (by decide)) (fun _ => ?_)
            refine g_aload_n 0 dX10_readJoined_102 rfl rfl ?_
            refine g_iload_n 1 dX10_readJoined_103 rfl rfl ?_
            refine g_if_eq_n (tgt := 111) dX10_readJoined_104 (by decide) (by decide) (fun h => absurd h (by decide)) (fun _ => ?_)
            refine g_iconst (v := nI 0) dX10_readJoined_107 (by decide +kernel) ?_
            refine g_goto (tgt := 112) dX10_readJoined_108 (by decide) ?_
            refine g_iconst (v := nI 0) dX10_readJoined_112 (by decide +kernel) ?_
            refine g_iload_n 2 dX10_readJoined_113 rfl rfl ?_
            refine m_cVi (ct_mark_bad _ _ _ hbd) hvX10_mark hyX10_mark rfl ⟨by dsimp only; omega, by dsimp only; omega⟩ ⟨Nat.zero_le _, Nat.zero_le _⟩ rfl (Nat.le_of_ble_eq_true rfl) dX10_readJoined_114 m_rec (fun r u9 hp => ?_)
            obtain rfl := hp
            refine GG.topi (y := nI 0) rfl ?_
            refine g_goto (tgt := 121) dX10_readJoined_117 (by decide) ?_
            exact g_iret (_, _, _, _, _, _, _) dX10_readJoined_121 (Nat.le_refl _) (Nat.le_refl _) (by exact ⟨RdR.no hr (by first | exact ht4 | exact RdP.t4 (by assumption)) (by first | exact hv9 | exact RdP.v9 (by assumption)) (by first | assumption | exact bad_k (by assumption) (by assumption)) (by first | assumption | exact bad_l (by assumption) (by assumption)) hbd, RdE.no hr⟩) (fun _ h => h)
          · skip
            have hr0 : pE (tape, size_) ns (k9 + 1) 5 open_ acc q = pE (tape, size_) ns k9 5 open_ (acc ++ [f]) z9 := by rw [hst2, if_pos w]; show PR.bind (pE (tape, size_) ns k9 2 open_ [] (tkE (tape, size_) q)) _ = _; rw [hq]; rfl
            refine g_aload_n 0 dX10_readJoined_22 rfl rfl ?_
            refine g_iload_n 1 dX10_readJoined_23 rfl rfl ?_
            refine g_if_eq_n (tgt := 32) dX10_readJoined_24 (by decide) (by decide) (fun h => absurd h (by decide)) (fun _ => ?_)
            refine g_ldcS st_X10_187 dX10_readJoined_27 ?_
            refine g_goto (tgt := 34) dX10_readJoined_29 (by decide) ?_
            refine m_cVi (ct_took q wOr hs hT hRq hpq st_X10_187 wd_X10_187) hvX10_took hyX10_took rfl ⟨by dsimp only; omega, by dsimp only; omega⟩ ⟨Nat.zero_le _, Nat.zero_le _⟩ rfl (Nat.le_of_ble_eq_true rfl) dX10_readJoined_34 m_rec (fun r u hp => ?_)
            obtain ⟨a1, b1, t1, v1⟩ := u
            obtain ⟨hp, hq1⟩ := hp
            have hR1 : RdP (tape, size_) (tkE (tape, size_) q) a1 b1 t1 v1 := by have h := hq1; unfold opt at h; rw [if_pos w] at h; exact h
            obtain rfl := hp
            have hps1 : (tkE (tape, size_) q) ≤ size_ := tkE_le (X := (tape, size_)) hpq
            have hb1 : bnd (tape, size_) (tkE (tape, size_) q) := bnd_W w
            refine GG.topi (y := nI 1) (congrArg bI w) ?_
            refine g_if_eq_n (tgt := 97) dX10_readJoined_37 (by decide) (by decide) (fun h => absurd h (by decide)) (fun _ => ?_)
            refine g_iload dX10_readJoined_40 rfl ?_
            refine g_if_ne_n (tgt := 56) dX10_readJoined_42 (by decide) (by decide) (fun _ => ?_) (fun h => absurd h (by decide))
            refine g_aload_n 0 dX10_readJoined_56 rfl rfl ?_
            refine g_bipush (v := nI 9) dX10_readJoined_57 (by decide +kernel) ?_
            refine g_iconst (v := nI 0) dX10_readJoined_59 (by decide +kernel) ?_
            refine g_iload_n 1 dX10_readJoined_60 rfl rfl ?_
            refine g_if_eq_n (tgt := 72) dX10_readJoined_61 (by decide) (by decide) (fun h => absurd h (by decide)) (fun _ => ?_)
            refine g_aload_n 0 dX10_readJoined_64 rfl rfl ?_
            refine g_iconst (v := nI 0) dX10_readJoined_65 (by decide +kernel) ?_
            refine m_cVi (hP k9 (by omega) (tkE (tape, size_) q) M1 ns hs hT hR1 hps1 hb1 hnq hn6 hMq (by have : phi (tape, size_) q + 2 + 1 ≤ _ := phi_W hbq w; omega) (by omega) (okK_o hq)) hvX10_readJoined hyX10_readJoined rfl ⟨by dsimp only; omega, by dsimp only; omega⟩ ⟨Nat.zero_le _, Nat.zero_le _⟩ rfl (Nat.le_of_ble_eq_true rfl) dX10_readJoined_66 m_rec (fun r u hp => ?_)
            obtain ⟨fr2, a2, b2, t2, v2, bd2, bp2⟩ := u
            obtain ⟨hr2, he2⟩ := hp
            obtain ⟨hz2, hR2, hq2⟩ := hr2.isok hq
            have hz2 : bd2 = 0 := hz2
            subst hz2
            obtain ⟨M2, m2, g21, g22, g23, g24, g25, g26, g27⟩ := he2 f z9 hq
            have g23 : fr2 7 = nI M2 := g23
            have hns2 : fr2 5 = nI ns := (g27 5 (by decide) (by omega)).trans hnq
            have hph2 : 2 * M1 ≤ phi (tape, size_) (tkE (tape, size_) q) := (by have : phi (tape, size_) q + 2 + 1 ≤ _ := phi_W hbq w; omega)
            have hps2 : z9 ≤ size_ := hq2
            have hb2 : bnd (tape, size_) z9 := g26
            have hlt2 : M2 < 450 := by have := (phi_le (tape, size_) z9).2; omega
            refine GG.topi g22 ?_
            refine g_goto (tgt := 76) dX10_readJoined_69 (by decide) ?_
            refine m_cVi (ct_mark M2 _ _ _ g23 (by omega)) hvX10_mark hyX10_mark rfl ⟨by dsimp only; omega, by dsimp only; omega⟩ ⟨Nat.zero_le _, Nat.zero_le _⟩ rfl (Nat.le_of_ble_eq_true rfl) dX10_readJoined_76 m_rec (fun r u hp => ?_)
            obtain ⟨hp, hu3⟩ := hp
            have hu3 : u = _ := hu3
            subst hu3
            obtain rfl := hp
            refine g_istore (L' := [(0, _), (1, _), (2, _), (3, _), (4, _), (5, _)]) dX10_readJoined_79 (by decide) rfl rfl ?_
            refine g_aload_n 0 dX10_readJoined_81 rfl rfl ?_
            refine g_iload_n 3 dX10_readJoined_82 rfl rfl ?_
            refine g_iload dX10_readJoined_83 rfl ?_
            refine m_cVv (ct_beside last _ (by have h8 : last < _ := hJ.2.2.2.elim (fun z => absurd z.1 (by decide)) (fun z => z.2.2.1); omega)) hvX10_beside hyX10_beside rfl ⟨by dsimp only; omega, by dsimp only; omega⟩ ⟨Nat.zero_le _, Nat.zero_le _⟩ rfl (Nat.le_of_ble_eq_true rfl) dX10_readJoined_85 m_rec (fun u hp => ?_)
            have hu4 : u = _ := hp
            subst hu4
            refine g_iload dX10_readJoined_88 rfl ?_
            refine g_istore_n (L' := [(0, _), (1, _), (2, _), (3, _), (4, _), (5, _)]) 3 dX10_readJoined_90 rfl (by decide) rfl rfl ?_
            refine g_iconst (v := nI 1) dX10_readJoined_91 (by decide +kernel) ?_
            refine g_istore (L' := [(0, _), (1, _), (2, _), (3, _), (4, _), (5, _)]) dX10_readJoined_92 (by decide) rfl rfl ?_
            refine g_goto (tgt := 22) dX10_readJoined_94 (by decide) ?_
            refine GG.locals [0, 1, 2, 3, 4] rfl ?_
            have h55 : 2 * M1 + 5 + phi (tape, size_) p ≤ 2 * M + phi (tape, size_) q := hJ.2.2.2.elim (fun z => absurd z.1 (by decide)) (fun z => z.2.2.2.2)
            have hlz : last < M1 := hJ.2.2.2.elim (fun z => absurd z.1 (by decide)) (fun z => z.2.2.1)
            have hJ2 := J_next (X := (tape, size_)) (p := p) (r := z9) (M0 := M1) hj1 hlz hj3 (hJ.2.2.2.elim (fun z => absurd z.1 (by decide)) (fun z => z.2.2.2.1)) hJ.2.2.1 (Nat.le_refl _) g21 g24 g27 (by have : phi (tape, size_) q + 2 + 1 ≤ _ := phi_W hbq w; have := g25; omega)
            exact ihJ (acc ++ [f]) z9 _ _ _ _ _ _ (M2 + 1) first M2 1 (by omega) hR2 hps2 hb2 ((up_n (by omega)).trans ((mkM_o (by decide) (Or.inl (by omega))).trans hns2)) hJ2 (by rw [← hr0]; exact hok) (hrr.trans hr0)
  rcases hq : pE (tape, size_) ns n 2 open_ [] p with ⟨k, l9⟩ | ⟨f, q⟩
  · skip
    have hr : pE (tape, size_) ns (n + 1) 4 open_ [] p = PR.no k l9 := by rw [hstep, hq]; rfl
    refine g_iload_n 1 dX10_readJoined_0 rfl rfl ?_
    refine g_if_eq_n (tgt := 12) dX10_readJoined_1 (by decide) (by decide) (fun h => absurd h (by decide)) (fun _ => ?_)
    refine g_aload_n 0 dX10_readJoined_4 rfl rfl ?_
    refine g_iconst (v := nI 0) dX10_readJoined_5 (by decide +kernel) ?_
    refine m_cVi (hP n (Nat.lt_succ_self n) p M ns hs hT hR hps hb hns hn6 hM hphi (by omega) (okK_n hq hr h9)) hvX10_readJoined hyX10_readJoined rfl ⟨by dsimp only; omega, by dsimp only; omega⟩ ⟨Nat.zero_le _, Nat.zero_le _⟩ rfl (Nat.le_of_ble_eq_true rfl) dX10_readJoined_6 m_rec (fun r u hp => ?_)
    obtain ⟨fr1, a1, b1, t1, v1, bd1, bp1⟩ := u
    obtain ⟨hr1, he1⟩ := hp
    obtain ⟨ht4, hv9, hk1, hl1, hbd⟩ := hr1.isno hq
    have hbd : 0 < bd1 ∧ bd1 < 10 := hbd
    refine g_goto (tgt := 16) dX10_readJoined_9 (by decide) ?_
    refine g_istore_n (L' := [(0, _), (1, _), (2, _)]) 2 dX10_readJoined_16 rfl (by decide) rfl rfl ?_
    refine g_iload_n 2 dX10_readJoined_17 rfl rfl ?_
    refine g_istore_n (L' := [(0, _), (1, _), (2, _), (3, _)]) 3 dX10_readJoined_18 rfl (by decide) rfl rfl ?_
    refine g_iconst (v := nI 0) dX10_readJoined_19 (by decide +kernel) ?_
    refine g_istore (L' := [(0, _), (1, _), (2, _), (3, _), (4, _)]) dX10_readJoined_20 (by decide) rfl rfl ?_
    refine g_aload_n 0 dX10_readJoined_22 rfl rfl ?_
    refine g_iload_n 1 dX10_readJoined_23 rfl rfl ?_
    refine g_if_eq_n (tgt := 32) dX10_readJoined_24 (by decide) (by decide) (fun h => absurd h (by decide)) (fun _ => ?_)
    refine g_ldcS st_X10_187 dX10_readJoined_27 ?_
    refine g_goto (tgt := 34) dX10_readJoined_29 (by decide) ?_
    refine m_cVi (ct_took_bad hbd st_X10_187) hvX10_took hyX10_took rfl ⟨by dsimp only; omega, by dsimp only; omega⟩ ⟨Nat.zero_le _, Nat.zero_le _⟩ rfl (Nat.le_of_ble_eq_true rfl) dX10_readJoined_34 m_rec (fun r u9 hp => ?_)
    obtain rfl := hp
    refine GG.topi (y := nI 0) rfl ?_
    refine g_if_eq_n (tgt := 97) dX10_readJoined_37 (by decide) (by decide) (fun _ => ?_) (fun h => absurd h (by decide))
    refine g_iload dX10_readJoined_97 rfl ?_
    refine g_if_eq_n (tgt := 120) dX10_readJoined_99 (by decide) (by decide) (fun _ => ?_) (fun h => absurd h (by decide))
    refine g_iload_n 2 dX10_readJoined_120 rfl rfl ?_
    exact g_iret (_, _, _, _, _, _, _) dX10_readJoined_121 (Nat.le_refl _) (Nat.le_refl _) (by exact ⟨RdR.no hr (by first | exact ht4 | exact RdP.t4 (by assumption)) (by first | exact hv9 | exact RdP.v9 (by assumption)) (by first | assumption | exact bad_k (by assumption) (by assumption)) (by first | assumption | exact bad_l (by assumption) (by assumption)) hbd, RdE.no hr⟩) (fun _ h => h)
  · skip
    have hr : pE (tape, size_) ns (n + 1) 4 open_ [] p = pE (tape, size_) ns n 5 open_ [f] q := by rw [hstep, hq]; rfl
    refine g_iload_n 1 dX10_readJoined_0 rfl rfl ?_
    refine g_if_eq_n (tgt := 12) dX10_readJoined_1 (by decide) (by decide) (fun h => absurd h (by decide)) (fun _ => ?_)
    refine g_aload_n 0 dX10_readJoined_4 rfl rfl ?_
    refine g_iconst (v := nI 0) dX10_readJoined_5 (by decide +kernel) ?_
    refine m_cVi (hP n (Nat.lt_succ_self n) p M ns hs hT hR hps hb hns hn6 hM hphi (by omega) (okK_o hq)) hvX10_readJoined hyX10_readJoined rfl ⟨by dsimp only; omega, by dsimp only; omega⟩ ⟨Nat.zero_le _, Nat.zero_le _⟩ rfl (Nat.le_of_ble_eq_true rfl) dX10_readJoined_6 m_rec (fun r u hp => ?_)
    obtain ⟨fr1, a1, b1, t1, v1, bd1, bp1⟩ := u
    obtain ⟨hr1, he1⟩ := hp
    obtain ⟨hz1, hR1, hq1⟩ := hr1.isok hq
    have hz1 : bd1 = 0 := hz1
    subst hz1
    obtain ⟨M1, m1, g11, g12, g13, g14, g15, g16, g17⟩ := he1 f q hq
    have g13 : fr1 7 = nI M1 := g13
    have hns1 : fr1 5 = nI ns := (g17 5 (by decide) (by omega)).trans hns
    have hph1 : 2 * M ≤ phi (tape, size_) p := hphi
    have hps1 : q ≤ size_ := hq1
    have hb1 : bnd (tape, size_) q := g16
    have hlt1 : M1 < 450 := by have := (phi_le (tape, size_) q).2; omega
    refine GG.topi g12 ?_
    refine g_goto (tgt := 16) dX10_readJoined_9 (by decide) ?_
    refine g_istore_n (L' := [(0, _), (1, _), (2, _)]) 2 dX10_readJoined_16 rfl (by decide) rfl rfl ?_
    refine g_iload_n 2 dX10_readJoined_17 rfl rfl ?_
    refine g_istore_n (L' := [(0, _), (1, _), (2, _), (3, _)]) 3 dX10_readJoined_18 rfl (by decide) rfl rfl ?_
    refine g_iconst (v := nI 0) dX10_readJoined_19 (by decide +kernel) ?_
    refine g_istore (L' := [(0, _), (1, _), (2, _), (3, _), (4, _)]) dX10_readJoined_20 (by decide) rfl rfl ?_
    refine GG.locals [0, 1, 2, 3, 4] rfl ?_
    exact loopJ n [f] q _ _ _ _ _ _ M1 m1 m1 0 (Nat.le_refl _) hR1 hps1 hb1 hns1 (J_first g11 g13 g14 g15 g17) (by rw [← hr]; exact h9) hr
theorem FactC_0 : FactC l D cl tys mi cI cJ cZ ma 0 := by
  intro known fresh_ saved images isImage thrown tape taped size_ at_ begin_ token value open_ badPlace faultKind faultPlace xs ys pairs rows top heaps endsBehind path order firstOrder ordersMany tSort tMany numbers p M ns hs hT hR hps hb hns hn6 hM hphi ho h9
  exact absurd rfl (h9 9 0 rfl)
theorem WithC_0 : WithC l D cl tys mi cI cJ cZ ma 0 := by
  intro known fresh_ saved images isImage thrown tape taped size_ at_ begin_ token value open_ badPlace faultKind faultPlace xs ys pairs rows top heaps endsBehind path order firstOrder ordersMany tSort tMany numbers p M ns hs hT hR hps hb hns hn6 hM hphi ho h9
  exact absurd rfl (h9 9 0 rfl)
theorem PartC_0 : PartC l D cl tys mi cI cJ cZ ma 0 := by
  intro known fresh_ saved images isImage thrown tape taped size_ at_ begin_ token value open_ badPlace faultKind faultPlace xs ys pairs rows top heaps endsBehind path order firstOrder ordersMany tSort tMany numbers p M ns hs hT hR hps hb hns hn6 hM hphi ho h9
  exact absurd rfl (h9 9 0 rfl)
theorem JoinC_0 : JoinC l D cl tys mi cI cJ cZ ma 0 := by
  intro known fresh_ saved images isImage thrown tape taped size_ at_ begin_ token value open_ badPlace faultKind faultPlace xs ys pairs rows top heaps endsBehind path order firstOrder ordersMany tSort tMany numbers p M ns hs hT hR hps hb hns hn6 hM hphi ho h9
  exact absurd rfl (h9 9 0 rfl)
/-- facts, parts and sayings are read as the text's reader does -/
theorem rd_all : ∀ (N n : Nat), n < N → FactC l D cl tys mi cI cJ cZ ma n ∧ WithC l D cl tys mi cI cJ cZ ma n ∧ PartC l D cl tys mi cI cJ cZ ma n ∧ JoinC l D cl tys mi cI cJ cZ ma n
  | 0, _, h => absurd h (Nat.not_lt_zero _)
  | N + 1, 0, _ => ⟨FactC_0, WithC_0, PartC_0, JoinC_0⟩
  | N + 1, n + 1, h => by
    have ih : ∀ k, k < n + 1 → _ := fun k hk => rd_all N k (by omega)
    exact ⟨fact_s (fun k hk => (ih k hk).1) (fun k hk => (ih k hk).2.1), with_s (fun k hk => say_s (ih k hk).2.2.2), part_s (fun k hk => (ih k hk).1), join_s (fun k hk => (ih k hk).2.2.1)⟩
theorem rd_say (n : Nat) : SayC4 l D cl tys mi cI cJ cZ ma n := say_s (rd_all (n + 1) n (Nat.lt_succ_self _)).2.2.2
end
