/-! READING: lines -/
theorem LInv.to {X : Txt} {T : Talk} {M p z : Nat} {fr : Nat → Int32} (h : LInv X T M p fr) (hp : p < z) (hb : bnd X z) : LInv X T M z fr :=
  h.go (Nat.le_of_lt hp) (by have := phi_le X p; have := phi_le X z; omega) hb
/-! THE MODEL, 22: lines are read -/
set_option maxRecDepth 100000
theorem pBody_spk {X : Txt} {T : Talk} {p k l : Nat} (n0 : isW X wNumbers p = false) (n1 : isW X wMost p = false) (n2 : isW X wUnlike p = false) (n3 : isW X wSpeaker p = true) (h : pSpk X (tNS T) p = Sum.inl (k, l)) : pBody X T p = PR.no k l := by
  unfold pBody
  rw [if_neg (by rw [n0]; decide), if_neg (by rw [n1]; decide), if_neg (by rw [n2]; decide), if_pos n3]
  unfold pSpk at h
  by_cases q : tNS T = 6
  · rw [if_pos q] at h ⊢; cases h; rfl
  · rw [if_neg q] at h ⊢
    cases hs : sightOf X (tkE X p) with
    | none => rw [hs] at h; unfold pWrong at h; cases h; rfl
    | some k => rw [hs] at h; cases h
theorem pBody_spk2 {X : Txt} {T : Talk} {p k z : Nat} {li de : Bool} (n0 : isW X wNumbers p = false) (n1 : isW X wMost p = false) (n2 : isW X wUnlike p = false) (n3 : isW X wSpeaker p = true) (h : pSpk X (tNS T) p = Sum.inr ((k, li, de), z)) : pBody X T p = PR.ok (tSpk T k li de) z ∧ k ≤ 8 ∧ ¬ tNS T = 6 := by
  unfold pBody
  rw [if_neg (by rw [n0]; decide), if_neg (by rw [n1]; decide), if_neg (by rw [n2]; decide), if_pos n3]
  unfold pSpk at h
  by_cases q : tNS T = 6
  · rw [if_pos q] at h; cases h
  · rw [if_neg q] at h ⊢
    cases hs : sightOf X (tkE X p) with
    | none => rw [hs] at h; cases h
    | some k => rw [hs] at h; cases h; exact ⟨rfl, (sightOf_le hs).1, q⟩
theorem pBody_trn {X : Txt} {T : Talk} {p k l : Nat} (n0 : isW X wNumbers p = false) (n1 : isW X wMost p = false) (n2 : isW X wUnlike p = false) (n3 : isW X wSpeaker p = false) (n4 : isW X wSay p = true) (h : pTrn X (tNS T) (tNT T) p = Sum.inl (k, l)) : pBody X T p = PR.no k l := by
  unfold pBody
  rw [if_neg (by rw [n0]; decide), if_neg (by rw [n1]; decide), if_neg (by rw [n2]; decide), if_neg (by rw [n3]; decide), if_pos n4]
  unfold pTrn at h
  by_cases q : tNT T = 20
  · rw [if_pos q] at h ⊢; cases h; rfl
  · rw [if_neg q] at h ⊢
    rcases h1 : pNum X 0 (tNS T) (tkE X p) with ⟨a, b⟩ | ⟨a, b⟩
    · rw [h1] at h; cases h; rfl
    · rw [h1] at h
      rcases h2 : pSay X (tNS T) b with ⟨c, d⟩ | ⟨c, d⟩
      · have h3 : PR.bind (pSay X (tNS T) b) _ = _ := h
        rw [h2] at h3
        show PR.bind (pSay X (tNS T) b) _ = _
        rw [h2]; cases h3; rfl
      · have h3 : PR.bind (pSay X (tNS T) b) _ = _ := h
        rw [h2] at h3; cases h3
theorem pBody_trn2 {X : Txt} {T : Talk} {p s z : Nat} {f : Sem} (n0 : isW X wNumbers p = false) (n1 : isW X wMost p = false) (n2 : isW X wUnlike p = false) (n3 : isW X wSpeaker p = false) (n4 : isW X wSay p = true) (h : pTrn X (tNS T) (tNT T) p = Sum.inr ((s, f), z)) : pBody X T p = PR.ok (tTurn T s f) z ∧ ¬ tNT T = 20 := by
  unfold pBody
  rw [if_neg (by rw [n0]; decide), if_neg (by rw [n1]; decide), if_neg (by rw [n2]; decide), if_neg (by rw [n3]; decide), if_pos n4]
  unfold pTrn at h
  by_cases q : tNT T = 20
  · rw [if_pos q] at h; cases h
  · rw [if_neg q] at h ⊢
    refine ⟨?_, q⟩
    rcases h1 : pNum X 0 (tNS T) (tkE X p) with ⟨a, b⟩ | ⟨a, b⟩
    · rw [h1] at h; cases h
    · rw [h1] at h
      have h3 : PR.bind (pSay X (tNS T) b) _ = _ := h
      show PR.bind (pSay X (tNS T) b) _ = _
      rcases h2 : pSay X (tNS T) b with ⟨c, d⟩ | ⟨c, d⟩
      · rw [h2] at h3; cases h3
      · rw [h2] at h3; cases h3; rfl
section
variable {l : Launch} {D : va_G} {cl : List vw_C} {tys : List (ClassId × FieldType)} {mi : Nat} {cI cJ cZ : ClassId} {ma : Nat → Nat} {known fresh_ saved images : Nat → Int32} {isImage : Nat → Bool} {thrown : Nat} {tape : Nat → Nat} {taped size_ at_ begin_ token value open_ bad badPlace faultKind : Nat} {faultPlace : Int32} {xs ys : Nat → Nat} {pairs : Nat} {rows : Nat → Int64} {top : Nat} {heaps : Nat → Nat} {endsBehind : Nat → Int32} {path order firstOrder : Nat → Nat} {ordersMany : Nat} {tSort : Nat → Int32} {tMany : Nat → Nat} {numbers : Nat → Int64}
set_option maxHeartbeats 4000000 in
/-- reads a line -/
theorem ct_readLine (T : Talk) (p M : Nat) (hs : size_ ≤ 900) (hT : ∀ j, tape j < 256) (hR : RdP (tape, size_) p at_ begin_ token value) (hps : p ≤ size_) (hL : LInv (tape, size_) T M p fresh_) : CT l D cl tys yX10_readLine cX10_readLine 2 none ({ frames := 73, cells := 0, slots := 0, locals := 1812 } : Room) [.ref (ma 0)] (HM D cl tys mi cI cJ cZ ma known fresh_ saved images isImage thrown tape taped size_ at_ begin_ token value 0 0 badPlace faultKind faultPlace xs ys pairs rows top heaps endsBehind path order firstOrder ordersMany tSort tMany numbers) (Qv (fun (u : (Nat → Int32) × Nat × Nat × Nat × Nat × Nat × Nat) => RdR (tape, size_) (pLine (tape, size_) T p) u.2.1 u.2.2.1 u.2.2.2.1 u.2.2.2.2.1 u.2.2.2.2.2.1 u.2.2.2.2.2.2 ∧ ∀ T2 z, (pLine (tape, size_) T p) = PR.ok T2 z → ∃ M2, LInv (tape, size_) T2 M2 z u.1) (fun (u : (Nat → Int32) × Nat × Nat × Nat × Nat × Nat × Nat) => HM D cl tys mi cI cJ cZ ma known u.1 saved images isImage thrown tape taped size_ u.2.1 u.2.2.1 u.2.2.2.1 u.2.2.2.2.1 0 u.2.2.2.2.2.1 u.2.2.2.2.2.2 faultKind faultPlace xs ys pairs rows top heaps endsBehind path order firstOrder ordersMany tSort tMany numbers) (AM ma)) (AM ma) := by
  refine CT.of (L := [(0, .ref (ma 0))]) rfl (by decide +kernel) rfl (Nat.le_of_ble_eq_true rfl) ?_
  rcases hn0x : isW (tape, size_) wNumbers p with _ | _
  · skip
    have n0 := hn0x
    rcases hn1x : isW (tape, size_) wMost p with _ | _
    · skip
      have n1 := hn1x
      rcases hn2x : isW (tape, size_) wUnlike p with _ | _
      · skip
        have n2 := hn2x
        rcases hn3x : isW (tape, size_) wSpeaker p with _ | _
        · skip
          have n3 := hn3x
          rcases hn4x : isW (tape, size_) wSay p with _ | _
          · skip
            have n4 := hn4x
            skip
            · skip
              have hbd0 : pBody (tape, size_) T p = pWrong (tape, size_) p := by unfold pBody; rw [if_neg (by rw [n0]; decide), if_neg (by rw [n1]; decide), if_neg (by rw [n2]; decide), if_neg (by rw [n3]; decide), if_neg (by rw [n4]; decide)]
              have hr : (pLine (tape, size_) T p) = pWrong (tape, size_) p := by unfold pLine; rw [hbd0]; rfl
              refine g_aload_n 0 dX10_readLine_0 rfl rfl ?_
              refine g_ldcS st_X10_220 dX10_readLine_1 ?_
              refine m_cVi (ct_took p wNumbers hs hT hR hps st_X10_220 wd_X10_220) hvX10_took hyX10_took rfl ⟨Nat.le_of_ble_eq_true rfl, Nat.le_of_ble_eq_true rfl⟩ ⟨Nat.zero_le _, Nat.zero_le _⟩ rfl (Nat.le_of_ble_eq_true rfl) dX10_readLine_3 m_rec (fun r u hp => ?_)
              obtain ⟨a1, b1, t1, v1⟩ := u
              obtain ⟨hp, hq1⟩ := hp
              have hR1 : RdP (tape, size_) p a1 b1 t1 v1 := by have h := hq1; unfold opt at h; rw [if_neg (by rw [n0]; decide)] at h; exact h
              obtain rfl := hp
              have hps1 : p ≤ size_ := hps
              have hb1 : bnd (tape, size_) p := hL.2.2.2.1
              refine GG.topi (y := nI 0) (congrArg bI n0) ?_
              refine g_if_eq_n (tgt := 54) dX10_readLine_6 (by decide) (by decide) (fun _ => ?_) (fun h => absurd h (by decide))
              refine g_aload_n 0 dX10_readLine_54 rfl rfl ?_
              refine g_ldcS st_X10_223 dX10_readLine_55 ?_
              refine m_cVi (ct_took p wMost hs hT hR1 hps1 st_X10_223 wd_X10_223) hvX10_took hyX10_took rfl ⟨Nat.le_of_ble_eq_true rfl, Nat.le_of_ble_eq_true rfl⟩ ⟨Nat.zero_le _, Nat.zero_le _⟩ rfl (Nat.le_of_ble_eq_true rfl) dX10_readLine_57 m_rec (fun r u hp => ?_)
              obtain ⟨a2, b2, t2, v2⟩ := u
              obtain ⟨hp, hq2⟩ := hp
              have hR2 : RdP (tape, size_) p a2 b2 t2 v2 := by have h := hq2; unfold opt at h; rw [if_neg (by rw [n1]; decide)] at h; exact h
              obtain rfl := hp
              have hps2 : p ≤ size_ := hps1
              have hb2 : bnd (tape, size_) p := hb1
              refine GG.topi (y := nI 0) (congrArg bI n1) ?_
              refine g_if_eq_n (tgt := 79) dX10_readLine_60 (by decide) (by decide) (fun _ => ?_) (fun h => absurd h (by decide))
              refine g_aload_n 0 dX10_readLine_79 rfl rfl ?_
              refine g_ldcS st_X10_225 dX10_readLine_80 ?_
              refine m_cVi (ct_took p wUnlike hs hT hR2 hps2 st_X10_225 wd_X10_225) hvX10_took hyX10_took rfl ⟨Nat.le_of_ble_eq_true rfl, Nat.le_of_ble_eq_true rfl⟩ ⟨Nat.zero_le _, Nat.zero_le _⟩ rfl (Nat.le_of_ble_eq_true rfl) dX10_readLine_82 m_rec (fun r u hp => ?_)
              obtain ⟨a3, b3, t3, v3⟩ := u
              obtain ⟨hp, hq3⟩ := hp
              have hR3 : RdP (tape, size_) p a3 b3 t3 v3 := by have h := hq3; unfold opt at h; rw [if_neg (by rw [n2]; decide)] at h; exact h
              obtain rfl := hp
              have hps3 : p ≤ size_ := hps2
              have hb3 : bnd (tape, size_) p := hb2
              refine GG.topi (y := nI 0) (congrArg bI n2) ?_
              refine g_if_eq_n (tgt := 98) dX10_readLine_85 (by decide) (by decide) (fun _ => ?_) (fun h => absurd h (by decide))
              refine g_aload_n 0 dX10_readLine_98 rfl rfl ?_
              refine g_ldcS st_X10_227 dX10_readLine_99 ?_
              refine m_cVi (ct_isWord p wSpeaker hs hT hR3 hps3 st_X10_227 wd_X10_227) hvX10_isWord hyX10_isWord rfl ⟨Nat.le_of_ble_eq_true rfl, Nat.le_of_ble_eq_true rfl⟩ ⟨Nat.zero_le _, Nat.zero_le _⟩ rfl (Nat.le_of_ble_eq_true rfl) dX10_readLine_101 m_rec (fun r u9 hp => ?_)
              obtain rfl := hp
              refine GG.topi (y := nI 0) (congrArg bI n3) ?_
              refine g_if_eq_n (tgt := 114) dX10_readLine_104 (by decide) (by decide) (fun _ => ?_) (fun h => absurd h (by decide))
              refine g_aload_n 0 dX10_readLine_114 rfl rfl ?_
              refine g_ldcS st_X10_232 dX10_readLine_115 ?_
              refine m_cVi (ct_isWord p wSay hs hT hR3 hps3 st_X10_232 wd_X10_232) hvX10_isWord hyX10_isWord rfl ⟨Nat.le_of_ble_eq_true rfl, Nat.le_of_ble_eq_true rfl⟩ ⟨Nat.zero_le _, Nat.zero_le _⟩ rfl (Nat.le_of_ble_eq_true rfl) dX10_readLine_117 m_rec (fun r u9 hp => ?_)
              obtain rfl := hp
              refine GG.topi (y := nI 0) (congrArg bI n4) ?_
              refine g_if_eq_n (tgt := 130) dX10_readLine_120 (by decide) (by decide) (fun _ => ?_) (fun h => absurd h (by decide))
              refine g_aload_n 0 dX10_readLine_130 rfl rfl ?_
              refine g_iconst (v := nI 2) dX10_readLine_131 (by decide +kernel) ?_
              refine m_cVv (ct_blames _ hR3.t4 (by decide)) hvX10_blames hyX10_blames rfl ⟨Nat.le_of_ble_eq_true rfl, Nat.le_of_ble_eq_true rfl⟩ ⟨Nat.zero_le _, Nat.zero_le _⟩ rfl (Nat.le_of_ble_eq_true rfl) dX10_readLine_132 m_rec (fun u hp => ?_)
              obtain ⟨bd6, bp6⟩ := u
              obtain ⟨hk6, hl6⟩ := hp
              have hk6 : bd6 = _ := hk6
              have hl6 : bp6 = _ := hl6
              have hbd : 0 < bd6 ∧ bd6 < 10 := by rw [hk6]; split <;> decide
              have ht4 := hR3.t4
              have hv9 := hR3.2.2.2.2
              refine g_aload_n 0 dX10_readLine_135 rfl rfl ?_
              refine g_bipush (v := nI 59) dX10_readLine_136 (by decide +kernel) ?_
              refine m_cVv (ct_sign_bad _ hbd) hvX10_sign hyX10_sign rfl ⟨Nat.le_of_ble_eq_true rfl, Nat.le_of_ble_eq_true rfl⟩ ⟨Nat.zero_le _, Nat.zero_le _⟩ rfl (Nat.le_of_ble_eq_true rfl) dX10_readLine_138 m_rec (fun u9 h9 => ?_)
              refine g_aload_n 0 dX10_readLine_141 rfl rfl ?_
              refine m_get_bad dX10_readLine_142 ?_
              refine g_if_ne_n (tgt := 158) dX10_readLine_145 (by decide) (by omega) (fun c145 => ?_) (fun c145 => ?_)
              · skip
                exact g_vret (_, _, _, _, _, _, _) dX10_readLine_158 (Nat.le_refl _) (Nat.le_refl _) (by exact ⟨RdR.no hr (by first | exact ht4 | exact RdP.t4 (by assumption)) (by first | exact hv9 | exact RdP.v9 (by assumption)) (by first | assumption | exact bad_k (by assumption) (by assumption)) (by first | assumption | exact bad_l (by assumption) (by assumption)) hbd, fun T2 z e => by rw [hr] at e; exact (PR.ne e).elim⟩) (fun _ h => h)
              · skip
                exact absurd c145 (by omega)
          · skip
            have n4 := hn4x
            rcases hq : pTrn (tape, size_) (tNS T) (tNT T) p with ⟨k, l9⟩ | ⟨⟨s, f⟩, q⟩
            · skip
              have hK1 : token = 1 := by rw [hR.2.2.1]; exact isW_K n4
              have hbd0 := pBody_trn n0 n1 n2 n3 n4 hq
              have hr : (pLine (tape, size_) T p) = PR.no k l9 := by unfold pLine; rw [hbd0]; rfl
              refine g_aload_n 0 dX10_readLine_0 rfl rfl ?_
              refine g_ldcS st_X10_220 dX10_readLine_1 ?_
              refine m_cVi (ct_took p wNumbers hs hT hR hps st_X10_220 wd_X10_220) hvX10_took hyX10_took rfl ⟨Nat.le_of_ble_eq_true rfl, Nat.le_of_ble_eq_true rfl⟩ ⟨Nat.zero_le _, Nat.zero_le _⟩ rfl (Nat.le_of_ble_eq_true rfl) dX10_readLine_3 m_rec (fun r u hp => ?_)
              obtain ⟨a1, b1, t1, v1⟩ := u
              obtain ⟨hp, hq1⟩ := hp
              have hR1 : RdP (tape, size_) p a1 b1 t1 v1 := by have h := hq1; unfold opt at h; rw [if_neg (by rw [n0]; decide)] at h; exact h
              obtain rfl := hp
              have hps1 : p ≤ size_ := hps
              have hb1 : bnd (tape, size_) p := hL.2.2.2.1
              refine GG.topi (y := nI 0) (congrArg bI n0) ?_
              refine g_if_eq_n (tgt := 54) dX10_readLine_6 (by decide) (by decide) (fun _ => ?_) (fun h => absurd h (by decide))
              refine g_aload_n 0 dX10_readLine_54 rfl rfl ?_
              refine g_ldcS st_X10_223 dX10_readLine_55 ?_
              refine m_cVi (ct_took p wMost hs hT hR1 hps1 st_X10_223 wd_X10_223) hvX10_took hyX10_took rfl ⟨Nat.le_of_ble_eq_true rfl, Nat.le_of_ble_eq_true rfl⟩ ⟨Nat.zero_le _, Nat.zero_le _⟩ rfl (Nat.le_of_ble_eq_true rfl) dX10_readLine_57 m_rec (fun r u hp => ?_)
              obtain ⟨a2, b2, t2, v2⟩ := u
              obtain ⟨hp, hq2⟩ := hp
              have hR2 : RdP (tape, size_) p a2 b2 t2 v2 := by have h := hq2; unfold opt at h; rw [if_neg (by rw [n1]; decide)] at h; exact h
              obtain rfl := hp
              have hps2 : p ≤ size_ := hps1
              have hb2 : bnd (tape, size_) p := hb1
              refine GG.topi (y := nI 0) (congrArg bI n1) ?_
              refine g_if_eq_n (tgt := 79) dX10_readLine_60 (by decide) (by decide) (fun _ => ?_) (fun h => absurd h (by decide))
              refine g_aload_n 0 dX10_readLine_79 rfl rfl ?_
              refine g_ldcS st_X10_225 dX10_readLine_80 ?_
              refine m_cVi (ct_took p wUnlike hs hT hR2 hps2 st_X10_225 wd_X10_225) hvX10_took hyX10_took rfl ⟨Nat.le_of_ble_eq_true rfl, Nat.le_of_ble_eq_true rfl⟩ ⟨Nat.zero_le _, Nat.zero_le _⟩ rfl (Nat.le_of_ble_eq_true rfl) dX10_readLine_82 m_rec (fun r u hp => ?_)
              obtain ⟨a3, b3, t3, v3⟩ := u
              obtain ⟨hp, hq3⟩ := hp
              have hR3 : RdP (tape, size_) p a3 b3 t3 v3 := by have h := hq3; unfold opt at h; rw [if_neg (by rw [n2]; decide)] at h; exact h
              obtain rfl := hp
              have hps3 : p ≤ size_ := hps2
              have hb3 : bnd (tape, size_) p := hb2
              refine GG.topi (y := nI 0) (congrArg bI n2) ?_
              refine g_if_eq_n (tgt := 98) dX10_readLine_85 (by decide) (by decide) (fun _ => ?_) (fun h => absurd h (by decide))
              refine g_aload_n 0 dX10_readLine_98 rfl rfl ?_
              refine g_ldcS st_X10_227 dX10_readLine_99 ?_
              refine m_cVi (ct_isWord p wSpeaker hs hT hR3 hps3 st_X10_227 wd_X10_227) hvX10_isWord hyX10_isWord rfl ⟨Nat.le_of_ble_eq_true rfl, Nat.le_of_ble_eq_true rfl⟩ ⟨Nat.zero_le _, Nat.zero_le _⟩ rfl (Nat.le_of_ble_eq_true rfl) dX10_readLine_101 m_rec (fun r u9 hp => ?_)
              obtain rfl := hp
              refine GG.topi (y := nI 0) (congrArg bI n3) ?_
              refine g_if_eq_n (tgt := 114) dX10_readLine_104 (by decide) (by decide) (fun _ => ?_) (fun h => absurd h (by decide))
              refine g_aload_n 0 dX10_readLine_114 rfl rfl ?_
              refine g_ldcS st_X10_232 dX10_readLine_115 ?_
              refine m_cVi (ct_isWord p wSay hs hT hR3 hps3 st_X10_232 wd_X10_232) hvX10_isWord hyX10_isWord rfl ⟨Nat.le_of_ble_eq_true rfl, Nat.le_of_ble_eq_true rfl⟩ ⟨Nat.zero_le _, Nat.zero_le _⟩ rfl (Nat.le_of_ble_eq_true rfl) dX10_readLine_117 m_rec (fun r u9 hp => ?_)
              obtain rfl := hp
              refine GG.topi (y := nI 1) (congrArg bI n4) ?_
              refine g_if_eq_n (tgt := 130) dX10_readLine_120 (by decide) (by decide) (fun h => absurd h (by decide)) (fun _ => ?_)
              refine g_aload_n 0 dX10_readLine_123 rfl rfl ?_
              refine m_cVv (ct_readTurn p (tNS T) (tNT T) M hs hT hR3 hps3 hL.2.2.2.2.1.2.2.2.2.2.1 hL.1.2.2.2.2.2.1 (by rw [hR3.2.2.1]; exact isW_K n4) hL.2.2.2.2.1.2.2.2.2.2.2.1 hL.1.2.2.2.2.2.2.1 hL.2.2.2.2.1.2.2.2.2.2.2.2 hL.2.2.2.1 hL.2.2.1) hvX10_readTurn hyX10_readTurn rfl ⟨Nat.le_of_ble_eq_true rfl, Nat.le_of_ble_eq_true rfl⟩ ⟨Nat.zero_le _, Nat.zero_le _⟩ rfl (Nat.le_of_ble_eq_true rfl) dX10_readLine_124 m_rec (fun u hp => ?_)
              obtain ⟨fr6, a6, b6, t6, v6, bd6, bp6⟩ := u
              obtain ⟨hr6, he6⟩ := hp
              obtain ⟨ht4, hv9, hk6, hl6, hbd⟩ := hr6.isno hq
              have hbd : 0 < bd6 ∧ bd6 < 10 := hbd
              refine g_goto (tgt := 135) dX10_readLine_127 (by decide) ?_
              refine g_aload_n 0 dX10_readLine_135 rfl rfl ?_
              refine g_bipush (v := nI 59) dX10_readLine_136 (by decide +kernel) ?_
              refine m_cVv (ct_sign_bad _ hbd) hvX10_sign hyX10_sign rfl ⟨Nat.le_of_ble_eq_true rfl, Nat.le_of_ble_eq_true rfl⟩ ⟨Nat.zero_le _, Nat.zero_le _⟩ rfl (Nat.le_of_ble_eq_true rfl) dX10_readLine_138 m_rec (fun u9 h9 => ?_)
              refine g_aload_n 0 dX10_readLine_141 rfl rfl ?_
              refine m_get_bad dX10_readLine_142 ?_
              refine g_if_ne_n (tgt := 158) dX10_readLine_145 (by decide) (by omega) (fun c145 => ?_) (fun c145 => ?_)
              · skip
                exact g_vret (_, _, _, _, _, _, _) dX10_readLine_158 (Nat.le_refl _) (Nat.le_refl _) (by exact ⟨RdR.no hr (by first | exact ht4 | exact RdP.t4 (by assumption)) (by first | exact hv9 | exact RdP.v9 (by assumption)) (by first | assumption | exact bad_k (by assumption) (by assumption)) (by first | assumption | exact bad_l (by assumption) (by assumption)) hbd, fun T2 z e => by rw [hr] at e; exact (PR.ne e).elim⟩) (fun _ h => h)
              · skip
                exact absurd c145 (by omega)
            · skip
              have hK1 : token = 1 := by rw [hR.2.2.1]; exact isW_K n4
              obtain ⟨hbd0, hn20⟩ := pBody_trn2 n0 n1 n2 n3 n4 hq
              have hgo := pBody_go hbd0 hps
              rcases hw9 : isS (tape, size_) 59 q with _ | _
              · skip
                have w9 := hw9
                have hr : (pLine (tape, size_) T p) = pWrong (tape, size_) q := by unfold pLine; rw [hbd0]; show (if isS (tape, size_) 59 q = true then _ else _) = _; rw [if_neg (by rw [w9]; decide)]
                refine g_aload_n 0 dX10_readLine_0 rfl rfl ?_
                refine g_ldcS st_X10_220 dX10_readLine_1 ?_
                refine m_cVi (ct_took p wNumbers hs hT hR hps st_X10_220 wd_X10_220) hvX10_took hyX10_took rfl ⟨Nat.le_of_ble_eq_true rfl, Nat.le_of_ble_eq_true rfl⟩ ⟨Nat.zero_le _, Nat.zero_le _⟩ rfl (Nat.le_of_ble_eq_true rfl) dX10_readLine_3 m_rec (fun r u hp => ?_)
                obtain ⟨a1, b1, t1, v1⟩ := u
                obtain ⟨hp, hq1⟩ := hp
                have hR1 : RdP (tape, size_) p a1 b1 t1 v1 := by have h := hq1; unfold opt at h; rw [if_neg (by rw [n0]; decide)] at h; exact h
                obtain rfl := hp
                have hps1 : p ≤ size_ := hps
                have hb1 : bnd (tape, size_) p := hL.2.2.2.1
                refine GG.topi (y := nI 0) (congrArg bI n0) ?_
                refine g_if_eq_n (tgt := 54) dX10_readLine_6 (by decide) (by decide) (fun _ => ?_) (fun h => absurd h (by decide))
                refine g_aload_n 0 dX10_readLine_54 rfl rfl ?_
                refine g_ldcS st_X10_223 dX10_readLine_55 ?_
                refine m_cVi (ct_took p wMost hs hT hR1 hps1 st_X10_223 wd_X10_223) hvX10_took hyX10_took rfl ⟨Nat.le_of_ble_eq_true rfl, Nat.le_of_ble_eq_true rfl⟩ ⟨Nat.zero_le _, Nat.zero_le _⟩ rfl (Nat.le_of_ble_eq_true rfl) dX10_readLine_57 m_rec (fun r u hp => ?_)
                obtain ⟨a2, b2, t2, v2⟩ := u
                obtain ⟨hp, hq2⟩ := hp
                have hR2 : RdP (tape, size_) p a2 b2 t2 v2 := by have h := hq2; unfold opt at h; rw [if_neg (by rw [n1]; decide)] at h; exact h
                obtain rfl := hp
                have hps2 : p ≤ size_ := hps1
                have hb2 : bnd (tape, size_) p := hb1
                refine GG.topi (y := nI 0) (congrArg bI n1) ?_
                refine g_if_eq_n (tgt := 79) dX10_readLine_60 (by decide) (by decide) (fun _ => ?_) (fun h => absurd h (by decide))
                refine g_aload_n 0 dX10_readLine_79 rfl rfl ?_
                refine g_ldcS st_X10_225 dX10_readLine_80 ?_
                refine m_cVi (ct_took p wUnlike hs hT hR2 hps2 st_X10_225 wd_X10_225) hvX10_took hyX10_took rfl ⟨Nat.le_of_ble_eq_true rfl, Nat.le_of_ble_eq_true rfl⟩ ⟨Nat.zero_le _, Nat.zero_le _⟩ rfl (Nat.le_of_ble_eq_true rfl) dX10_readLine_82 m_rec (fun r u hp => ?_)
                obtain ⟨a3, b3, t3, v3⟩ := u
                obtain ⟨hp, hq3⟩ := hp
                have hR3 : RdP (tape, size_) p a3 b3 t3 v3 := by have h := hq3; unfold opt at h; rw [if_neg (by rw [n2]; decide)] at h; exact h
                obtain rfl := hp
                have hps3 : p ≤ size_ := hps2
                have hb3 : bnd (tape, size_) p := hb2
                refine GG.topi (y := nI 0) (congrArg bI n2) ?_
                refine g_if_eq_n (tgt := 98) dX10_readLine_85 (by decide) (by decide) (fun _ => ?_) (fun h => absurd h (by decide))
                refine g_aload_n 0 dX10_readLine_98 rfl rfl ?_
                refine g_ldcS st_X10_227 dX10_readLine_99 ?_
                refine m_cVi (ct_isWord p wSpeaker hs hT hR3 hps3 st_X10_227 wd_X10_227) hvX10_isWord hyX10_isWord rfl ⟨Nat.le_of_ble_eq_true rfl, Nat.le_of_ble_eq_true rfl⟩ ⟨Nat.zero_le _, Nat.zero_le _⟩ rfl (Nat.le_of_ble_eq_true rfl) dX10_readLine_101 m_rec (fun r u9 hp => ?_)
                obtain rfl := hp
                refine GG.topi (y := nI 0) (congrArg bI n3) ?_
                refine g_if_eq_n (tgt := 114) dX10_readLine_104 (by decide) (by decide) (fun _ => ?_) (fun h => absurd h (by decide))
                refine g_aload_n 0 dX10_readLine_114 rfl rfl ?_
                refine g_ldcS st_X10_232 dX10_readLine_115 ?_
                refine m_cVi (ct_isWord p wSay hs hT hR3 hps3 st_X10_232 wd_X10_232) hvX10_isWord hyX10_isWord rfl ⟨Nat.le_of_ble_eq_true rfl, Nat.le_of_ble_eq_true rfl⟩ ⟨Nat.zero_le _, Nat.zero_le _⟩ rfl (Nat.le_of_ble_eq_true rfl) dX10_readLine_117 m_rec (fun r u9 hp => ?_)
                obtain rfl := hp
                refine GG.topi (y := nI 1) (congrArg bI n4) ?_
                refine g_if_eq_n (tgt := 130) dX10_readLine_120 (by decide) (by decide) (fun h => absurd h (by decide)) (fun _ => ?_)
                refine g_aload_n 0 dX10_readLine_123 rfl rfl ?_
                refine m_cVv (ct_readTurn p (tNS T) (tNT T) M hs hT hR3 hps3 hL.2.2.2.2.1.2.2.2.2.2.1 hL.1.2.2.2.2.2.1 (by rw [hR3.2.2.1]; exact isW_K n4) hL.2.2.2.2.1.2.2.2.2.2.2.1 hL.1.2.2.2.2.2.2.1 hL.2.2.2.2.1.2.2.2.2.2.2.2 hL.2.2.2.1 hL.2.2.1) hvX10_readTurn hyX10_readTurn rfl ⟨Nat.le_of_ble_eq_true rfl, Nat.le_of_ble_eq_true rfl⟩ ⟨Nat.zero_le _, Nat.zero_le _⟩ rfl (Nat.le_of_ble_eq_true rfl) dX10_readLine_124 m_rec (fun u hp => ?_)
                obtain ⟨fr6, a6, b6, t6, v6, bd6, bp6⟩ := u
                obtain ⟨hr6, he6⟩ := hp
                obtain ⟨hz6, hR6, hq6⟩ := hr6.isok hq
                have hz6 : bd6 = 0 := hz6
                subst hz6
                dsimp only
                have hps6 : q ≤ size_ := hq6
                obtain ⟨M2, m2, frx, x1, x2, x3, x4, x5, x6, x7, x8⟩ := he6 s f q hq
                have x8 : fr6 = _ := x8
                subst x8
                refine g_goto (tgt := 135) dX10_readLine_127 (by decide) ?_
                refine g_aload_n 0 dX10_readLine_135 rfl rfl ?_
                refine g_bipush (v := nI 59) dX10_readLine_136 (by decide +kernel) ?_
                refine m_cVv (ct_sign q _ hs hT hR6 hps6 (by decide)) hvX10_sign hyX10_sign rfl ⟨Nat.le_of_ble_eq_true rfl, Nat.le_of_ble_eq_true rfl⟩ ⟨Nat.zero_le _, Nat.zero_le _⟩ rfl (Nat.le_of_ble_eq_true rfl) dX10_readLine_138 m_rec (fun u hp => ?_)
                obtain ⟨a7, b7, t7, v7, bd7, bp7⟩ := u
                have hr7 := RdR.isno hp (show pSgn _ _ _ = PR.no (if tkK (tape, size_) q = 4 then 1 else 2) (tkB (tape, size_) q) by unfold pSgn; rw [if_neg (by rw [w9]; decide)]; rfl)
                obtain ⟨ht4, hv9, hk7, hl7, hbd⟩ := hr7
                have hbd : 0 < bd7 ∧ bd7 < 10 := hbd
                refine g_aload_n 0 dX10_readLine_141 rfl rfl ?_
                refine m_get_bad dX10_readLine_142 ?_
                refine g_if_ne_n (tgt := 158) dX10_readLine_145 (by decide) (by omega) (fun c145 => ?_) (fun c145 => ?_)
                · skip
                  exact g_vret (_, _, _, _, _, _, _) dX10_readLine_158 (Nat.le_refl _) (Nat.le_refl _) (by exact ⟨RdR.no hr (by first | exact ht4 | exact RdP.t4 (by assumption)) (by first | exact hv9 | exact RdP.v9 (by assumption)) (by first | assumption | exact bad_k (by assumption) (by assumption)) (by first | assumption | exact bad_l (by assumption) (by assumption)) hbd, fun T2 z e => by rw [hr] at e; exact (PR.ne e).elim⟩) (fun _ h => h)
                · skip
                  exact absurd c145 (by omega)
              · skip
                have w9 := hw9
                have hgz := isS_go w9
                have hr : (pLine (tape, size_) T p) = PR.ok (tLine (tTurn T s f)) (tkE (tape, size_) q) := by unfold pLine; rw [hbd0]; show (if isS (tape, size_) 59 q = true then _ else _) = _; rw [if_pos w9]
                refine g_aload_n 0 dX10_readLine_0 rfl rfl ?_
                refine g_ldcS st_X10_220 dX10_readLine_1 ?_
                refine m_cVi (ct_took p wNumbers hs hT hR hps st_X10_220 wd_X10_220) hvX10_took hyX10_took rfl ⟨Nat.le_of_ble_eq_true rfl, Nat.le_of_ble_eq_true rfl⟩ ⟨Nat.zero_le _, Nat.zero_le _⟩ rfl (Nat.le_of_ble_eq_true rfl) dX10_readLine_3 m_rec (fun r u hp => ?_)
                obtain ⟨a1, b1, t1, v1⟩ := u
                obtain ⟨hp, hq1⟩ := hp
                have hR1 : RdP (tape, size_) p a1 b1 t1 v1 := by have h := hq1; unfold opt at h; rw [if_neg (by rw [n0]; decide)] at h; exact h
                obtain rfl := hp
                have hps1 : p ≤ size_ := hps
                have hb1 : bnd (tape, size_) p := hL.2.2.2.1
                refine GG.topi (y := nI 0) (congrArg bI n0) ?_
                refine g_if_eq_n (tgt := 54) dX10_readLine_6 (by decide) (by decide) (fun _ => ?_) (fun h => absurd h (by decide))
                refine g_aload_n 0 dX10_readLine_54 rfl rfl ?_
                refine g_ldcS st_X10_223 dX10_readLine_55 ?_
                refine m_cVi (ct_took p wMost hs hT hR1 hps1 st_X10_223 wd_X10_223) hvX10_took hyX10_took rfl ⟨Nat.le_of_ble_eq_true rfl, Nat.le_of_ble_eq_true rfl⟩ ⟨Nat.zero_le _, Nat.zero_le _⟩ rfl (Nat.le_of_ble_eq_true rfl) dX10_readLine_57 m_rec (fun r u hp => ?_)
                obtain ⟨a2, b2, t2, v2⟩ := u
                obtain ⟨hp, hq2⟩ := hp
                have hR2 : RdP (tape, size_) p a2 b2 t2 v2 := by have h := hq2; unfold opt at h; rw [if_neg (by rw [n1]; decide)] at h; exact h
                obtain rfl := hp
                have hps2 : p ≤ size_ := hps1
                have hb2 : bnd (tape, size_) p := hb1
                refine GG.topi (y := nI 0) (congrArg bI n1) ?_
                refine g_if_eq_n (tgt := 79) dX10_readLine_60 (by decide) (by decide) (fun _ => ?_) (fun h => absurd h (by decide))
                refine g_aload_n 0 dX10_readLine_79 rfl rfl ?_
                refine g_ldcS st_X10_225 dX10_readLine_80 ?_
                refine m_cVi (ct_took p wUnlike hs hT hR2 hps2 st_X10_225 wd_X10_225) hvX10_took hyX10_took rfl ⟨Nat.le_of_ble_eq_true rfl, Nat.le_of_ble_eq_true rfl⟩ ⟨Nat.zero_le _, Nat.zero_le _⟩ rfl (Nat.le_of_ble_eq_true rfl) dX10_readLine_82 m_rec (fun r u hp => ?_)
                obtain ⟨a3, b3, t3, v3⟩ := u
                obtain ⟨hp, hq3⟩ := hp
                have hR3 : RdP (tape, size_) p a3 b3 t3 v3 := by have h := hq3; unfold opt at h; rw [if_neg (by rw [n2]; decide)] at h; exact h
                obtain rfl := hp
                have hps3 : p ≤ size_ := hps2
                have hb3 : bnd (tape, size_) p := hb2
                refine GG.topi (y := nI 0) (congrArg bI n2) ?_
                refine g_if_eq_n (tgt := 98) dX10_readLine_85 (by decide) (by decide) (fun _ => ?_) (fun h => absurd h (by decide))
                refine g_aload_n 0 dX10_readLine_98 rfl rfl ?_
                refine g_ldcS st_X10_227 dX10_readLine_99 ?_
                refine m_cVi (ct_isWord p wSpeaker hs hT hR3 hps3 st_X10_227 wd_X10_227) hvX10_isWord hyX10_isWord rfl ⟨Nat.le_of_ble_eq_true rfl, Nat.le_of_ble_eq_true rfl⟩ ⟨Nat.zero_le _, Nat.zero_le _⟩ rfl (Nat.le_of_ble_eq_true rfl) dX10_readLine_101 m_rec (fun r u9 hp => ?_)
                obtain rfl := hp
                refine GG.topi (y := nI 0) (congrArg bI n3) ?_
                refine g_if_eq_n (tgt := 114) dX10_readLine_104 (by decide) (by decide) (fun _ => ?_) (fun h => absurd h (by decide))
                refine g_aload_n 0 dX10_readLine_114 rfl rfl ?_
                refine g_ldcS st_X10_232 dX10_readLine_115 ?_
                refine m_cVi (ct_isWord p wSay hs hT hR3 hps3 st_X10_232 wd_X10_232) hvX10_isWord hyX10_isWord rfl ⟨Nat.le_of_ble_eq_true rfl, Nat.le_of_ble_eq_true rfl⟩ ⟨Nat.zero_le _, Nat.zero_le _⟩ rfl (Nat.le_of_ble_eq_true rfl) dX10_readLine_117 m_rec (fun r u9 hp => ?_)
                obtain rfl := hp
                refine GG.topi (y := nI 1) (congrArg bI n4) ?_
                refine g_if_eq_n (tgt := 130) dX10_readLine_120 (by decide) (by decide) (fun h => absurd h (by decide)) (fun _ => ?_)
                refine g_aload_n 0 dX10_readLine_123 rfl rfl ?_
                refine m_cVv (ct_readTurn p (tNS T) (tNT T) M hs hT hR3 hps3 hL.2.2.2.2.1.2.2.2.2.2.1 hL.1.2.2.2.2.2.1 (by rw [hR3.2.2.1]; exact isW_K n4) hL.2.2.2.2.1.2.2.2.2.2.2.1 hL.1.2.2.2.2.2.2.1 hL.2.2.2.2.1.2.2.2.2.2.2.2 hL.2.2.2.1 hL.2.2.1) hvX10_readTurn hyX10_readTurn rfl ⟨Nat.le_of_ble_eq_true rfl, Nat.le_of_ble_eq_true rfl⟩ ⟨Nat.zero_le _, Nat.zero_le _⟩ rfl (Nat.le_of_ble_eq_true rfl) dX10_readLine_124 m_rec (fun u hp => ?_)
                obtain ⟨fr6, a6, b6, t6, v6, bd6, bp6⟩ := u
                obtain ⟨hr6, he6⟩ := hp
                obtain ⟨hz6, hR6, hq6⟩ := hr6.isok hq
                have hz6 : bd6 = 0 := hz6
                subst hz6
                dsimp only
                have hps6 : q ≤ size_ := hq6
                obtain ⟨M2, m2, frx, x1, x2, x3, x4, x5, x6, x7, x8⟩ := he6 s f q hq
                have x8 : fr6 = _ := x8
                subst x8
                refine g_goto (tgt := 135) dX10_readLine_127 (by decide) ?_
                refine g_aload_n 0 dX10_readLine_135 rfl rfl ?_
                refine g_bipush (v := nI 59) dX10_readLine_136 (by decide +kernel) ?_
                refine m_cVv (ct_sign q _ hs hT hR6 hps6 (by decide)) hvX10_sign hyX10_sign rfl ⟨Nat.le_of_ble_eq_true rfl, Nat.le_of_ble_eq_true rfl⟩ ⟨Nat.zero_le _, Nat.zero_le _⟩ rfl (Nat.le_of_ble_eq_true rfl) dX10_readLine_138 m_rec (fun u hp => ?_)
                obtain ⟨a7, b7, t7, v7, bd7, bp7⟩ := u
                obtain ⟨hz7, hR7, hq7⟩ := RdR.isok hp (show pSgn _ _ _ = PR.ok () (tkE (tape, size_) q) by unfold pSgn; rw [if_pos w9])
                have hz7 : bd7 = 0 := hz7
                subst hz7
                have hps7 : (tkE (tape, size_) q) ≤ size_ := hq7
                have hb7 : bnd (tape, size_) (tkE (tape, size_) q) := bnd_S w9
                dsimp only
                refine g_aload_n 0 dX10_readLine_141 rfl rfl ?_
                refine m_get_bad dX10_readLine_142 ?_
                refine g_if_ne_n (tgt := 158) dX10_readLine_145 (by decide) (by decide) (fun h => absurd h (by decide)) (fun _ => ?_)
                refine g_aload_n 0 dX10_readLine_148 rfl rfl ?_
                refine m_get_fresh dX10_readLine_149 ?_
                refine g_iconst (v := nI 0) dX10_readLine_152 (by decide +kernel) ?_
                refine g_dup2_11 dX10_readLine_153 rfl rfl ?_
                refine m_ld_fresh dX10_readLine_154 (by omega) ?_
                have hLz := (hL.turn hn20 x1 x2 x3 x4 x5 x6 (by omega) x7).to (z := tkE (tape, size_) q) (by omega) (bnd_S w9)
                refine GG.topi (y := nI (tLines T)) hLz.2.2.2.2.1.1 ?_
                refine g_iconst (v := nI 1) dX10_readLine_155 (by decide +kernel) ?_
                refine g_iadd_n dX10_readLine_156 ?_
                refine m_st_fresh dX10_readLine_157 (by omega) ?_
                exact g_vret (_, _, _, _, _, _, _) dX10_readLine_158 (Nat.le_refl _) (Nat.le_refl _) (by refine ⟨RdR.ok hr hR7 hps7, fun T2 z e => ?_⟩; rw [hr] at e; obtain ⟨e1, e2⟩ := PR.inj e; subst e1; subst e2; exact ⟨_, hLz.line (by have : tLines T ≤ p := hL.2.1; show tLines T + 1 ≤ _; omega) (Nat.le_trans hps7 hs)⟩) (fun _ h => h)
        · skip
          have n3 := hn3x
          rcases hq : pSpk (tape, size_) (tNS T) p with ⟨k, l9⟩ | ⟨⟨k, li, de⟩, q⟩
          · skip
            have hK1 : token = 1 := by rw [hR.2.2.1]; exact isW_K n3
            have hbd0 := pBody_spk n0 n1 n2 n3 hq
            have hr : (pLine (tape, size_) T p) = PR.no k l9 := by unfold pLine; rw [hbd0]; rfl
            refine g_aload_n 0 dX10_readLine_0 rfl rfl ?_
            refine g_ldcS st_X10_220 dX10_readLine_1 ?_
            refine m_cVi (ct_took p wNumbers hs hT hR hps st_X10_220 wd_X10_220) hvX10_took hyX10_took rfl ⟨Nat.le_of_ble_eq_true rfl, Nat.le_of_ble_eq_true rfl⟩ ⟨Nat.zero_le _, Nat.zero_le _⟩ rfl (Nat.le_of_ble_eq_true rfl) dX10_readLine_3 m_rec (fun r u hp => ?_)
            obtain ⟨a1, b1, t1, v1⟩ := u
            obtain ⟨hp, hq1⟩ := hp
            have hR1 : RdP (tape, size_) p a1 b1 t1 v1 := by have h := hq1; unfold opt at h; rw [if_neg (by rw [n0]; decide)] at h; exact h
            obtain rfl := hp
            have hps1 : p ≤ size_ := hps
            have hb1 : bnd (tape, size_) p := hL.2.2.2.1
            refine GG.topi (y := nI 0) (congrArg bI n0) ?_
            refine g_if_eq_n (tgt := 54) dX10_readLine_6 (by decide) (by decide) (fun _ => ?_) (fun h => absurd h (by decide))
            refine g_aload_n 0 dX10_readLine_54 rfl rfl ?_
            refine g_ldcS st_X10_223 dX10_readLine_55 ?_
            refine m_cVi (ct_took p wMost hs hT hR1 hps1 st_X10_223 wd_X10_223) hvX10_took hyX10_took rfl ⟨Nat.le_of_ble_eq_true rfl, Nat.le_of_ble_eq_true rfl⟩ ⟨Nat.zero_le _, Nat.zero_le _⟩ rfl (Nat.le_of_ble_eq_true rfl) dX10_readLine_57 m_rec (fun r u hp => ?_)
            obtain ⟨a2, b2, t2, v2⟩ := u
            obtain ⟨hp, hq2⟩ := hp
            have hR2 : RdP (tape, size_) p a2 b2 t2 v2 := by have h := hq2; unfold opt at h; rw [if_neg (by rw [n1]; decide)] at h; exact h
            obtain rfl := hp
            have hps2 : p ≤ size_ := hps1
            have hb2 : bnd (tape, size_) p := hb1
            refine GG.topi (y := nI 0) (congrArg bI n1) ?_
            refine g_if_eq_n (tgt := 79) dX10_readLine_60 (by decide) (by decide) (fun _ => ?_) (fun h => absurd h (by decide))
            refine g_aload_n 0 dX10_readLine_79 rfl rfl ?_
            refine g_ldcS st_X10_225 dX10_readLine_80 ?_
            refine m_cVi (ct_took p wUnlike hs hT hR2 hps2 st_X10_225 wd_X10_225) hvX10_took hyX10_took rfl ⟨Nat.le_of_ble_eq_true rfl, Nat.le_of_ble_eq_true rfl⟩ ⟨Nat.zero_le _, Nat.zero_le _⟩ rfl (Nat.le_of_ble_eq_true rfl) dX10_readLine_82 m_rec (fun r u hp => ?_)
            obtain ⟨a3, b3, t3, v3⟩ := u
            obtain ⟨hp, hq3⟩ := hp
            have hR3 : RdP (tape, size_) p a3 b3 t3 v3 := by have h := hq3; unfold opt at h; rw [if_neg (by rw [n2]; decide)] at h; exact h
            obtain rfl := hp
            have hps3 : p ≤ size_ := hps2
            have hb3 : bnd (tape, size_) p := hb2
            refine GG.topi (y := nI 0) (congrArg bI n2) ?_
            refine g_if_eq_n (tgt := 98) dX10_readLine_85 (by decide) (by decide) (fun _ => ?_) (fun h => absurd h (by decide))
            refine g_aload_n 0 dX10_readLine_98 rfl rfl ?_
            refine g_ldcS st_X10_227 dX10_readLine_99 ?_
            refine m_cVi (ct_isWord p wSpeaker hs hT hR3 hps3 st_X10_227 wd_X10_227) hvX10_isWord hyX10_isWord rfl ⟨Nat.le_of_ble_eq_true rfl, Nat.le_of_ble_eq_true rfl⟩ ⟨Nat.zero_le _, Nat.zero_le _⟩ rfl (Nat.le_of_ble_eq_true rfl) dX10_readLine_101 m_rec (fun r u9 hp => ?_)
            obtain rfl := hp
            refine GG.topi (y := nI 1) (congrArg bI n3) ?_
            refine g_if_eq_n (tgt := 114) dX10_readLine_104 (by decide) (by decide) (fun h => absurd h (by decide)) (fun _ => ?_)
            refine g_aload_n 0 dX10_readLine_107 rfl rfl ?_
            refine m_cVv (ct_readSpeaker p (tNS T) hs hT hR3 hps3 hL.2.2.2.2.1.2.2.2.2.2.1 hL.1.2.2.2.2.2.1 (by rw [hR3.2.2.1]; exact isW_K n3)) hvX10_readSpeaker hyX10_readSpeaker rfl ⟨Nat.le_of_ble_eq_true rfl, Nat.le_of_ble_eq_true rfl⟩ ⟨Nat.zero_le _, Nat.zero_le _⟩ rfl (Nat.le_of_ble_eq_true rfl) dX10_readLine_108 m_rec (fun u hp => ?_)
            obtain ⟨fr5, a5, b5, t5, v5, bd5, bp5⟩ := u
            obtain ⟨hr5, he5⟩ := hp
            obtain ⟨ht4, hv9, hk5, hl5, hbd⟩ := hr5.isno hq
            have hbd : 0 < bd5 ∧ bd5 < 10 := hbd
            refine g_goto (tgt := 135) dX10_readLine_111 (by decide) ?_
            refine g_aload_n 0 dX10_readLine_135 rfl rfl ?_
            refine g_bipush (v := nI 59) dX10_readLine_136 (by decide +kernel) ?_
            refine m_cVv (ct_sign_bad _ hbd) hvX10_sign hyX10_sign rfl ⟨Nat.le_of_ble_eq_true rfl, Nat.le_of_ble_eq_true rfl⟩ ⟨Nat.zero_le _, Nat.zero_le _⟩ rfl (Nat.le_of_ble_eq_true rfl) dX10_readLine_138 m_rec (fun u9 h9 => ?_)
            refine g_aload_n 0 dX10_readLine_141 rfl rfl ?_
            refine m_get_bad dX10_readLine_142 ?_
            refine g_if_ne_n (tgt := 158) dX10_readLine_145 (by decide) (by omega) (fun c145 => ?_) (fun c145 => ?_)
            · skip
              exact g_vret (_, _, _, _, _, _, _) dX10_readLine_158 (Nat.le_refl _) (Nat.le_refl _) (by exact ⟨RdR.no hr (by first | exact ht4 | exact RdP.t4 (by assumption)) (by first | exact hv9 | exact RdP.v9 (by assumption)) (by first | assumption | exact bad_k (by assumption) (by assumption)) (by first | assumption | exact bad_l (by assumption) (by assumption)) hbd, fun T2 z e => by rw [hr] at e; exact (PR.ne e).elim⟩) (fun _ h => h)
            · skip
              exact absurd c145 (by omega)
          · skip
            have hK1 : token = 1 := by rw [hR.2.2.1]; exact isW_K n3
            obtain ⟨hbd0, hk8, hn66⟩ := pBody_spk2 n0 n1 n2 n3 hq
            have hgo := pBody_go hbd0 hps
            rcases hw9 : isS (tape, size_) 59 q with _ | _
            · skip
              have w9 := hw9
              have hr : (pLine (tape, size_) T p) = pWrong (tape, size_) q := by unfold pLine; rw [hbd0]; show (if isS (tape, size_) 59 q = true then _ else _) = _; rw [if_neg (by rw [w9]; decide)]
              refine g_aload_n 0 dX10_readLine_0 rfl rfl ?_
              refine g_ldcS st_X10_220 dX10_readLine_1 ?_
              refine m_cVi (ct_took p wNumbers hs hT hR hps st_X10_220 wd_X10_220) hvX10_took hyX10_took rfl ⟨Nat.le_of_ble_eq_true rfl, Nat.le_of_ble_eq_true rfl⟩ ⟨Nat.zero_le _, Nat.zero_le _⟩ rfl (Nat.le_of_ble_eq_true rfl) dX10_readLine_3 m_rec (fun r u hp => ?_)
              obtain ⟨a1, b1, t1, v1⟩ := u
              obtain ⟨hp, hq1⟩ := hp
              have hR1 : RdP (tape, size_) p a1 b1 t1 v1 := by have h := hq1; unfold opt at h; rw [if_neg (by rw [n0]; decide)] at h; exact h
              obtain rfl := hp
              have hps1 : p ≤ size_ := hps
              have hb1 : bnd (tape, size_) p := hL.2.2.2.1
              refine GG.topi (y := nI 0) (congrArg bI n0) ?_
              refine g_if_eq_n (tgt := 54) dX10_readLine_6 (by decide) (by decide) (fun _ => ?_) (fun h => absurd h (by decide))
              refine g_aload_n 0 dX10_readLine_54 rfl rfl ?_
              refine g_ldcS st_X10_223 dX10_readLine_55 ?_
              refine m_cVi (ct_took p wMost hs hT hR1 hps1 st_X10_223 wd_X10_223) hvX10_took hyX10_took rfl ⟨Nat.le_of_ble_eq_true rfl, Nat.le_of_ble_eq_true rfl⟩ ⟨Nat.zero_le _, Nat.zero_le _⟩ rfl (Nat.le_of_ble_eq_true rfl) dX10_readLine_57 m_rec (fun r u hp => ?_)
              obtain ⟨a2, b2, t2, v2⟩ := u
              obtain ⟨hp, hq2⟩ := hp
              have hR2 : RdP (tape, size_) p a2 b2 t2 v2 := by have h := hq2; unfold opt at h; rw [if_neg (by rw [n1]; decide)] at h; exact h
              obtain rfl := hp
              have hps2 : p ≤ size_ := hps1
              have hb2 : bnd (tape, size_) p := hb1
              refine GG.topi (y := nI 0) (congrArg bI n1) ?_
              refine g_if_eq_n (tgt := 79) dX10_readLine_60 (by decide) (by decide) (fun _ => ?_) (fun h => absurd h (by decide))
              refine g_aload_n 0 dX10_readLine_79 rfl rfl ?_
              refine g_ldcS st_X10_225 dX10_readLine_80 ?_
              refine m_cVi (ct_took p wUnlike hs hT hR2 hps2 st_X10_225 wd_X10_225) hvX10_took hyX10_took rfl ⟨Nat.le_of_ble_eq_true rfl, Nat.le_of_ble_eq_true rfl⟩ ⟨Nat.zero_le _, Nat.zero_le _⟩ rfl (Nat.le_of_ble_eq_true rfl) dX10_readLine_82 m_rec (fun r u hp => ?_)
              obtain ⟨a3, b3, t3, v3⟩ := u
              obtain ⟨hp, hq3⟩ := hp
              have hR3 : RdP (tape, size_) p a3 b3 t3 v3 := by have h := hq3; unfold opt at h; rw [if_neg (by rw [n2]; decide)] at h; exact h
              obtain rfl := hp
              have hps3 : p ≤ size_ := hps2
              have hb3 : bnd (tape, size_) p := hb2
              refine GG.topi (y := nI 0) (congrArg bI n2) ?_
              refine g_if_eq_n (tgt := 98) dX10_readLine_85 (by decide) (by decide) (fun _ => ?_) (fun h => absurd h (by decide))
              refine g_aload_n 0 dX10_readLine_98 rfl rfl ?_
              refine g_ldcS st_X10_227 dX10_readLine_99 ?_
              refine m_cVi (ct_isWord p wSpeaker hs hT hR3 hps3 st_X10_227 wd_X10_227) hvX10_isWord hyX10_isWord rfl ⟨Nat.le_of_ble_eq_true rfl, Nat.le_of_ble_eq_true rfl⟩ ⟨Nat.zero_le _, Nat.zero_le _⟩ rfl (Nat.le_of_ble_eq_true rfl) dX10_readLine_101 m_rec (fun r u9 hp => ?_)
              obtain rfl := hp
              refine GG.topi (y := nI 1) (congrArg bI n3) ?_
              refine g_if_eq_n (tgt := 114) dX10_readLine_104 (by decide) (by decide) (fun h => absurd h (by decide)) (fun _ => ?_)
              refine g_aload_n 0 dX10_readLine_107 rfl rfl ?_
              refine m_cVv (ct_readSpeaker p (tNS T) hs hT hR3 hps3 hL.2.2.2.2.1.2.2.2.2.2.1 hL.1.2.2.2.2.2.1 (by rw [hR3.2.2.1]; exact isW_K n3)) hvX10_readSpeaker hyX10_readSpeaker rfl ⟨Nat.le_of_ble_eq_true rfl, Nat.le_of_ble_eq_true rfl⟩ ⟨Nat.zero_le _, Nat.zero_le _⟩ rfl (Nat.le_of_ble_eq_true rfl) dX10_readLine_108 m_rec (fun u hp => ?_)
              obtain ⟨fr5, a5, b5, t5, v5, bd5, bp5⟩ := u
              obtain ⟨hr5, he5⟩ := hp
              obtain ⟨hz5, hR5, hq5⟩ := hr5.isok hq
              have hz5 : bd5 = 0 := hz5
              subst hz5
              dsimp only
              have hps5 : q ≤ size_ := hq5
              have hf5 : fr5 = _ := he5 k li de q hq
              subst hf5
              refine g_goto (tgt := 135) dX10_readLine_111 (by decide) ?_
              refine g_aload_n 0 dX10_readLine_135 rfl rfl ?_
              refine g_bipush (v := nI 59) dX10_readLine_136 (by decide +kernel) ?_
              refine m_cVv (ct_sign q _ hs hT hR5 hps5 (by decide)) hvX10_sign hyX10_sign rfl ⟨Nat.le_of_ble_eq_true rfl, Nat.le_of_ble_eq_true rfl⟩ ⟨Nat.zero_le _, Nat.zero_le _⟩ rfl (Nat.le_of_ble_eq_true rfl) dX10_readLine_138 m_rec (fun u hp => ?_)
              obtain ⟨a6, b6, t6, v6, bd6, bp6⟩ := u
              have hr6 := RdR.isno hp (show pSgn _ _ _ = PR.no (if tkK (tape, size_) q = 4 then 1 else 2) (tkB (tape, size_) q) by unfold pSgn; rw [if_neg (by rw [w9]; decide)]; rfl)
              obtain ⟨ht4, hv9, hk6, hl6, hbd⟩ := hr6
              have hbd : 0 < bd6 ∧ bd6 < 10 := hbd
              refine g_aload_n 0 dX10_readLine_141 rfl rfl ?_
              refine m_get_bad dX10_readLine_142 ?_
              refine g_if_ne_n (tgt := 158) dX10_readLine_145 (by decide) (by omega) (fun c145 => ?_) (fun c145 => ?_)
              · skip
                exact g_vret (_, _, _, _, _, _, _) dX10_readLine_158 (Nat.le_refl _) (Nat.le_refl _) (by exact ⟨RdR.no hr (by first | exact ht4 | exact RdP.t4 (by assumption)) (by first | exact hv9 | exact RdP.v9 (by assumption)) (by first | assumption | exact bad_k (by assumption) (by assumption)) (by first | assumption | exact bad_l (by assumption) (by assumption)) hbd, fun T2 z e => by rw [hr] at e; exact (PR.ne e).elim⟩) (fun _ h => h)
              · skip
                exact absurd c145 (by omega)
            · skip
              have w9 := hw9
              have hgz := isS_go w9
              have hr : (pLine (tape, size_) T p) = PR.ok (tLine (tSpk T k li de)) (tkE (tape, size_) q) := by unfold pLine; rw [hbd0]; show (if isS (tape, size_) 59 q = true then _ else _) = _; rw [if_pos w9]
              refine g_aload_n 0 dX10_readLine_0 rfl rfl ?_
              refine g_ldcS st_X10_220 dX10_readLine_1 ?_
              refine m_cVi (ct_took p wNumbers hs hT hR hps st_X10_220 wd_X10_220) hvX10_took hyX10_took rfl ⟨Nat.le_of_ble_eq_true rfl, Nat.le_of_ble_eq_true rfl⟩ ⟨Nat.zero_le _, Nat.zero_le _⟩ rfl (Nat.le_of_ble_eq_true rfl) dX10_readLine_3 m_rec (fun r u hp => ?_)
              obtain ⟨a1, b1, t1, v1⟩ := u
              obtain ⟨hp, hq1⟩ := hp
              have hR1 : RdP (tape, size_) p a1 b1 t1 v1 := by have h := hq1; unfold opt at h; rw [if_neg (by rw [n0]; decide)] at h; exact h
              obtain rfl := hp
              have hps1 : p ≤ size_ := hps
              have hb1 : bnd (tape, size_) p := hL.2.2.2.1
              refine GG.topi (y := nI 0) (congrArg bI n0) ?_
              refine g_if_eq_n (tgt := 54) dX10_readLine_6 (by decide) (by decide) (fun _ => ?_) (fun h => absurd h (by decide))
              refine g_aload_n 0 dX10_readLine_54 rfl rfl ?_
              refine g_ldcS st_X10_223 dX10_readLine_55 ?_
              refine m_cVi (ct_took p wMost hs hT hR1 hps1 st_X10_223 wd_X10_223) hvX10_took hyX10_took rfl ⟨Nat.le_of_ble_eq_true rfl, Nat.le_of_ble_eq_true rfl⟩ ⟨Nat.zero_le _, Nat.zero_le _⟩ rfl (Nat.le_of_ble_eq_true rfl) dX10_readLine_57 m_rec (fun r u hp => ?_)
              obtain ⟨a2, b2, t2, v2⟩ := u
              obtain ⟨hp, hq2⟩ := hp
              have hR2 : RdP (tape, size_) p a2 b2 t2 v2 := by have h := hq2; unfold opt at h; rw [if_neg (by rw [n1]; decide)] at h; exact h
              obtain rfl := hp
              have hps2 : p ≤ size_ := hps1
              have hb2 : bnd (tape, size_) p := hb1
              refine GG.topi (y := nI 0) (congrArg bI n1) ?_
              refine g_if_eq_n (tgt := 79) dX10_readLine_60 (by decide) (by decide) (fun _ => ?_) (fun h => absurd h (by decide))
              refine g_aload_n 0 dX10_readLine_79 rfl rfl ?_
              refine g_ldcS st_X10_225 dX10_readLine_80 ?_
              refine m_cVi (ct_took p wUnlike hs hT hR2 hps2 st_X10_225 wd_X10_225) hvX10_took hyX10_took rfl ⟨Nat.le_of_ble_eq_true rfl, Nat.le_of_ble_eq_true rfl⟩ ⟨Nat.zero_le _, Nat.zero_le _⟩ rfl (Nat.le_of_ble_eq_true rfl) dX10_readLine_82 m_rec (fun r u hp => ?_)
              obtain ⟨a3, b3, t3, v3⟩ := u
              obtain ⟨hp, hq3⟩ := hp
              have hR3 : RdP (tape, size_) p a3 b3 t3 v3 := by have h := hq3; unfold opt at h; rw [if_neg (by rw [n2]; decide)] at h; exact h
              obtain rfl := hp
              have hps3 : p ≤ size_ := hps2
              have hb3 : bnd (tape, size_) p := hb2
              refine GG.topi (y := nI 0) (congrArg bI n2) ?_
              refine g_if_eq_n (tgt := 98) dX10_readLine_85 (by decide) (by decide) (fun _ => ?_) (fun h => absurd h (by decide))
              refine g_aload_n 0 dX10_readLine_98 rfl rfl ?_
              refine g_ldcS st_X10_227 dX10_readLine_99 ?_
              refine m_cVi (ct_isWord p wSpeaker hs hT hR3 hps3 st_X10_227 wd_X10_227) hvX10_isWord hyX10_isWord rfl ⟨Nat.le_of_ble_eq_true rfl, Nat.le_of_ble_eq_true rfl⟩ ⟨Nat.zero_le _, Nat.zero_le _⟩ rfl (Nat.le_of_ble_eq_true rfl) dX10_readLine_101 m_rec (fun r u9 hp => ?_)
              obtain rfl := hp
              refine GG.topi (y := nI 1) (congrArg bI n3) ?_
              refine g_if_eq_n (tgt := 114) dX10_readLine_104 (by decide) (by decide) (fun h => absurd h (by decide)) (fun _ => ?_)
              refine g_aload_n 0 dX10_readLine_107 rfl rfl ?_
              refine m_cVv (ct_readSpeaker p (tNS T) hs hT hR3 hps3 hL.2.2.2.2.1.2.2.2.2.2.1 hL.1.2.2.2.2.2.1 (by rw [hR3.2.2.1]; exact isW_K n3)) hvX10_readSpeaker hyX10_readSpeaker rfl ⟨Nat.le_of_ble_eq_true rfl, Nat.le_of_ble_eq_true rfl⟩ ⟨Nat.zero_le _, Nat.zero_le _⟩ rfl (Nat.le_of_ble_eq_true rfl) dX10_readLine_108 m_rec (fun u hp => ?_)
              obtain ⟨fr5, a5, b5, t5, v5, bd5, bp5⟩ := u
              obtain ⟨hr5, he5⟩ := hp
              obtain ⟨hz5, hR5, hq5⟩ := hr5.isok hq
              have hz5 : bd5 = 0 := hz5
              subst hz5
              dsimp only
              have hps5 : q ≤ size_ := hq5
              have hf5 : fr5 = _ := he5 k li de q hq
              subst hf5
              refine g_goto (tgt := 135) dX10_readLine_111 (by decide) ?_
              refine g_aload_n 0 dX10_readLine_135 rfl rfl ?_
              refine g_bipush (v := nI 59) dX10_readLine_136 (by decide +kernel) ?_
              refine m_cVv (ct_sign q _ hs hT hR5 hps5 (by decide)) hvX10_sign hyX10_sign rfl ⟨Nat.le_of_ble_eq_true rfl, Nat.le_of_ble_eq_true rfl⟩ ⟨Nat.zero_le _, Nat.zero_le _⟩ rfl (Nat.le_of_ble_eq_true rfl) dX10_readLine_138 m_rec (fun u hp => ?_)
              obtain ⟨a6, b6, t6, v6, bd6, bp6⟩ := u
              obtain ⟨hz6, hR6, hq6⟩ := RdR.isok hp (show pSgn _ _ _ = PR.ok () (tkE (tape, size_) q) by unfold pSgn; rw [if_pos w9])
              have hz6 : bd6 = 0 := hz6
              subst hz6
              have hps6 : (tkE (tape, size_) q) ≤ size_ := hq6
              have hb6 : bnd (tape, size_) (tkE (tape, size_) q) := bnd_S w9
              dsimp only
              refine g_aload_n 0 dX10_readLine_141 rfl rfl ?_
              refine m_get_bad dX10_readLine_142 ?_
              refine g_if_ne_n (tgt := 158) dX10_readLine_145 (by decide) (by decide) (fun h => absurd h (by decide)) (fun _ => ?_)
              refine g_aload_n 0 dX10_readLine_148 rfl rfl ?_
              refine m_get_fresh dX10_readLine_149 ?_
              refine g_iconst (v := nI 0) dX10_readLine_152 (by decide +kernel) ?_
              refine g_dup2_11 dX10_readLine_153 rfl rfl ?_
              refine m_ld_fresh dX10_readLine_154 (by omega) ?_
              have hLz := (hL.spk (k := k) (li := li) (de := de) hk8 hn66).to (z := tkE (tape, size_) q) (by omega) (bnd_S w9)
              refine GG.topi (y := nI (tLines T)) hLz.2.2.2.2.1.1 ?_
              refine g_iconst (v := nI 1) dX10_readLine_155 (by decide +kernel) ?_
              refine g_iadd_n dX10_readLine_156 ?_
              refine m_st_fresh dX10_readLine_157 (by omega) ?_
              exact g_vret (_, _, _, _, _, _, _) dX10_readLine_158 (Nat.le_refl _) (Nat.le_refl _) (by refine ⟨RdR.ok hr hR6 hps6, fun T2 z e => ?_⟩; rw [hr] at e; obtain ⟨e1, e2⟩ := PR.inj e; subst e1; subst e2; exact ⟨_, hLz.line (by have : tLines T ≤ p := hL.2.1; show tLines T + 1 ≤ _; omega) (Nat.le_trans hps6 hs)⟩) (fun _ h => h)
      · skip
        have n2 := hn2x
        skip
        · skip
          have hbd0 : pBody (tape, size_) T p = PR.ok (tUnTo T) (tkE (tape, size_) p) := by unfold pBody; rw [if_neg (by rw [n0]; decide), if_neg (by rw [n1]; decide), if_pos n2]
          have hgo := pBody_go hbd0 hps
          rcases hw9 : isS (tape, size_) 59 (tkE (tape, size_) p) with _ | _
          · skip
            have w9 := hw9
            have hr : (pLine (tape, size_) T p) = pWrong (tape, size_) (tkE (tape, size_) p) := by unfold pLine; rw [hbd0]; show (if isS (tape, size_) 59 (tkE (tape, size_) p) = true then _ else _) = _; rw [if_neg (by rw [w9]; decide)]
            refine g_aload_n 0 dX10_readLine_0 rfl rfl ?_
            refine g_ldcS st_X10_220 dX10_readLine_1 ?_
            refine m_cVi (ct_took p wNumbers hs hT hR hps st_X10_220 wd_X10_220) hvX10_took hyX10_took rfl ⟨Nat.le_of_ble_eq_true rfl, Nat.le_of_ble_eq_true rfl⟩ ⟨Nat.zero_le _, Nat.zero_le _⟩ rfl (Nat.le_of_ble_eq_true rfl) dX10_readLine_3 m_rec (fun r u hp => ?_)
            obtain ⟨a1, b1, t1, v1⟩ := u
            obtain ⟨hp, hq1⟩ := hp
            have hR1 : RdP (tape, size_) p a1 b1 t1 v1 := by have h := hq1; unfold opt at h; rw [if_neg (by rw [n0]; decide)] at h; exact h
            obtain rfl := hp
            have hps1 : p ≤ size_ := hps
            have hb1 : bnd (tape, size_) p := hL.2.2.2.1
            refine GG.topi (y := nI 0) (congrArg bI n0) ?_
            refine g_if_eq_n (tgt := 54) dX10_readLine_6 (by decide) (by decide) (fun _ => ?_) (fun h => absurd h (by decide))
            refine g_aload_n 0 dX10_readLine_54 rfl rfl ?_
            refine g_ldcS st_X10_223 dX10_readLine_55 ?_
            refine m_cVi (ct_took p wMost hs hT hR1 hps1 st_X10_223 wd_X10_223) hvX10_took hyX10_took rfl ⟨Nat.le_of_ble_eq_true rfl, Nat.le_of_ble_eq_true rfl⟩ ⟨Nat.zero_le _, Nat.zero_le _⟩ rfl (Nat.le_of_ble_eq_true rfl) dX10_readLine_57 m_rec (fun r u hp => ?_)
            obtain ⟨a2, b2, t2, v2⟩ := u
            obtain ⟨hp, hq2⟩ := hp
            have hR2 : RdP (tape, size_) p a2 b2 t2 v2 := by have h := hq2; unfold opt at h; rw [if_neg (by rw [n1]; decide)] at h; exact h
            obtain rfl := hp
            have hps2 : p ≤ size_ := hps1
            have hb2 : bnd (tape, size_) p := hb1
            refine GG.topi (y := nI 0) (congrArg bI n1) ?_
            refine g_if_eq_n (tgt := 79) dX10_readLine_60 (by decide) (by decide) (fun _ => ?_) (fun h => absurd h (by decide))
            refine g_aload_n 0 dX10_readLine_79 rfl rfl ?_
            refine g_ldcS st_X10_225 dX10_readLine_80 ?_
            refine m_cVi (ct_took p wUnlike hs hT hR2 hps2 st_X10_225 wd_X10_225) hvX10_took hyX10_took rfl ⟨Nat.le_of_ble_eq_true rfl, Nat.le_of_ble_eq_true rfl⟩ ⟨Nat.zero_le _, Nat.zero_le _⟩ rfl (Nat.le_of_ble_eq_true rfl) dX10_readLine_82 m_rec (fun r u hp => ?_)
            obtain ⟨a3, b3, t3, v3⟩ := u
            obtain ⟨hp, hq3⟩ := hp
            have hR3 : RdP (tape, size_) (tkE (tape, size_) p) a3 b3 t3 v3 := by have h := hq3; unfold opt at h; rw [if_pos n2] at h; exact h
            obtain rfl := hp
            have hps3 : (tkE (tape, size_) p) ≤ size_ := tkE_le (X := (tape, size_)) hps2
            have hb3 : bnd (tape, size_) (tkE (tape, size_) p) := bnd_W n2
            refine GG.topi (y := nI 1) (congrArg bI n2) ?_
            refine g_if_eq_n (tgt := 98) dX10_readLine_85 (by decide) (by decide) (fun h => absurd h (by decide)) (fun _ => ?_)
            refine g_aload_n 0 dX10_readLine_88 rfl rfl ?_
            refine m_get_fresh dX10_readLine_89 ?_
            refine g_iconst (v := nI 4) dX10_readLine_92 (by decide +kernel) ?_
            refine g_iconst (v := nI 1) dX10_readLine_93 (by decide +kernel) ?_
            refine m_st_fresh dX10_readLine_94 (by omega) ?_
            refine g_goto (tgt := 135) dX10_readLine_95 (by decide) ?_
            refine g_aload_n 0 dX10_readLine_135 rfl rfl ?_
            refine g_bipush (v := nI 59) dX10_readLine_136 (by decide +kernel) ?_
            refine m_cVv (ct_sign (tkE (tape, size_) p) _ hs hT hR3 hps3 (by decide)) hvX10_sign hyX10_sign rfl ⟨Nat.le_of_ble_eq_true rfl, Nat.le_of_ble_eq_true rfl⟩ ⟨Nat.zero_le _, Nat.zero_le _⟩ rfl (Nat.le_of_ble_eq_true rfl) dX10_readLine_138 m_rec (fun u hp => ?_)
            obtain ⟨a4, b4, t4, v4, bd4, bp4⟩ := u
            have hr4 := RdR.isno hp (show pSgn _ _ _ = PR.no (if tkK (tape, size_) (tkE (tape, size_) p) = 4 then 1 else 2) (tkB (tape, size_) (tkE (tape, size_) p)) by unfold pSgn; rw [if_neg (by rw [w9]; decide)]; rfl)
            obtain ⟨ht4, hv9, hk4, hl4, hbd⟩ := hr4
            have hbd : 0 < bd4 ∧ bd4 < 10 := hbd
            refine g_aload_n 0 dX10_readLine_141 rfl rfl ?_
            refine m_get_bad dX10_readLine_142 ?_
            refine g_if_ne_n (tgt := 158) dX10_readLine_145 (by decide) (by omega) (fun c145 => ?_) (fun c145 => ?_)
            · skip
              exact g_vret (_, _, _, _, _, _, _) dX10_readLine_158 (Nat.le_refl _) (Nat.le_refl _) (by exact ⟨RdR.no hr (by first | exact ht4 | exact RdP.t4 (by assumption)) (by first | exact hv9 | exact RdP.v9 (by assumption)) (by first | assumption | exact bad_k (by assumption) (by assumption)) (by first | assumption | exact bad_l (by assumption) (by assumption)) hbd, fun T2 z e => by rw [hr] at e; exact (PR.ne e).elim⟩) (fun _ h => h)
            · skip
              exact absurd c145 (by omega)
          · skip
            have w9 := hw9
            have hgz := isS_go w9
            have hr : (pLine (tape, size_) T p) = PR.ok (tLine (tUnTo T)) (tkE (tape, size_) (tkE (tape, size_) p)) := by unfold pLine; rw [hbd0]; show (if isS (tape, size_) 59 (tkE (tape, size_) p) = true then _ else _) = _; rw [if_pos w9]
            refine g_aload_n 0 dX10_readLine_0 rfl rfl ?_
            refine g_ldcS st_X10_220 dX10_readLine_1 ?_
            refine m_cVi (ct_took p wNumbers hs hT hR hps st_X10_220 wd_X10_220) hvX10_took hyX10_took rfl ⟨Nat.le_of_ble_eq_true rfl, Nat.le_of_ble_eq_true rfl⟩ ⟨Nat.zero_le _, Nat.zero_le _⟩ rfl (Nat.le_of_ble_eq_true rfl) dX10_readLine_3 m_rec (fun r u hp => ?_)
            obtain ⟨a1, b1, t1, v1⟩ := u
            obtain ⟨hp, hq1⟩ := hp
            have hR1 : RdP (tape, size_) p a1 b1 t1 v1 := by have h := hq1; unfold opt at h; rw [if_neg (by rw [n0]; decide)] at h; exact h
            obtain rfl := hp
            have hps1 : p ≤ size_ := hps
            have hb1 : bnd (tape, size_) p := hL.2.2.2.1
            refine GG.topi (y := nI 0) (congrArg bI n0) ?_
            refine g_if_eq_n (tgt := 54) dX10_readLine_6 (by decide) (by decide) (fun _ => ?_) (fun h => absurd h (by decide))
            refine g_aload_n 0 dX10_readLine_54 rfl rfl ?_
            refine g_ldcS st_X10_223 dX10_readLine_55 ?_
            refine m_cVi (ct_took p wMost hs hT hR1 hps1 st_X10_223 wd_X10_223) hvX10_took hyX10_took rfl ⟨Nat.le_of_ble_eq_true rfl, Nat.le_of_ble_eq_true rfl⟩ ⟨Nat.zero_le _, Nat.zero_le _⟩ rfl (Nat.le_of_ble_eq_true rfl) dX10_readLine_57 m_rec (fun r u hp => ?_)
            obtain ⟨a2, b2, t2, v2⟩ := u
            obtain ⟨hp, hq2⟩ := hp
            have hR2 : RdP (tape, size_) p a2 b2 t2 v2 := by have h := hq2; unfold opt at h; rw [if_neg (by rw [n1]; decide)] at h; exact h
            obtain rfl := hp
            have hps2 : p ≤ size_ := hps1
            have hb2 : bnd (tape, size_) p := hb1
            refine GG.topi (y := nI 0) (congrArg bI n1) ?_
            refine g_if_eq_n (tgt := 79) dX10_readLine_60 (by decide) (by decide) (fun _ => ?_) (fun h => absurd h (by decide))
            refine g_aload_n 0 dX10_readLine_79 rfl rfl ?_
            refine g_ldcS st_X10_225 dX10_readLine_80 ?_
            refine m_cVi (ct_took p wUnlike hs hT hR2 hps2 st_X10_225 wd_X10_225) hvX10_took hyX10_took rfl ⟨Nat.le_of_ble_eq_true rfl, Nat.le_of_ble_eq_true rfl⟩ ⟨Nat.zero_le _, Nat.zero_le _⟩ rfl (Nat.le_of_ble_eq_true rfl) dX10_readLine_82 m_rec (fun r u hp => ?_)
            obtain ⟨a3, b3, t3, v3⟩ := u
            obtain ⟨hp, hq3⟩ := hp
            have hR3 : RdP (tape, size_) (tkE (tape, size_) p) a3 b3 t3 v3 := by have h := hq3; unfold opt at h; rw [if_pos n2] at h; exact h
            obtain rfl := hp
            have hps3 : (tkE (tape, size_) p) ≤ size_ := tkE_le (X := (tape, size_)) hps2
            have hb3 : bnd (tape, size_) (tkE (tape, size_) p) := bnd_W n2
            refine GG.topi (y := nI 1) (congrArg bI n2) ?_
            refine g_if_eq_n (tgt := 98) dX10_readLine_85 (by decide) (by decide) (fun h => absurd h (by decide)) (fun _ => ?_)
            refine g_aload_n 0 dX10_readLine_88 rfl rfl ?_
            refine m_get_fresh dX10_readLine_89 ?_
            refine g_iconst (v := nI 4) dX10_readLine_92 (by decide +kernel) ?_
            refine g_iconst (v := nI 1) dX10_readLine_93 (by decide +kernel) ?_
            refine m_st_fresh dX10_readLine_94 (by omega) ?_
            refine g_goto (tgt := 135) dX10_readLine_95 (by decide) ?_
            refine g_aload_n 0 dX10_readLine_135 rfl rfl ?_
            refine g_bipush (v := nI 59) dX10_readLine_136 (by decide +kernel) ?_
            refine m_cVv (ct_sign (tkE (tape, size_) p) _ hs hT hR3 hps3 (by decide)) hvX10_sign hyX10_sign rfl ⟨Nat.le_of_ble_eq_true rfl, Nat.le_of_ble_eq_true rfl⟩ ⟨Nat.zero_le _, Nat.zero_le _⟩ rfl (Nat.le_of_ble_eq_true rfl) dX10_readLine_138 m_rec (fun u hp => ?_)
            obtain ⟨a4, b4, t4, v4, bd4, bp4⟩ := u
            obtain ⟨hz4, hR4, hq4⟩ := RdR.isok hp (show pSgn _ _ _ = PR.ok () (tkE (tape, size_) (tkE (tape, size_) p)) by unfold pSgn; rw [if_pos w9])
            have hz4 : bd4 = 0 := hz4
            subst hz4
            have hps4 : (tkE (tape, size_) (tkE (tape, size_) p)) ≤ size_ := hq4
            have hb4 : bnd (tape, size_) (tkE (tape, size_) (tkE (tape, size_) p)) := bnd_S w9
            dsimp only
            refine g_aload_n 0 dX10_readLine_141 rfl rfl ?_
            refine m_get_bad dX10_readLine_142 ?_
            refine g_if_ne_n (tgt := 158) dX10_readLine_145 (by decide) (by decide) (fun h => absurd h (by decide)) (fun _ => ?_)
            refine g_aload_n 0 dX10_readLine_148 rfl rfl ?_
            refine m_get_fresh dX10_readLine_149 ?_
            refine g_iconst (v := nI 0) dX10_readLine_152 (by decide +kernel) ?_
            refine g_dup2_11 dX10_readLine_153 rfl rfl ?_
            refine m_ld_fresh dX10_readLine_154 (by omega) ?_
            have hLz := hL.un.to (z := tkE (tape, size_) (tkE (tape, size_) p)) (by omega) (bnd_S w9)
            refine GG.topi (y := nI (tLines T)) hLz.2.2.2.2.1.1 ?_
            refine g_iconst (v := nI 1) dX10_readLine_155 (by decide +kernel) ?_
            refine g_iadd_n dX10_readLine_156 ?_
            refine m_st_fresh dX10_readLine_157 (by omega) ?_
            exact g_vret (_, _, _, _, _, _, _) dX10_readLine_158 (Nat.le_refl _) (Nat.le_refl _) (by refine ⟨RdR.ok hr hR4 hps4, fun T2 z e => ?_⟩; rw [hr] at e; obtain ⟨e1, e2⟩ := PR.inj e; subst e1; subst e2; exact ⟨_, hLz.line (by have : tLines T ≤ p := hL.2.1; show tLines T + 1 ≤ _; omega) (Nat.le_trans hps4 hs)⟩) (fun _ h => h)
    · skip
      have n1 := hn1x
      rcases hq : pNum (tape, size_) 2 121 (tkE (tape, size_) p) with ⟨k, l9⟩ | ⟨v9, q⟩
      · skip
        have hbd0 : pBody (tape, size_) T p = PR.no k l9 := by unfold pBody; rw [if_neg (by rw [n0]; decide), if_pos n1, hq]; rfl
        have hr : (pLine (tape, size_) T p) = PR.no k l9 := by unfold pLine; rw [hbd0]; rfl
        refine g_aload_n 0 dX10_readLine_0 rfl rfl ?_
        refine g_ldcS st_X10_220 dX10_readLine_1 ?_
        refine m_cVi (ct_took p wNumbers hs hT hR hps st_X10_220 wd_X10_220) hvX10_took hyX10_took rfl ⟨Nat.le_of_ble_eq_true rfl, Nat.le_of_ble_eq_true rfl⟩ ⟨Nat.zero_le _, Nat.zero_le _⟩ rfl (Nat.le_of_ble_eq_true rfl) dX10_readLine_3 m_rec (fun r u hp => ?_)
        obtain ⟨a1, b1, t1, v1⟩ := u
        obtain ⟨hp, hq1⟩ := hp
        have hR1 : RdP (tape, size_) p a1 b1 t1 v1 := by have h := hq1; unfold opt at h; rw [if_neg (by rw [n0]; decide)] at h; exact h
        obtain rfl := hp
        have hps1 : p ≤ size_ := hps
        have hb1 : bnd (tape, size_) p := hL.2.2.2.1
        refine GG.topi (y := nI 0) (congrArg bI n0) ?_
        refine g_if_eq_n (tgt := 54) dX10_readLine_6 (by decide) (by decide) (fun _ => ?_) (fun h => absurd h (by decide))
        refine g_aload_n 0 dX10_readLine_54 rfl rfl ?_
        refine g_ldcS st_X10_223 dX10_readLine_55 ?_
        refine m_cVi (ct_took p wMost hs hT hR1 hps1 st_X10_223 wd_X10_223) hvX10_took hyX10_took rfl ⟨Nat.le_of_ble_eq_true rfl, Nat.le_of_ble_eq_true rfl⟩ ⟨Nat.zero_le _, Nat.zero_le _⟩ rfl (Nat.le_of_ble_eq_true rfl) dX10_readLine_57 m_rec (fun r u hp => ?_)
        obtain ⟨a2, b2, t2, v2⟩ := u
        obtain ⟨hp, hq2⟩ := hp
        have hR2 : RdP (tape, size_) (tkE (tape, size_) p) a2 b2 t2 v2 := by have h := hq2; unfold opt at h; rw [if_pos n1] at h; exact h
        obtain rfl := hp
        have hps2 : (tkE (tape, size_) p) ≤ size_ := tkE_le (X := (tape, size_)) hps1
        have hb2 : bnd (tape, size_) (tkE (tape, size_) p) := bnd_W n1
        refine GG.topi (y := nI 1) (congrArg bI n1) ?_
        refine g_if_eq_n (tgt := 79) dX10_readLine_60 (by decide) (by decide) (fun h => absurd h (by decide)) (fun _ => ?_)
        refine g_aload_n 0 dX10_readLine_63 rfl rfl ?_
        refine m_get_fresh dX10_readLine_64 ?_
        refine g_iconst (v := nI 3) dX10_readLine_67 (by decide +kernel) ?_
        refine g_aload_n 0 dX10_readLine_68 rfl rfl ?_
        refine g_iconst (v := nI 2) dX10_readLine_69 (by decide +kernel) ?_
        refine g_bipush (v := nI 120) dX10_readLine_70 (by decide +kernel) ?_
        refine m_cVi (ct_number (tkE (tape, size_) p) 2 121 _ hs hT hR2 hps2 (by decide +kernel) (by first | decide | omega) (by decide)) hvX10_number hyX10_number rfl ⟨Nat.le_of_ble_eq_true rfl, Nat.le_of_ble_eq_true rfl⟩ ⟨Nat.zero_le _, Nat.zero_le _⟩ rfl (Nat.le_of_ble_eq_true rfl) dX10_readLine_72 m_rec (fun r u hp => ?_)
        obtain ⟨a3, b3, t3, v3, bd3, bp3⟩ := u
        obtain ⟨hr3, hv3, hw3⟩ := hp
        obtain ⟨ht4, hv9, hk3, hl3, hbd⟩ := hr3.isno hq
        refine GG.topi (hw3 (by show ¬ bd3 = 0; have : 0 < bd3 := hbd.1; omega)) ?_
        have hbd : 0 < bd3 ∧ bd3 < 10 := hbd
        refine m_st_fresh dX10_readLine_75 (by omega) ?_
        refine g_goto (tgt := 135) dX10_readLine_76 (by decide) ?_
        refine g_aload_n 0 dX10_readLine_135 rfl rfl ?_
        refine g_bipush (v := nI 59) dX10_readLine_136 (by decide +kernel) ?_
        refine m_cVv (ct_sign_bad _ hbd) hvX10_sign hyX10_sign rfl ⟨Nat.le_of_ble_eq_true rfl, Nat.le_of_ble_eq_true rfl⟩ ⟨Nat.zero_le _, Nat.zero_le _⟩ rfl (Nat.le_of_ble_eq_true rfl) dX10_readLine_138 m_rec (fun u9 h9 => ?_)
        refine g_aload_n 0 dX10_readLine_141 rfl rfl ?_
        refine m_get_bad dX10_readLine_142 ?_
        refine g_if_ne_n (tgt := 158) dX10_readLine_145 (by decide) (by omega) (fun c145 => ?_) (fun c145 => ?_)
        · skip
          exact g_vret (_, _, _, _, _, _, _) dX10_readLine_158 (Nat.le_refl _) (Nat.le_refl _) (by exact ⟨RdR.no hr (by first | exact ht4 | exact RdP.t4 (by assumption)) (by first | exact hv9 | exact RdP.v9 (by assumption)) (by first | assumption | exact bad_k (by assumption) (by assumption)) (by first | assumption | exact bad_l (by assumption) (by assumption)) hbd, fun T2 z e => by rw [hr] at e; exact (PR.ne e).elim⟩) (fun _ h => h)
        · skip
          exact absurd c145 (by omega)
      · skip
        have hlo := pNum_ok hq
        have hbd0 : pBody (tape, size_) T p = PR.ok (tMostTo T v9) q := by unfold pBody; rw [if_neg (by rw [n0]; decide), if_pos n1, hq]; rfl
        have hgo := pBody_go hbd0 hps
        rcases hw9 : isS (tape, size_) 59 q with _ | _
        · skip
          have w9 := hw9
          have hr : (pLine (tape, size_) T p) = pWrong (tape, size_) q := by unfold pLine; rw [hbd0]; show (if isS (tape, size_) 59 q = true then _ else _) = _; rw [if_neg (by rw [w9]; decide)]
          refine g_aload_n 0 dX10_readLine_0 rfl rfl ?_
          refine g_ldcS st_X10_220 dX10_readLine_1 ?_
          refine m_cVi (ct_took p wNumbers hs hT hR hps st_X10_220 wd_X10_220) hvX10_took hyX10_took rfl ⟨Nat.le_of_ble_eq_true rfl, Nat.le_of_ble_eq_true rfl⟩ ⟨Nat.zero_le _, Nat.zero_le _⟩ rfl (Nat.le_of_ble_eq_true rfl) dX10_readLine_3 m_rec (fun r u hp => ?_)
          obtain ⟨a1, b1, t1, v1⟩ := u
          obtain ⟨hp, hq1⟩ := hp
          have hR1 : RdP (tape, size_) p a1 b1 t1 v1 := by have h := hq1; unfold opt at h; rw [if_neg (by rw [n0]; decide)] at h; exact h
          obtain rfl := hp
          have hps1 : p ≤ size_ := hps
          have hb1 : bnd (tape, size_) p := hL.2.2.2.1
          refine GG.topi (y := nI 0) (congrArg bI n0) ?_
          refine g_if_eq_n (tgt := 54) dX10_readLine_6 (by decide) (by decide) (fun _ => ?_) (fun h => absurd h (by decide))
          refine g_aload_n 0 dX10_readLine_54 rfl rfl ?_
          refine g_ldcS st_X10_223 dX10_readLine_55 ?_
          refine m_cVi (ct_took p wMost hs hT hR1 hps1 st_X10_223 wd_X10_223) hvX10_took hyX10_took rfl ⟨Nat.le_of_ble_eq_true rfl, Nat.le_of_ble_eq_true rfl⟩ ⟨Nat.zero_le _, Nat.zero_le _⟩ rfl (Nat.le_of_ble_eq_true rfl) dX10_readLine_57 m_rec (fun r u hp => ?_)
          obtain ⟨a2, b2, t2, v2⟩ := u
          obtain ⟨hp, hq2⟩ := hp
          have hR2 : RdP (tape, size_) (tkE (tape, size_) p) a2 b2 t2 v2 := by have h := hq2; unfold opt at h; rw [if_pos n1] at h; exact h
          obtain rfl := hp
          have hps2 : (tkE (tape, size_) p) ≤ size_ := tkE_le (X := (tape, size_)) hps1
          have hb2 : bnd (tape, size_) (tkE (tape, size_) p) := bnd_W n1
          refine GG.topi (y := nI 1) (congrArg bI n1) ?_
          refine g_if_eq_n (tgt := 79) dX10_readLine_60 (by decide) (by decide) (fun h => absurd h (by decide)) (fun _ => ?_)
          refine g_aload_n 0 dX10_readLine_63 rfl rfl ?_
          refine m_get_fresh dX10_readLine_64 ?_
          refine g_iconst (v := nI 3) dX10_readLine_67 (by decide +kernel) ?_
          refine g_aload_n 0 dX10_readLine_68 rfl rfl ?_
          refine g_iconst (v := nI 2) dX10_readLine_69 (by decide +kernel) ?_
          refine g_bipush (v := nI 120) dX10_readLine_70 (by decide +kernel) ?_
          refine m_cVi (ct_number (tkE (tape, size_) p) 2 121 _ hs hT hR2 hps2 (by decide +kernel) (by first | decide | omega) (by decide)) hvX10_number hyX10_number rfl ⟨Nat.le_of_ble_eq_true rfl, Nat.le_of_ble_eq_true rfl⟩ ⟨Nat.zero_le _, Nat.zero_le _⟩ rfl (Nat.le_of_ble_eq_true rfl) dX10_readLine_72 m_rec (fun r u hp => ?_)
          obtain ⟨a3, b3, t3, v3, bd3, bp3⟩ := u
          obtain ⟨hr3, hv3, hw3⟩ := hp
          obtain ⟨hz3, hR3, hq3⟩ := hr3.isok hq
          have hz3 : bd3 = 0 := hz3
          subst hz3
          have hps3 : q ≤ size_ := hq3
          have hb3 : bnd (tape, size_) q := (pNum_phi hq).1
          refine GG.topi (hv3 v9 q hq) ?_
          refine m_st_fresh dX10_readLine_75 (by omega) ?_
          refine g_goto (tgt := 135) dX10_readLine_76 (by decide) ?_
          refine g_aload_n 0 dX10_readLine_135 rfl rfl ?_
          refine g_bipush (v := nI 59) dX10_readLine_136 (by decide +kernel) ?_
          refine m_cVv (ct_sign q _ hs hT hR3 hps3 (by decide)) hvX10_sign hyX10_sign rfl ⟨Nat.le_of_ble_eq_true rfl, Nat.le_of_ble_eq_true rfl⟩ ⟨Nat.zero_le _, Nat.zero_le _⟩ rfl (Nat.le_of_ble_eq_true rfl) dX10_readLine_138 m_rec (fun u hp => ?_)
          obtain ⟨a4, b4, t4, v4, bd4, bp4⟩ := u
          have hr4 := RdR.isno hp (show pSgn _ _ _ = PR.no (if tkK (tape, size_) q = 4 then 1 else 2) (tkB (tape, size_) q) by unfold pSgn; rw [if_neg (by rw [w9]; decide)]; rfl)
          obtain ⟨ht4, hv9, hk4, hl4, hbd⟩ := hr4
          have hbd : 0 < bd4 ∧ bd4 < 10 := hbd
          refine g_aload_n 0 dX10_readLine_141 rfl rfl ?_
          refine m_get_bad dX10_readLine_142 ?_
          refine g_if_ne_n (tgt := 158) dX10_readLine_145 (by decide) (by omega) (fun c145 => ?_) (fun c145 => ?_)
          · skip
            exact g_vret (_, _, _, _, _, _, _) dX10_readLine_158 (Nat.le_refl _) (Nat.le_refl _) (by exact ⟨RdR.no hr (by first | exact ht4 | exact RdP.t4 (by assumption)) (by first | exact hv9 | exact RdP.v9 (by assumption)) (by first | assumption | exact bad_k (by assumption) (by assumption)) (by first | assumption | exact bad_l (by assumption) (by assumption)) hbd, fun T2 z e => by rw [hr] at e; exact (PR.ne e).elim⟩) (fun _ h => h)
          · skip
            exact absurd c145 (by omega)
        · skip
          have w9 := hw9
          have hgz := isS_go w9
          have hr : (pLine (tape, size_) T p) = PR.ok (tLine (tMostTo T v9)) (tkE (tape, size_) q) := by unfold pLine; rw [hbd0]; show (if isS (tape, size_) 59 q = true then _ else _) = _; rw [if_pos w9]
          refine g_aload_n 0 dX10_readLine_0 rfl rfl ?_
          refine g_ldcS st_X10_220 dX10_readLine_1 ?_
          refine m_cVi (ct_took p wNumbers hs hT hR hps st_X10_220 wd_X10_220) hvX10_took hyX10_took rfl ⟨Nat.le_of_ble_eq_true rfl, Nat.le_of_ble_eq_true rfl⟩ ⟨Nat.zero_le _, Nat.zero_le _⟩ rfl (Nat.le_of_ble_eq_true rfl) dX10_readLine_3 m_rec (fun r u hp => ?_)
          obtain ⟨a1, b1, t1, v1⟩ := u
          obtain ⟨hp, hq1⟩ := hp
          have hR1 : RdP (tape, size_) p a1 b1 t1 v1 := by have h := hq1; unfold opt at h; rw [if_neg (by rw [n0]; decide)] at h; exact h
          obtain rfl := hp
          have hps1 : p ≤ size_ := hps
          have hb1 : bnd (tape, size_) p := hL.2.2.2.1
          refine GG.topi (y := nI 0) (congrArg bI n0) ?_
          refine g_if_eq_n (tgt := 54) dX10_readLine_6 (by decide) (by decide) (fun _ => ?_) (fun h => absurd h (by decide))
          refine g_aload_n 0 dX10_readLine_54 rfl rfl ?_
          refine g_ldcS st_X10_223 dX10_readLine_55 ?_
          refine m_cVi (ct_took p wMost hs hT hR1 hps1 st_X10_223 wd_X10_223) hvX10_took hyX10_took rfl ⟨Nat.le_of_ble_eq_true rfl, Nat.le_of_ble_eq_true rfl⟩ ⟨Nat.zero_le _, Nat.zero_le _⟩ rfl (Nat.le_of_ble_eq_true rfl) dX10_readLine_57 m_rec (fun r u hp => ?_)
          obtain ⟨a2, b2, t2, v2⟩ := u
          obtain ⟨hp, hq2⟩ := hp
          have hR2 : RdP (tape, size_) (tkE (tape, size_) p) a2 b2 t2 v2 := by have h := hq2; unfold opt at h; rw [if_pos n1] at h; exact h
          obtain rfl := hp
          have hps2 : (tkE (tape, size_) p) ≤ size_ := tkE_le (X := (tape, size_)) hps1
          have hb2 : bnd (tape, size_) (tkE (tape, size_) p) := bnd_W n1
          refine GG.topi (y := nI 1) (congrArg bI n1) ?_
          refine g_if_eq_n (tgt := 79) dX10_readLine_60 (by decide) (by decide) (fun h => absurd h (by decide)) (fun _ => ?_)
          refine g_aload_n 0 dX10_readLine_63 rfl rfl ?_
          refine m_get_fresh dX10_readLine_64 ?_
          refine g_iconst (v := nI 3) dX10_readLine_67 (by decide +kernel) ?_
          refine g_aload_n 0 dX10_readLine_68 rfl rfl ?_
          refine g_iconst (v := nI 2) dX10_readLine_69 (by decide +kernel) ?_
          refine g_bipush (v := nI 120) dX10_readLine_70 (by decide +kernel) ?_
          refine m_cVi (ct_number (tkE (tape, size_) p) 2 121 _ hs hT hR2 hps2 (by decide +kernel) (by first | decide | omega) (by decide)) hvX10_number hyX10_number rfl ⟨Nat.le_of_ble_eq_true rfl, Nat.le_of_ble_eq_true rfl⟩ ⟨Nat.zero_le _, Nat.zero_le _⟩ rfl (Nat.le_of_ble_eq_true rfl) dX10_readLine_72 m_rec (fun r u hp => ?_)
          obtain ⟨a3, b3, t3, v3, bd3, bp3⟩ := u
          obtain ⟨hr3, hv3, hw3⟩ := hp
          obtain ⟨hz3, hR3, hq3⟩ := hr3.isok hq
          have hz3 : bd3 = 0 := hz3
          subst hz3
          have hps3 : q ≤ size_ := hq3
          have hb3 : bnd (tape, size_) q := (pNum_phi hq).1
          refine GG.topi (hv3 v9 q hq) ?_
          refine m_st_fresh dX10_readLine_75 (by omega) ?_
          refine g_goto (tgt := 135) dX10_readLine_76 (by decide) ?_
          refine g_aload_n 0 dX10_readLine_135 rfl rfl ?_
          refine g_bipush (v := nI 59) dX10_readLine_136 (by decide +kernel) ?_
          refine m_cVv (ct_sign q _ hs hT hR3 hps3 (by decide)) hvX10_sign hyX10_sign rfl ⟨Nat.le_of_ble_eq_true rfl, Nat.le_of_ble_eq_true rfl⟩ ⟨Nat.zero_le _, Nat.zero_le _⟩ rfl (Nat.le_of_ble_eq_true rfl) dX10_readLine_138 m_rec (fun u hp => ?_)
          obtain ⟨a4, b4, t4, v4, bd4, bp4⟩ := u
          obtain ⟨hz4, hR4, hq4⟩ := RdR.isok hp (show pSgn _ _ _ = PR.ok () (tkE (tape, size_) q) by unfold pSgn; rw [if_pos w9])
          have hz4 : bd4 = 0 := hz4
          subst hz4
          have hps4 : (tkE (tape, size_) q) ≤ size_ := hq4
          have hb4 : bnd (tape, size_) (tkE (tape, size_) q) := bnd_S w9
          dsimp only
          refine g_aload_n 0 dX10_readLine_141 rfl rfl ?_
          refine m_get_bad dX10_readLine_142 ?_
          refine g_if_ne_n (tgt := 158) dX10_readLine_145 (by decide) (by decide) (fun h => absurd h (by decide)) (fun _ => ?_)
          refine g_aload_n 0 dX10_readLine_148 rfl rfl ?_
          refine m_get_fresh dX10_readLine_149 ?_
          refine g_iconst (v := nI 0) dX10_readLine_152 (by decide +kernel) ?_
          refine g_dup2_11 dX10_readLine_153 rfl rfl ?_
          refine m_ld_fresh dX10_readLine_154 (by omega) ?_
          have hLz := (hL.most (v := v9) (by omega)).to (z := tkE (tape, size_) q) (by omega) (bnd_S w9)
          refine GG.topi (y := nI (tLines T)) hLz.2.2.2.2.1.1 ?_
          refine g_iconst (v := nI 1) dX10_readLine_155 (by decide +kernel) ?_
          refine g_iadd_n dX10_readLine_156 ?_
          refine m_st_fresh dX10_readLine_157 (by omega) ?_
          exact g_vret (_, _, _, _, _, _, _) dX10_readLine_158 (Nat.le_refl _) (Nat.le_refl _) (by refine ⟨RdR.ok hr hR4 hps4, fun T2 z e => ?_⟩; rw [hr] at e; obtain ⟨e1, e2⟩ := PR.inj e; subst e1; subst e2; exact ⟨_, hLz.line (by have : tLines T ≤ p := hL.2.1; show tLines T + 1 ≤ _; omega) (Nat.le_trans hps4 hs)⟩) (fun _ h => h)
  · skip
    have n0 := hn0x
    rcases hq : pNum (tape, size_) 1 61 (tkE (tape, size_) p) with ⟨k, l9⟩ | ⟨lo, q⟩
    · skip
      have hbd0 : pBody (tape, size_) T p = PR.no k l9 := by unfold pBody; rw [if_pos n0, hq]; rfl
      have hr : (pLine (tape, size_) T p) = PR.no k l9 := by unfold pLine; rw [hbd0]; rfl
      refine g_aload_n 0 dX10_readLine_0 rfl rfl ?_
      refine g_ldcS st_X10_220 dX10_readLine_1 ?_
      refine m_cVi (ct_took p wNumbers hs hT hR hps st_X10_220 wd_X10_220) hvX10_took hyX10_took rfl ⟨Nat.le_of_ble_eq_true rfl, Nat.le_of_ble_eq_true rfl⟩ ⟨Nat.zero_le _, Nat.zero_le _⟩ rfl (Nat.le_of_ble_eq_true rfl) dX10_readLine_3 m_rec (fun r u hp => ?_)
      obtain ⟨a1, b1, t1, v1⟩ := u
      obtain ⟨hp, hq1⟩ := hp
      have hR1 : RdP (tape, size_) (tkE (tape, size_) p) a1 b1 t1 v1 := by have h := hq1; unfold opt at h; rw [if_pos n0] at h; exact h
      obtain rfl := hp
      have hps1 : (tkE (tape, size_) p) ≤ size_ := tkE_le (X := (tape, size_)) hps
      have hb1 : bnd (tape, size_) (tkE (tape, size_) p) := bnd_W n0
      refine GG.topi (y := nI 1) (congrArg bI n0) ?_
      refine g_if_eq_n (tgt := 54) dX10_readLine_6 (by decide) (by decide) (fun h => absurd h (by decide)) (fun _ => ?_)
      refine g_aload_n 0 dX10_readLine_9 rfl rfl ?_
      refine g_iconst (v := nI 1) dX10_readLine_10 (by decide +kernel) ?_
      refine g_bipush (v := nI 60) dX10_readLine_11 (by decide +kernel) ?_
      refine m_cVi (ct_number (tkE (tape, size_) p) 1 61 _ hs hT hR1 hps1 (by decide +kernel) (by first | decide | omega) (by decide)) hvX10_number hyX10_number rfl ⟨Nat.le_of_ble_eq_true rfl, Nat.le_of_ble_eq_true rfl⟩ ⟨Nat.zero_le _, Nat.zero_le _⟩ rfl (Nat.le_of_ble_eq_true rfl) dX10_readLine_13 m_rec (fun r u hp => ?_)
      obtain ⟨a2, b2, t2, v2, bd2, bp2⟩ := u
      obtain ⟨hr2, hv2, hw2⟩ := hp
      obtain ⟨ht4, hv9, hk2, hl2, hbd⟩ := hr2.isno hq
      refine GG.topi (hw2 (by show ¬ bd2 = 0; have : 0 < bd2 := hbd.1; omega)) ?_
      have hbd : 0 < bd2 ∧ bd2 < 10 := hbd
      refine g_istore_n (L' := [(0, _), (1, _)]) 1 dX10_readLine_16 rfl (by decide) rfl rfl ?_
      refine g_aload_n 0 dX10_readLine_17 rfl rfl ?_
      refine g_ldcS st_X10_221 dX10_readLine_18 ?_
      refine m_cVi (ct_took_bad hbd st_X10_221) hvX10_took hyX10_took rfl ⟨Nat.le_of_ble_eq_true rfl, Nat.le_of_ble_eq_true rfl⟩ ⟨Nat.zero_le _, Nat.zero_le _⟩ rfl (Nat.le_of_ble_eq_true rfl) dX10_readLine_20 m_rec (fun r u9 hp => ?_)
      obtain rfl := hp
      refine GG.topi (y := nI 0) rfl ?_
      refine g_if_ne_n (tgt := 31) dX10_readLine_23 (by decide) (by decide) (fun h => absurd h (by decide)) (fun _ => ?_)
      refine g_aload_n 0 dX10_readLine_26 rfl rfl ?_
      refine g_iconst (v := nI 2) dX10_readLine_27 (by decide +kernel) ?_
      refine m_cVv (ct_blames_bad _ hbd) hvX10_blames hyX10_blames rfl ⟨Nat.le_of_ble_eq_true rfl, Nat.le_of_ble_eq_true rfl⟩ ⟨Nat.zero_le _, Nat.zero_le _⟩ rfl (Nat.le_of_ble_eq_true rfl) dX10_readLine_28 m_rec (fun u9 h9 => ?_)
      refine g_aload_n 0 dX10_readLine_31 rfl rfl ?_
      refine m_get_fresh dX10_readLine_32 ?_
      refine g_iconst (v := nI 1) dX10_readLine_35 (by decide +kernel) ?_
      refine g_iload_n 1 dX10_readLine_36 rfl rfl ?_
      refine m_st_fresh dX10_readLine_37 (by omega) ?_
      refine g_aload_n 0 dX10_readLine_38 rfl rfl ?_
      refine m_get_fresh dX10_readLine_39 ?_
      refine g_iconst (v := nI 2) dX10_readLine_42 (by decide +kernel) ?_
      refine g_aload_n 0 dX10_readLine_43 rfl rfl ?_
      refine g_iload_n 1 dX10_readLine_44 rfl rfl ?_
      refine g_bipush (v := nI 60) dX10_readLine_45 (by decide +kernel) ?_
      refine m_cVi (ct_number_bad _ _ hbd ht4 hv9 (by omega)) hvX10_number hyX10_number rfl ⟨Nat.le_of_ble_eq_true rfl, Nat.le_of_ble_eq_true rfl⟩ ⟨Nat.zero_le _, Nat.zero_le _⟩ rfl (Nat.le_of_ble_eq_true rfl) dX10_readLine_47 m_rec (fun r u9 hp => ?_)
      obtain rfl := hp
      refine m_st_fresh dX10_readLine_50 (by omega) ?_
      refine g_goto (tgt := 135) dX10_readLine_51 (by decide) ?_
      refine g_aload_n 0 dX10_readLine_135 rfl rfl ?_
      refine g_bipush (v := nI 59) dX10_readLine_136 (by decide +kernel) ?_
      refine m_cVv (ct_sign_bad _ hbd) hvX10_sign hyX10_sign rfl ⟨Nat.le_of_ble_eq_true rfl, Nat.le_of_ble_eq_true rfl⟩ ⟨Nat.zero_le _, Nat.zero_le _⟩ rfl (Nat.le_of_ble_eq_true rfl) dX10_readLine_138 m_rec (fun u9 h9 => ?_)
      refine g_aload_n 0 dX10_readLine_141 rfl rfl ?_
      refine m_get_bad dX10_readLine_142 ?_
      refine g_if_ne_n (tgt := 158) dX10_readLine_145 (by decide) (by omega) (fun c145 => ?_) (fun c145 => ?_)
      · skip
        exact g_vret (_, _, _, _, _, _, _) dX10_readLine_158 (Nat.le_refl _) (Nat.le_refl _) (by exact ⟨RdR.no hr (by first | exact ht4 | exact RdP.t4 (by assumption)) (by first | exact hv9 | exact RdP.v9 (by assumption)) (by first | assumption | exact bad_k (by assumption) (by assumption)) (by first | assumption | exact bad_l (by assumption) (by assumption)) hbd, fun T2 z e => by rw [hr] at e; exact (PR.ne e).elim⟩) (fun _ h => h)
      · skip
        exact absurd c145 (by omega)
    · skip
      have hlo := pNum_ok hq
      rcases hn9 : isW (tape, size_) wTo q with _ | _
      · skip
        have nt := hn9
        have hbd0 : pBody (tape, size_) T p = pWrong (tape, size_) q := by unfold pBody; rw [if_pos n0, hq]; show (if isW (tape, size_) wTo q = true then _ else _) = _; rw [if_neg (by rw [nt]; decide)]
        have hr : (pLine (tape, size_) T p) = pWrong (tape, size_) q := by unfold pLine; rw [hbd0]; rfl
        refine g_aload_n 0 dX10_readLine_0 rfl rfl ?_
        refine g_ldcS st_X10_220 dX10_readLine_1 ?_
        refine m_cVi (ct_took p wNumbers hs hT hR hps st_X10_220 wd_X10_220) hvX10_took hyX10_took rfl ⟨Nat.le_of_ble_eq_true rfl, Nat.le_of_ble_eq_true rfl⟩ ⟨Nat.zero_le _, Nat.zero_le _⟩ rfl (Nat.le_of_ble_eq_true rfl) dX10_readLine_3 m_rec (fun r u hp => ?_)
        obtain ⟨a1, b1, t1, v1⟩ := u
        obtain ⟨hp, hq1⟩ := hp
        have hR1 : RdP (tape, size_) (tkE (tape, size_) p) a1 b1 t1 v1 := by have h := hq1; unfold opt at h; rw [if_pos n0] at h; exact h
        obtain rfl := hp
        have hps1 : (tkE (tape, size_) p) ≤ size_ := tkE_le (X := (tape, size_)) hps
        have hb1 : bnd (tape, size_) (tkE (tape, size_) p) := bnd_W n0
        refine GG.topi (y := nI 1) (congrArg bI n0) ?_
        refine g_if_eq_n (tgt := 54) dX10_readLine_6 (by decide) (by decide) (fun h => absurd h (by decide)) (fun _ => ?_)
        refine g_aload_n 0 dX10_readLine_9 rfl rfl ?_
        refine g_iconst (v := nI 1) dX10_readLine_10 (by decide +kernel) ?_
        refine g_bipush (v := nI 60) dX10_readLine_11 (by decide +kernel) ?_
        refine m_cVi (ct_number (tkE (tape, size_) p) 1 61 _ hs hT hR1 hps1 (by decide +kernel) (by first | decide | omega) (by decide)) hvX10_number hyX10_number rfl ⟨Nat.le_of_ble_eq_true rfl, Nat.le_of_ble_eq_true rfl⟩ ⟨Nat.zero_le _, Nat.zero_le _⟩ rfl (Nat.le_of_ble_eq_true rfl) dX10_readLine_13 m_rec (fun r u hp => ?_)
        obtain ⟨a2, b2, t2, v2, bd2, bp2⟩ := u
        obtain ⟨hr2, hv2, hw2⟩ := hp
        obtain ⟨hz2, hR2, hq2⟩ := hr2.isok hq
        have hz2 : bd2 = 0 := hz2
        subst hz2
        have hps2 : q ≤ size_ := hq2
        have hb2 : bnd (tape, size_) q := (pNum_phi hq).1
        refine GG.topi (hv2 lo q hq) ?_
        refine g_istore_n (L' := [(0, _), (1, _)]) 1 dX10_readLine_16 rfl (by decide) rfl rfl ?_
        refine g_aload_n 0 dX10_readLine_17 rfl rfl ?_
        refine g_ldcS st_X10_221 dX10_readLine_18 ?_
        refine m_cVi (ct_took q wTo hs hT hR2 hps2 st_X10_221 wd_X10_221) hvX10_took hyX10_took rfl ⟨Nat.le_of_ble_eq_true rfl, Nat.le_of_ble_eq_true rfl⟩ ⟨Nat.zero_le _, Nat.zero_le _⟩ rfl (Nat.le_of_ble_eq_true rfl) dX10_readLine_20 m_rec (fun r u hp => ?_)
        obtain ⟨a3, b3, t3, v3⟩ := u
        obtain ⟨hp, hq3⟩ := hp
        have hR3 : RdP (tape, size_) q a3 b3 t3 v3 := by have h := hq3; unfold opt at h; rw [if_neg (by rw [nt]; decide)] at h; exact h
        obtain rfl := hp
        have hps3 : q ≤ size_ := hps2
        have hb3 : bnd (tape, size_) q := hb2
        refine GG.topi (y := nI 0) (congrArg bI nt) ?_
        refine g_if_ne_n (tgt := 31) dX10_readLine_23 (by decide) (by decide) (fun h => absurd h (by decide)) (fun _ => ?_)
        refine g_aload_n 0 dX10_readLine_26 rfl rfl ?_
        refine g_iconst (v := nI 2) dX10_readLine_27 (by decide +kernel) ?_
        refine m_cVv (ct_blames _ hR3.t4 (by decide)) hvX10_blames hyX10_blames rfl ⟨Nat.le_of_ble_eq_true rfl, Nat.le_of_ble_eq_true rfl⟩ ⟨Nat.zero_le _, Nat.zero_le _⟩ rfl (Nat.le_of_ble_eq_true rfl) dX10_readLine_28 m_rec (fun u hp => ?_)
        obtain ⟨bd4, bp4⟩ := u
        obtain ⟨hk4, hl4⟩ := hp
        have hk4 : bd4 = _ := hk4
        have hl4 : bp4 = _ := hl4
        have hbd : 0 < bd4 ∧ bd4 < 10 := by rw [hk4]; split <;> decide
        have ht4 := hR3.t4
        have hv9 := hR3.2.2.2.2
        refine g_aload_n 0 dX10_readLine_31 rfl rfl ?_
        refine m_get_fresh dX10_readLine_32 ?_
        refine g_iconst (v := nI 1) dX10_readLine_35 (by decide +kernel) ?_
        refine g_iload_n 1 dX10_readLine_36 rfl rfl ?_
        refine m_st_fresh dX10_readLine_37 (by omega) ?_
        refine g_aload_n 0 dX10_readLine_38 rfl rfl ?_
        refine m_get_fresh dX10_readLine_39 ?_
        refine g_iconst (v := nI 2) dX10_readLine_42 (by decide +kernel) ?_
        refine g_aload_n 0 dX10_readLine_43 rfl rfl ?_
        refine g_iload_n 1 dX10_readLine_44 rfl rfl ?_
        refine g_bipush (v := nI 60) dX10_readLine_45 (by decide +kernel) ?_
        refine m_cVi (ct_number_bad _ _ hbd ht4 hv9 (by omega)) hvX10_number hyX10_number rfl ⟨Nat.le_of_ble_eq_true rfl, Nat.le_of_ble_eq_true rfl⟩ ⟨Nat.zero_le _, Nat.zero_le _⟩ rfl (Nat.le_of_ble_eq_true rfl) dX10_readLine_47 m_rec (fun r u9 hp => ?_)
        obtain rfl := hp
        refine m_st_fresh dX10_readLine_50 (by omega) ?_
        refine g_goto (tgt := 135) dX10_readLine_51 (by decide) ?_
        refine g_aload_n 0 dX10_readLine_135 rfl rfl ?_
        refine g_bipush (v := nI 59) dX10_readLine_136 (by decide +kernel) ?_
        refine m_cVv (ct_sign_bad _ hbd) hvX10_sign hyX10_sign rfl ⟨Nat.le_of_ble_eq_true rfl, Nat.le_of_ble_eq_true rfl⟩ ⟨Nat.zero_le _, Nat.zero_le _⟩ rfl (Nat.le_of_ble_eq_true rfl) dX10_readLine_138 m_rec (fun u9 h9 => ?_)
        refine g_aload_n 0 dX10_readLine_141 rfl rfl ?_
        refine m_get_bad dX10_readLine_142 ?_
        refine g_if_ne_n (tgt := 158) dX10_readLine_145 (by decide) (by omega) (fun c145 => ?_) (fun c145 => ?_)
        · skip
          exact g_vret (_, _, _, _, _, _, _) dX10_readLine_158 (Nat.le_refl _) (Nat.le_refl _) (by exact ⟨RdR.no hr (by first | exact ht4 | exact RdP.t4 (by assumption)) (by first | exact hv9 | exact RdP.v9 (by assumption)) (by first | assumption | exact bad_k (by assumption) (by assumption)) (by first | assumption | exact bad_l (by assumption) (by assumption)) hbd, fun T2 z e => by rw [hr] at e; exact (PR.ne e).elim⟩) (fun _ h => h)
        · skip
          exact absurd c145 (by omega)
      · skip
        have nt := hn9
        rcases hqB : pNum (tape, size_) lo 61 (tkE (tape, size_) q) with ⟨k, l9⟩ | ⟨hi, q2⟩
        · skip
          have hbd0 : pBody (tape, size_) T p = PR.no k l9 := by unfold pBody; rw [if_pos n0, hq]; show (if isW (tape, size_) wTo q = true then _ else _) = _; rw [if_pos nt, hqB]; rfl
          have hr : (pLine (tape, size_) T p) = PR.no k l9 := by unfold pLine; rw [hbd0]; rfl
          refine g_aload_n 0 dX10_readLine_0 rfl rfl ?_
          refine g_ldcS st_X10_220 dX10_readLine_1 ?_
          refine m_cVi (ct_took p wNumbers hs hT hR hps st_X10_220 wd_X10_220) hvX10_took hyX10_took rfl ⟨Nat.le_of_ble_eq_true rfl, Nat.le_of_ble_eq_true rfl⟩ ⟨Nat.zero_le _, Nat.zero_le _⟩ rfl (Nat.le_of_ble_eq_true rfl) dX10_readLine_3 m_rec (fun r u hp => ?_)
          obtain ⟨a1, b1, t1, v1⟩ := u
          obtain ⟨hp, hq1⟩ := hp
          have hR1 : RdP (tape, size_) (tkE (tape, size_) p) a1 b1 t1 v1 := by have h := hq1; unfold opt at h; rw [if_pos n0] at h; exact h
          obtain rfl := hp
          have hps1 : (tkE (tape, size_) p) ≤ size_ := tkE_le (X := (tape, size_)) hps
          have hb1 : bnd (tape, size_) (tkE (tape, size_) p) := bnd_W n0
          refine GG.topi (y := nI 1) (congrArg bI n0) ?_
          refine g_if_eq_n (tgt := 54) dX10_readLine_6 (by decide) (by decide) (fun h => absurd h (by decide)) (fun _ => ?_)
          refine g_aload_n 0 dX10_readLine_9 rfl rfl ?_
          refine g_iconst (v := nI 1) dX10_readLine_10 (by decide +kernel) ?_
          refine g_bipush (v := nI 60) dX10_readLine_11 (by decide +kernel) ?_
          refine m_cVi (ct_number (tkE (tape, size_) p) 1 61 _ hs hT hR1 hps1 (by decide +kernel) (by first | decide | omega) (by decide)) hvX10_number hyX10_number rfl ⟨Nat.le_of_ble_eq_true rfl, Nat.le_of_ble_eq_true rfl⟩ ⟨Nat.zero_le _, Nat.zero_le _⟩ rfl (Nat.le_of_ble_eq_true rfl) dX10_readLine_13 m_rec (fun r u hp => ?_)
          obtain ⟨a2, b2, t2, v2, bd2, bp2⟩ := u
          obtain ⟨hr2, hv2, hw2⟩ := hp
          obtain ⟨hz2, hR2, hq2⟩ := hr2.isok hq
          have hz2 : bd2 = 0 := hz2
          subst hz2
          have hps2 : q ≤ size_ := hq2
          have hb2 : bnd (tape, size_) q := (pNum_phi hq).1
          refine GG.topi (hv2 lo q hq) ?_
          refine g_istore_n (L' := [(0, _), (1, _)]) 1 dX10_readLine_16 rfl (by decide) rfl rfl ?_
          refine g_aload_n 0 dX10_readLine_17 rfl rfl ?_
          refine g_ldcS st_X10_221 dX10_readLine_18 ?_
          refine m_cVi (ct_took q wTo hs hT hR2 hps2 st_X10_221 wd_X10_221) hvX10_took hyX10_took rfl ⟨Nat.le_of_ble_eq_true rfl, Nat.le_of_ble_eq_true rfl⟩ ⟨Nat.zero_le _, Nat.zero_le _⟩ rfl (Nat.le_of_ble_eq_true rfl) dX10_readLine_20 m_rec (fun r u hp => ?_)
          obtain ⟨a3, b3, t3, v3⟩ := u
          obtain ⟨hp, hq3⟩ := hp
          have hR3 : RdP (tape, size_) (tkE (tape, size_) q) a3 b3 t3 v3 := by have h := hq3; unfold opt at h; rw [if_pos nt] at h; exact h
          obtain rfl := hp
          have hps3 : (tkE (tape, size_) q) ≤ size_ := tkE_le (X := (tape, size_)) hps2
          have hb3 : bnd (tape, size_) (tkE (tape, size_) q) := bnd_W nt
          refine GG.topi (y := nI 1) (congrArg bI nt) ?_
          refine g_if_ne_n (tgt := 31) dX10_readLine_23 (by decide) (by decide) (fun _ => ?_) (fun h => absurd h (by decide))
          refine g_aload_n 0 dX10_readLine_31 rfl rfl ?_
          refine m_get_fresh dX10_readLine_32 ?_
          refine g_iconst (v := nI 1) dX10_readLine_35 (by decide +kernel) ?_
          refine g_iload_n 1 dX10_readLine_36 rfl rfl ?_
          refine m_st_fresh dX10_readLine_37 (by omega) ?_
          refine g_aload_n 0 dX10_readLine_38 rfl rfl ?_
          refine m_get_fresh dX10_readLine_39 ?_
          refine g_iconst (v := nI 2) dX10_readLine_42 (by decide +kernel) ?_
          refine g_aload_n 0 dX10_readLine_43 rfl rfl ?_
          refine g_iload_n 1 dX10_readLine_44 rfl rfl ?_
          refine g_bipush (v := nI 60) dX10_readLine_45 (by decide +kernel) ?_
          refine m_cVi (ct_number (tkE (tape, size_) q) lo 61 _ hs hT hR3 hps3 (by decide +kernel) (by first | decide | omega) (by decide)) hvX10_number hyX10_number rfl ⟨Nat.le_of_ble_eq_true rfl, Nat.le_of_ble_eq_true rfl⟩ ⟨Nat.zero_le _, Nat.zero_le _⟩ rfl (Nat.le_of_ble_eq_true rfl) dX10_readLine_47 m_rec (fun r u hp => ?_)
          obtain ⟨a4, b4, t4, v4, bd4, bp4⟩ := u
          obtain ⟨hr4, hv4, hw4⟩ := hp
          obtain ⟨ht4, hv9, hk4, hl4, hbd⟩ := hr4.isno hqB
          refine GG.topi (hw4 (by show ¬ bd4 = 0; have : 0 < bd4 := hbd.1; omega)) ?_
          have hbd : 0 < bd4 ∧ bd4 < 10 := hbd
          refine m_st_fresh dX10_readLine_50 (by omega) ?_
          refine g_goto (tgt := 135) dX10_readLine_51 (by decide) ?_
          refine g_aload_n 0 dX10_readLine_135 rfl rfl ?_
          refine g_bipush (v := nI 59) dX10_readLine_136 (by decide +kernel) ?_
          refine m_cVv (ct_sign_bad _ hbd) hvX10_sign hyX10_sign rfl ⟨Nat.le_of_ble_eq_true rfl, Nat.le_of_ble_eq_true rfl⟩ ⟨Nat.zero_le _, Nat.zero_le _⟩ rfl (Nat.le_of_ble_eq_true rfl) dX10_readLine_138 m_rec (fun u9 h9 => ?_)
          refine g_aload_n 0 dX10_readLine_141 rfl rfl ?_
          refine m_get_bad dX10_readLine_142 ?_
          refine g_if_ne_n (tgt := 158) dX10_readLine_145 (by decide) (by omega) (fun c145 => ?_) (fun c145 => ?_)
          · skip
            exact g_vret (_, _, _, _, _, _, _) dX10_readLine_158 (Nat.le_refl _) (Nat.le_refl _) (by exact ⟨RdR.no hr (by first | exact ht4 | exact RdP.t4 (by assumption)) (by first | exact hv9 | exact RdP.v9 (by assumption)) (by first | assumption | exact bad_k (by assumption) (by assumption)) (by first | assumption | exact bad_l (by assumption) (by assumption)) hbd, fun T2 z e => by rw [hr] at e; exact (PR.ne e).elim⟩) (fun _ h => h)
          · skip
            exact absurd c145 (by omega)
        · skip
          have hhi := pNum_ok hqB
          have hbd0 : pBody (tape, size_) T p = PR.ok (tNums T lo hi) q2 := by unfold pBody; rw [if_pos n0, hq]; show (if isW (tape, size_) wTo q = true then _ else _) = _; rw [if_pos nt, hqB]; rfl
          have hgo := pBody_go hbd0 hps
          rcases hw9 : isS (tape, size_) 59 q2 with _ | _
          · skip
            have w9 := hw9
            have hr : (pLine (tape, size_) T p) = pWrong (tape, size_) q2 := by unfold pLine; rw [hbd0]; show (if isS (tape, size_) 59 q2 = true then _ else _) = _; rw [if_neg (by rw [w9]; decide)]
            refine g_aload_n 0 dX10_readLine_0 rfl rfl ?_
            refine g_ldcS st_X10_220 dX10_readLine_1 ?_
            refine m_cVi (ct_took p wNumbers hs hT hR hps st_X10_220 wd_X10_220) hvX10_took hyX10_took rfl ⟨Nat.le_of_ble_eq_true rfl, Nat.le_of_ble_eq_true rfl⟩ ⟨Nat.zero_le _, Nat.zero_le _⟩ rfl (Nat.le_of_ble_eq_true rfl) dX10_readLine_3 m_rec (fun r u hp => ?_)
            obtain ⟨a1, b1, t1, v1⟩ := u
            obtain ⟨hp, hq1⟩ := hp
            have hR1 : RdP (tape, size_) (tkE (tape, size_) p) a1 b1 t1 v1 := by have h := hq1; unfold opt at h; rw [if_pos n0] at h; exact h
            obtain rfl := hp
            have hps1 : (tkE (tape, size_) p) ≤ size_ := tkE_le (X := (tape, size_)) hps
            have hb1 : bnd (tape, size_) (tkE (tape, size_) p) := bnd_W n0
            refine GG.topi (y := nI 1) (congrArg bI n0) ?_
            refine g_if_eq_n (tgt := 54) dX10_readLine_6 (by decide) (by decide) (fun h => absurd h (by decide)) (fun _ => ?_)
            refine g_aload_n 0 dX10_readLine_9 rfl rfl ?_
            refine g_iconst (v := nI 1) dX10_readLine_10 (by decide +kernel) ?_
            refine g_bipush (v := nI 60) dX10_readLine_11 (by decide +kernel) ?_
            refine m_cVi (ct_number (tkE (tape, size_) p) 1 61 _ hs hT hR1 hps1 (by decide +kernel) (by first | decide | omega) (by decide)) hvX10_number hyX10_number rfl ⟨Nat.le_of_ble_eq_true rfl, Nat.le_of_ble_eq_true rfl⟩ ⟨Nat.zero_le _, Nat.zero_le _⟩ rfl (Nat.le_of_ble_eq_true rfl) dX10_readLine_13 m_rec (fun r u hp => ?_)
            obtain ⟨a2, b2, t2, v2, bd2, bp2⟩ := u
            obtain ⟨hr2, hv2, hw2⟩ := hp
            obtain ⟨hz2, hR2, hq2⟩ := hr2.isok hq
            have hz2 : bd2 = 0 := hz2
            subst hz2
            have hps2 : q ≤ size_ := hq2
            have hb2 : bnd (tape, size_) q := (pNum_phi hq).1
            refine GG.topi (hv2 lo q hq) ?_
            refine g_istore_n (L' := [(0, _), (1, _)]) 1 dX10_readLine_16 rfl (by decide) rfl rfl ?_
            refine g_aload_n 0 dX10_readLine_17 rfl rfl ?_
            refine g_ldcS st_X10_221 dX10_readLine_18 ?_
            refine m_cVi (ct_took q wTo hs hT hR2 hps2 st_X10_221 wd_X10_221) hvX10_took hyX10_took rfl ⟨Nat.le_of_ble_eq_true rfl, Nat.le_of_ble_eq_true rfl⟩ ⟨Nat.zero_le _, Nat.zero_le _⟩ rfl (Nat.le_of_ble_eq_true rfl) dX10_readLine_20 m_rec (fun r u hp => ?_)
            obtain ⟨a3, b3, t3, v3⟩ := u
            obtain ⟨hp, hq3⟩ := hp
            have hR3 : RdP (tape, size_) (tkE (tape, size_) q) a3 b3 t3 v3 := by have h := hq3; unfold opt at h; rw [if_pos nt] at h; exact h
            obtain rfl := hp
            have hps3 : (tkE (tape, size_) q) ≤ size_ := tkE_le (X := (tape, size_)) hps2
            have hb3 : bnd (tape, size_) (tkE (tape, size_) q) := bnd_W nt
            refine GG.topi (y := nI 1) (congrArg bI nt) ?_
            refine g_if_ne_n (tgt := 31) dX10_readLine_23 (by decide) (by decide) (fun _ => ?_) (fun h => absurd h (by decide))
            refine g_aload_n 0 dX10_readLine_31 rfl rfl ?_
            refine m_get_fresh dX10_readLine_32 ?_
            refine g_iconst (v := nI 1) dX10_readLine_35 (by decide +kernel) ?_
            refine g_iload_n 1 dX10_readLine_36 rfl rfl ?_
            refine m_st_fresh dX10_readLine_37 (by omega) ?_
            refine g_aload_n 0 dX10_readLine_38 rfl rfl ?_
            refine m_get_fresh dX10_readLine_39 ?_
            refine g_iconst (v := nI 2) dX10_readLine_42 (by decide +kernel) ?_
            refine g_aload_n 0 dX10_readLine_43 rfl rfl ?_
            refine g_iload_n 1 dX10_readLine_44 rfl rfl ?_
            refine g_bipush (v := nI 60) dX10_readLine_45 (by decide +kernel) ?_
            refine m_cVi (ct_number (tkE (tape, size_) q) lo 61 _ hs hT hR3 hps3 (by decide +kernel) (by first | decide | omega) (by decide)) hvX10_number hyX10_number rfl ⟨Nat.le_of_ble_eq_true rfl, Nat.le_of_ble_eq_true rfl⟩ ⟨Nat.zero_le _, Nat.zero_le _⟩ rfl (Nat.le_of_ble_eq_true rfl) dX10_readLine_47 m_rec (fun r u hp => ?_)
            obtain ⟨a4, b4, t4, v4, bd4, bp4⟩ := u
            obtain ⟨hr4, hv4, hw4⟩ := hp
            obtain ⟨hz4, hR4, hq4⟩ := hr4.isok hqB
            have hz4 : bd4 = 0 := hz4
            subst hz4
            have hps4 : q2 ≤ size_ := hq4
            have hb4 : bnd (tape, size_) q2 := (pNum_phi hqB).1
            refine GG.topi (hv4 hi q2 hqB) ?_
            refine m_st_fresh dX10_readLine_50 (by omega) ?_
            refine g_goto (tgt := 135) dX10_readLine_51 (by decide) ?_
            refine g_aload_n 0 dX10_readLine_135 rfl rfl ?_
            refine g_bipush (v := nI 59) dX10_readLine_136 (by decide +kernel) ?_
            refine m_cVv (ct_sign q2 _ hs hT hR4 hps4 (by decide)) hvX10_sign hyX10_sign rfl ⟨Nat.le_of_ble_eq_true rfl, Nat.le_of_ble_eq_true rfl⟩ ⟨Nat.zero_le _, Nat.zero_le _⟩ rfl (Nat.le_of_ble_eq_true rfl) dX10_readLine_138 m_rec (fun u hp => ?_)
            obtain ⟨a5, b5, t5, v5, bd5, bp5⟩ := u
            have hr5 := RdR.isno hp (show pSgn _ _ _ = PR.no (if tkK (tape, size_) q2 = 4 then 1 else 2) (tkB (tape, size_) q2) by unfold pSgn; rw [if_neg (by rw [w9]; decide)]; rfl)
            obtain ⟨ht4, hv9, hk5, hl5, hbd⟩ := hr5
            have hbd : 0 < bd5 ∧ bd5 < 10 := hbd
            refine g_aload_n 0 dX10_readLine_141 rfl rfl ?_
            refine m_get_bad dX10_readLine_142 ?_
            refine g_if_ne_n (tgt := 158) dX10_readLine_145 (by decide) (by omega) (fun c145 => ?_) (fun c145 => ?_)
            · skip
              exact g_vret (_, _, _, _, _, _, _) dX10_readLine_158 (Nat.le_refl _) (Nat.le_refl _) (by exact ⟨RdR.no hr (by first | exact ht4 | exact RdP.t4 (by assumption)) (by first | exact hv9 | exact RdP.v9 (by assumption)) (by first | assumption | exact bad_k (by assumption) (by assumption)) (by first | assumption | exact bad_l (by assumption) (by assumption)) hbd, fun T2 z e => by rw [hr] at e; exact (PR.ne e).elim⟩) (fun _ h => h)
            · skip
              exact absurd c145 (by omega)
          · skip
            have w9 := hw9
            have hgz := isS_go w9
            have hr : (pLine (tape, size_) T p) = PR.ok (tLine (tNums T lo hi)) (tkE (tape, size_) q2) := by unfold pLine; rw [hbd0]; show (if isS (tape, size_) 59 q2 = true then _ else _) = _; rw [if_pos w9]
            refine g_aload_n 0 dX10_readLine_0 rfl rfl ?_
            refine g_ldcS st_X10_220 dX10_readLine_1 ?_
            refine m_cVi (ct_took p wNumbers hs hT hR hps st_X10_220 wd_X10_220) hvX10_took hyX10_took rfl ⟨Nat.le_of_ble_eq_true rfl, Nat.le_of_ble_eq_true rfl⟩ ⟨Nat.zero_le _, Nat.zero_le _⟩ rfl (Nat.le_of_ble_eq_true rfl) dX10_readLine_3 m_rec (fun r u hp => ?_)
            obtain ⟨a1, b1, t1, v1⟩ := u
            obtain ⟨hp, hq1⟩ := hp
            have hR1 : RdP (tape, size_) (tkE (tape, size_) p) a1 b1 t1 v1 := by have h := hq1; unfold opt at h; rw [if_pos n0] at h; exact h
            obtain rfl := hp
            have hps1 : (tkE (tape, size_) p) ≤ size_ := tkE_le (X := (tape, size_)) hps
            have hb1 : bnd (tape, size_) (tkE (tape, size_) p) := bnd_W n0
            refine GG.topi (y := nI 1) (congrArg bI n0) ?_
            refine g_if_eq_n (tgt := 54) dX10_readLine_6 (by decide) (by decide) (fun h => absurd h (by decide)) (fun _ => ?_)
            refine g_aload_n 0 dX10_readLine_9 rfl rfl ?_
            refine g_iconst (v := nI 1) dX10_readLine_10 (by decide +kernel) ?_
            refine g_bipush (v := nI 60) dX10_readLine_11 (by decide +kernel) ?_
            refine m_cVi (ct_number (tkE (tape, size_) p) 1 61 _ hs hT hR1 hps1 (by decide +kernel) (by first | decide | omega) (by decide)) hvX10_number hyX10_number rfl ⟨Nat.le_of_ble_eq_true rfl, Nat.le_of_ble_eq_true rfl⟩ ⟨Nat.zero_le _, Nat.zero_le _⟩ rfl (Nat.le_of_ble_eq_true rfl) dX10_readLine_13 m_rec (fun r u hp => ?_)
            obtain ⟨a2, b2, t2, v2, bd2, bp2⟩ := u
            obtain ⟨hr2, hv2, hw2⟩ := hp
            obtain ⟨hz2, hR2, hq2⟩ := hr2.isok hq
            have hz2 : bd2 = 0 := hz2
            subst hz2
            have hps2 : q ≤ size_ := hq2
            have hb2 : bnd (tape, size_) q := (pNum_phi hq).1
            refine GG.topi (hv2 lo q hq) ?_
            refine g_istore_n (L' := [(0, _), (1, _)]) 1 dX10_readLine_16 rfl (by decide) rfl rfl ?_
            refine g_aload_n 0 dX10_readLine_17 rfl rfl ?_
            refine g_ldcS st_X10_221 dX10_readLine_18 ?_
            refine m_cVi (ct_took q wTo hs hT hR2 hps2 st_X10_221 wd_X10_221) hvX10_took hyX10_took rfl ⟨Nat.le_of_ble_eq_true rfl, Nat.le_of_ble_eq_true rfl⟩ ⟨Nat.zero_le _, Nat.zero_le _⟩ rfl (Nat.le_of_ble_eq_true rfl) dX10_readLine_20 m_rec (fun r u hp => ?_)
            obtain ⟨a3, b3, t3, v3⟩ := u
            obtain ⟨hp, hq3⟩ := hp
            have hR3 : RdP (tape, size_) (tkE (tape, size_) q) a3 b3 t3 v3 := by have h := hq3; unfold opt at h; rw [if_pos nt] at h; exact h
            obtain rfl := hp
            have hps3 : (tkE (tape, size_) q) ≤ size_ := tkE_le (X := (tape, size_)) hps2
            have hb3 : bnd (tape, size_) (tkE (tape, size_) q) := bnd_W nt
            refine GG.topi (y := nI 1) (congrArg bI nt) ?_
            refine g_if_ne_n (tgt := 31) dX10_readLine_23 (by decide) (by decide) (fun _ => ?_) (fun h => absurd h (by decide))
            refine g_aload_n 0 dX10_readLine_31 rfl rfl ?_
            refine m_get_fresh dX10_readLine_32 ?_
            refine g_iconst (v := nI 1) dX10_readLine_35 (by decide +kernel) ?_
            refine g_iload_n 1 dX10_readLine_36 rfl rfl ?_
            refine m_st_fresh dX10_readLine_37 (by omega) ?_
            refine g_aload_n 0 dX10_readLine_38 rfl rfl ?_
            refine m_get_fresh dX10_readLine_39 ?_
            refine g_iconst (v := nI 2) dX10_readLine_42 (by decide +kernel) ?_
            refine g_aload_n 0 dX10_readLine_43 rfl rfl ?_
            refine g_iload_n 1 dX10_readLine_44 rfl rfl ?_
            refine g_bipush (v := nI 60) dX10_readLine_45 (by decide +kernel) ?_
            refine m_cVi (ct_number (tkE (tape, size_) q) lo 61 _ hs hT hR3 hps3 (by decide +kernel) (by first | decide | omega) (by decide)) hvX10_number hyX10_number rfl ⟨Nat.le_of_ble_eq_true rfl, Nat.le_of_ble_eq_true rfl⟩ ⟨Nat.zero_le _, Nat.zero_le _⟩ rfl (Nat.le_of_ble_eq_true rfl) dX10_readLine_47 m_rec (fun r u hp => ?_)
            obtain ⟨a4, b4, t4, v4, bd4, bp4⟩ := u
            obtain ⟨hr4, hv4, hw4⟩ := hp
            obtain ⟨hz4, hR4, hq4⟩ := hr4.isok hqB
            have hz4 : bd4 = 0 := hz4
            subst hz4
            have hps4 : q2 ≤ size_ := hq4
            have hb4 : bnd (tape, size_) q2 := (pNum_phi hqB).1
            refine GG.topi (hv4 hi q2 hqB) ?_
            refine m_st_fresh dX10_readLine_50 (by omega) ?_
            refine g_goto (tgt := 135) dX10_readLine_51 (by decide) ?_
            refine g_aload_n 0 dX10_readLine_135 rfl rfl ?_
            refine g_bipush (v := nI 59) dX10_readLine_136 (by decide +kernel) ?_
            refine m_cVv (ct_sign q2 _ hs hT hR4 hps4 (by decide)) hvX10_sign hyX10_sign rfl ⟨Nat.le_of_ble_eq_true rfl, Nat.le_of_ble_eq_true rfl⟩ ⟨Nat.zero_le _, Nat.zero_le _⟩ rfl (Nat.le_of_ble_eq_true rfl) dX10_readLine_138 m_rec (fun u hp => ?_)
            obtain ⟨a5, b5, t5, v5, bd5, bp5⟩ := u
            obtain ⟨hz5, hR5, hq5⟩ := RdR.isok hp (show pSgn _ _ _ = PR.ok () (tkE (tape, size_) q2) by unfold pSgn; rw [if_pos w9])
            have hz5 : bd5 = 0 := hz5
            subst hz5
            have hps5 : (tkE (tape, size_) q2) ≤ size_ := hq5
            have hb5 : bnd (tape, size_) (tkE (tape, size_) q2) := bnd_S w9
            dsimp only
            refine g_aload_n 0 dX10_readLine_141 rfl rfl ?_
            refine m_get_bad dX10_readLine_142 ?_
            refine g_if_ne_n (tgt := 158) dX10_readLine_145 (by decide) (by decide) (fun h => absurd h (by decide)) (fun _ => ?_)
            refine g_aload_n 0 dX10_readLine_148 rfl rfl ?_
            refine m_get_fresh dX10_readLine_149 ?_
            refine g_iconst (v := nI 0) dX10_readLine_152 (by decide +kernel) ?_
            refine g_dup2_11 dX10_readLine_153 rfl rfl ?_
            refine m_ld_fresh dX10_readLine_154 (by omega) ?_
            have hLz := (hL.nums (lo := lo) (hi := hi) (by omega) (by omega)).to (z := tkE (tape, size_) q2) (by omega) (bnd_S w9)
            refine GG.topi (y := nI (tLines T)) hLz.2.2.2.2.1.1 ?_
            refine g_iconst (v := nI 1) dX10_readLine_155 (by decide +kernel) ?_
            refine g_iadd_n dX10_readLine_156 ?_
            refine m_st_fresh dX10_readLine_157 (by omega) ?_
            exact g_vret (_, _, _, _, _, _, _) dX10_readLine_158 (Nat.le_refl _) (Nat.le_refl _) (by refine ⟨RdR.ok hr hR5 hps5, fun T2 z e => ?_⟩; rw [hr] at e; obtain ⟨e1, e2⟩ := PR.inj e; subst e1; subst e2; exact ⟨_, hLz.line (by have : tLines T ≤ p := hL.2.1; show tLines T + 1 ≤ _; omega) (Nat.le_trans hps5 hs)⟩) (fun _ h => h)
end
