/-! READING: speakers, turns -/
set_option maxRecDepth 100000
def sgtV (o : Option Nat) : Int32 := match o with
  | none => -1
  | some k => nI k
def pSpk (X : Txt) (ns p : Nat) : PR (Nat × Bool × Bool) := if ns = 6 then PR.no 4 (tkB X p) else match sightOf X (tkE X p) with
  | none => pWrong X (tkE X p)
  | some k => PR.ok (k, isW X wLiar (tkE X (tkE X p)), isW X wDeaf (opt X wLiar (tkE X (tkE X p)))) (opt X wDeaf (opt X wLiar (tkE X (tkE X p))))
def frSpk (g : Nat → Int32) (ns k : Nat) (li de : Bool) : Nat → Int32 := up (up (up (up g (8 + 3 * ns + 0) (nI k)) (8 + 3 * ns + 1) (bI li)) (8 + 3 * ns + 2) (bI de)) 5 (nI (ns + 1))
def pTrn (X : Txt) (ns nt p : Nat) : PR (Nat × Sem) := if nt = 20 then PR.no 4 (tkB X p) else PR.bind (pNum X 0 ns (tkE X p)) fun s q => PR.bind (pSay X ns q) fun f r => PR.ok (s, f) r
def frTrn (g : Nat → Int32) (nt s m : Nat) : Nat → Int32 := up (up (up g (26 + 2 * nt) (nI s)) (26 + 2 * nt + 1) (nI m)) 6 (nI (nt + 1))
theorem sgtV_no {o : Option Nat} (h : o = none) : sgtV o = -1 := by subst h; rfl
theorem sgtV_so {o : Option Nat} {k : Nat} (h : o = some k) : sgtV o = nI k := by subst h; rfl
/-! THE MODEL, 21: speakers, turns are read -/
set_option maxRecDepth 100000
section
variable {l : Launch} {D : va_G} {cl : List vw_C} {tys : List (ClassId × FieldType)} {mi : Nat} {cI cJ cZ : ClassId} {ma : Nat → Nat} {known fresh_ saved images : Nat → Int32} {isImage : Nat → Bool} {thrown : Nat} {tape : Nat → Nat} {taped size_ at_ begin_ token value open_ bad badPlace faultKind : Nat} {faultPlace : Int32} {xs ys : Nat → Nat} {pairs : Nat} {rows : Nat → Int64} {top : Nat} {heaps : Nat → Nat} {endsBehind : Nat → Int32} {path order firstOrder : Nat → Nat} {ordersMany : Nat} {tSort : Nat → Int32} {tMany : Nat → Nat} {numbers : Nat → Int64}
set_option maxHeartbeats 4000000 in
/-- a sight by its word -/
theorem ct_sightTold (p : Nat) (hs : size_ ≤ 900) (hT : ∀ j, tape j < 256) (hR : RdP (tape, size_) p at_ begin_ token value) (hps : p ≤ size_) : CT l D cl tys yX10_sightTold cX10_sightTold 1 (some .int) ({ frames := 5, cells := 0, slots := 0, locals := 108 } : Room) [.ref (ma 0)] (HM D cl tys mi cI cJ cZ ma known fresh_ saved images isImage thrown tape taped size_ at_ begin_ token value open_ 0 badPlace faultKind faultPlace xs ys pairs rows top heaps endsBehind path order firstOrder ordersMany tSort tMany numbers) (Qi (fun (v : Int32) (u : Unit) => v = sgtV (sightOf (tape, size_) p)) (fun (u : Unit) => HM D cl tys mi cI cJ cZ ma known fresh_ saved images isImage thrown tape taped size_ at_ begin_ token value open_ 0 badPlace faultKind faultPlace xs ys pairs rows top heaps endsBehind path order firstOrder ordersMany tSort tMany numbers) (AM ma)) (AM ma) := by
  refine CT.of (L := [(0, .ref (ma 0))]) rfl (by decide +kernel) rfl (Nat.le_of_ble_eq_true rfl) ?_
  refine g_aload_n 0 dX10_sightTold_0 rfl rfl ?_
  refine g_ldcS st_X10_195 dX10_sightTold_1 ?_
  refine m_cVi (ct_isWord p wSum hs hT hR hps st_X10_195 wd_X10_195) hvX10_isWord hyX10_isWord rfl ⟨Nat.le_of_ble_eq_true rfl, Nat.le_of_ble_eq_true rfl⟩ ⟨Nat.zero_le _, Nat.zero_le _⟩ rfl (Nat.le_of_ble_eq_true rfl) dX10_sightTold_3 m_rec (fun r u9 hp => ?_)
  obtain rfl := hp
  refine g_if_eq_b (tgt := 11) dX10_sightTold_6 (by decide) (fun c6 => ?_) (fun c6 => ?_)
  · skip
    refine g_aload_n 0 dX10_sightTold_11 rfl rfl ?_
    refine g_ldcS st_X10_197 dX10_sightTold_12 ?_
    refine m_cVi (ct_isWord p wProduct hs hT hR hps st_X10_197 wd_X10_197) hvX10_isWord hyX10_isWord rfl ⟨Nat.le_of_ble_eq_true rfl, Nat.le_of_ble_eq_true rfl⟩ ⟨Nat.zero_le _, Nat.zero_le _⟩ rfl (Nat.le_of_ble_eq_true rfl) dX10_sightTold_14 m_rec (fun r u9 hp => ?_)
    obtain rfl := hp
    refine g_if_eq_b (tgt := 22) dX10_sightTold_17 (by decide) (fun c17 => ?_) (fun c17 => ?_)
    · skip
      refine g_aload_n 0 dX10_sightTold_22 rfl rfl ?_
      refine g_ldcS st_X10_199 dX10_sightTold_23 ?_
      refine m_cVi (ct_isWord p wGreater hs hT hR hps st_X10_199 wd_X10_199) hvX10_isWord hyX10_isWord rfl ⟨Nat.le_of_ble_eq_true rfl, Nat.le_of_ble_eq_true rfl⟩ ⟨Nat.zero_le _, Nat.zero_le _⟩ rfl (Nat.le_of_ble_eq_true rfl) dX10_sightTold_25 m_rec (fun r u9 hp => ?_)
      obtain rfl := hp
      refine g_if_eq_b (tgt := 33) dX10_sightTold_28 (by decide) (fun c28 => ?_) (fun c28 => ?_)
      · skip
        refine g_aload_n 0 dX10_sightTold_33 rfl rfl ?_
        refine g_ldcS st_X10_201 dX10_sightTold_34 ?_
        refine m_cVi (ct_isWord p wLess hs hT hR hps st_X10_201 wd_X10_201) hvX10_isWord hyX10_isWord rfl ⟨Nat.le_of_ble_eq_true rfl, Nat.le_of_ble_eq_true rfl⟩ ⟨Nat.zero_le _, Nat.zero_le _⟩ rfl (Nat.le_of_ble_eq_true rfl) dX10_sightTold_36 m_rec (fun r u9 hp => ?_)
        obtain rfl := hp
        refine g_if_eq_b (tgt := 44) dX10_sightTold_39 (by decide) (fun c39 => ?_) (fun c39 => ?_)
        · skip
          refine g_aload_n 0 dX10_sightTold_44 rfl rfl ?_
          refine g_ldcS st_X10_203 dX10_sightTold_45 ?_
          refine m_cVi (ct_isWord p wDifference hs hT hR hps st_X10_203 wd_X10_203) hvX10_isWord hyX10_isWord rfl ⟨Nat.le_of_ble_eq_true rfl, Nat.le_of_ble_eq_true rfl⟩ ⟨Nat.zero_le _, Nat.zero_le _⟩ rfl (Nat.le_of_ble_eq_true rfl) dX10_sightTold_47 m_rec (fun r u9 hp => ?_)
          obtain rfl := hp
          refine g_if_eq_b (tgt := 55) dX10_sightTold_50 (by decide) (fun c50 => ?_) (fun c50 => ?_)
          · skip
            refine g_aload_n 0 dX10_sightTold_55 rfl rfl ?_
            refine g_ldcS st_X10_205 dX10_sightTold_56 ?_
            refine m_cVi (ct_isWord p wSquares hs hT hR hps st_X10_205 wd_X10_205) hvX10_isWord hyX10_isWord rfl ⟨Nat.le_of_ble_eq_true rfl, Nat.le_of_ble_eq_true rfl⟩ ⟨Nat.zero_le _, Nat.zero_le _⟩ rfl (Nat.le_of_ble_eq_true rfl) dX10_sightTold_58 m_rec (fun r u9 hp => ?_)
            obtain rfl := hp
            refine g_if_eq_b (tgt := 66) dX10_sightTold_61 (by decide) (fun c61 => ?_) (fun c61 => ?_)
            · skip
              refine g_aload_n 0 dX10_sightTold_66 rfl rfl ?_
              refine g_ldcS st_X10_207 dX10_sightTold_67 ?_
              refine m_cVi (ct_isWord p wOdd hs hT hR hps st_X10_207 wd_X10_207) hvX10_isWord hyX10_isWord rfl ⟨Nat.le_of_ble_eq_true rfl, Nat.le_of_ble_eq_true rfl⟩ ⟨Nat.zero_le _, Nat.zero_le _⟩ rfl (Nat.le_of_ble_eq_true rfl) dX10_sightTold_69 m_rec (fun r u9 hp => ?_)
              obtain rfl := hp
              refine g_if_eq_b (tgt := 78) dX10_sightTold_72 (by decide) (fun c72 => ?_) (fun c72 => ?_)
              · skip
                refine g_aload_n 0 dX10_sightTold_78 rfl rfl ?_
                refine g_ldcS st_X10_209 dX10_sightTold_79 ?_
                refine m_cVi (ct_isWord p wDigit hs hT hR hps st_X10_209 wd_X10_209) hvX10_isWord hyX10_isWord rfl ⟨Nat.le_of_ble_eq_true rfl, Nat.le_of_ble_eq_true rfl⟩ ⟨Nat.zero_le _, Nat.zero_le _⟩ rfl (Nat.le_of_ble_eq_true rfl) dX10_sightTold_81 m_rec (fun r u9 hp => ?_)
                obtain rfl := hp
                refine g_if_eq_b (tgt := 90) dX10_sightTold_84 (by decide) (fun c84 => ?_) (fun c84 => ?_)
                · skip
                  refine g_aload_n 0 dX10_sightTold_90 rfl rfl ?_
                  refine g_ldcS st_X10_211 dX10_sightTold_91 ?_
                  refine m_cVi (ct_isWord p wNothing hs hT hR hps st_X10_211 wd_X10_211) hvX10_isWord hyX10_isWord rfl ⟨Nat.le_of_ble_eq_true rfl, Nat.le_of_ble_eq_true rfl⟩ ⟨Nat.zero_le _, Nat.zero_le _⟩ rfl (Nat.le_of_ble_eq_true rfl) dX10_sightTold_93 m_rec (fun r u9 hp => ?_)
                  obtain rfl := hp
                  refine g_if_eq_b (tgt := 104) dX10_sightTold_96 (by decide) (fun c96 => ?_) (fun c96 => ?_)
                  · skip
                    refine g_iconst (v := -1) dX10_sightTold_104 (by decide +kernel) ?_
                    exact g_iret () dX10_sightTold_105 (Nat.le_refl _) (Nat.le_refl _) (by first | (unfold sightOf; rw [if_neg (by rw [c6]; decide), if_neg (by rw [c17]; decide), if_neg (by rw [c28]; decide), if_neg (by rw [c39]; decide), if_neg (by rw [c50]; decide), if_neg (by rw [c61]; decide), if_neg (by rw [c72]; decide), if_neg (by rw [c84]; decide), if_pos c96]; rfl) | (unfold sightOf; rw [if_neg (by rw [c6]; decide), if_neg (by rw [c17]; decide), if_neg (by rw [c28]; decide), if_neg (by rw [c39]; decide), if_neg (by rw [c50]; decide), if_neg (by rw [c61]; decide), if_neg (by rw [c72]; decide), if_neg (by rw [c84]; decide), if_neg (by rw [c96]; decide)]; rfl)) (fun _ h => h)
                  · skip
                    refine g_bipush (v := nI 8) dX10_sightTold_99 (by decide +kernel) ?_
                    refine g_goto (tgt := 105) dX10_sightTold_101 (by decide) ?_
                    exact g_iret () dX10_sightTold_105 (Nat.le_refl _) (Nat.le_refl _) (by first | (unfold sightOf; rw [if_neg (by rw [c6]; decide), if_neg (by rw [c17]; decide), if_neg (by rw [c28]; decide), if_neg (by rw [c39]; decide), if_neg (by rw [c50]; decide), if_neg (by rw [c61]; decide), if_neg (by rw [c72]; decide), if_neg (by rw [c84]; decide), if_pos c96]; rfl) | (unfold sightOf; rw [if_neg (by rw [c6]; decide), if_neg (by rw [c17]; decide), if_neg (by rw [c28]; decide), if_neg (by rw [c39]; decide), if_neg (by rw [c50]; decide), if_neg (by rw [c61]; decide), if_neg (by rw [c72]; decide), if_neg (by rw [c84]; decide), if_neg (by rw [c96]; decide)]; rfl)) (fun _ h => h)
                · skip
                  refine g_bipush (v := nI 7) dX10_sightTold_87 (by decide +kernel) ?_
                  exact g_iret () dX10_sightTold_89 (Nat.le_refl _) (Nat.le_refl _) (by unfold sightOf; rw [if_neg (by rw [c6]; decide), if_neg (by rw [c17]; decide), if_neg (by rw [c28]; decide), if_neg (by rw [c39]; decide), if_neg (by rw [c50]; decide), if_neg (by rw [c61]; decide), if_neg (by rw [c72]; decide), if_pos c84]; rfl) (fun _ h => h)
              · skip
                refine g_bipush (v := nI 6) dX10_sightTold_75 (by decide +kernel) ?_
                exact g_iret () dX10_sightTold_77 (Nat.le_refl _) (Nat.le_refl _) (by unfold sightOf; rw [if_neg (by rw [c6]; decide), if_neg (by rw [c17]; decide), if_neg (by rw [c28]; decide), if_neg (by rw [c39]; decide), if_neg (by rw [c50]; decide), if_neg (by rw [c61]; decide), if_pos c72]; rfl) (fun _ h => h)
            · skip
              refine g_iconst (v := nI 5) dX10_sightTold_64 (by decide +kernel) ?_
              exact g_iret () dX10_sightTold_65 (Nat.le_refl _) (Nat.le_refl _) (by unfold sightOf; rw [if_neg (by rw [c6]; decide), if_neg (by rw [c17]; decide), if_neg (by rw [c28]; decide), if_neg (by rw [c39]; decide), if_neg (by rw [c50]; decide), if_pos c61]; rfl) (fun _ h => h)
          · skip
            refine g_iconst (v := nI 4) dX10_sightTold_53 (by decide +kernel) ?_
            exact g_iret () dX10_sightTold_54 (Nat.le_refl _) (Nat.le_refl _) (by unfold sightOf; rw [if_neg (by rw [c6]; decide), if_neg (by rw [c17]; decide), if_neg (by rw [c28]; decide), if_neg (by rw [c39]; decide), if_pos c50]; rfl) (fun _ h => h)
        · skip
          refine g_iconst (v := nI 3) dX10_sightTold_42 (by decide +kernel) ?_
          exact g_iret () dX10_sightTold_43 (Nat.le_refl _) (Nat.le_refl _) (by unfold sightOf; rw [if_neg (by rw [c6]; decide), if_neg (by rw [c17]; decide), if_neg (by rw [c28]; decide), if_pos c39]; rfl) (fun _ h => h)
      · skip
        refine g_iconst (v := nI 2) dX10_sightTold_31 (by decide +kernel) ?_
        exact g_iret () dX10_sightTold_32 (Nat.le_refl _) (Nat.le_refl _) (by unfold sightOf; rw [if_neg (by rw [c6]; decide), if_neg (by rw [c17]; decide), if_pos c28]; rfl) (fun _ h => h)
    · skip
      refine g_iconst (v := nI 1) dX10_sightTold_20 (by decide +kernel) ?_
      exact g_iret () dX10_sightTold_21 (Nat.le_refl _) (Nat.le_refl _) (by unfold sightOf; rw [if_neg (by rw [c6]; decide), if_pos c17]; rfl) (fun _ h => h)
  · skip
    refine g_iconst (v := nI 0) dX10_sightTold_9 (by decide +kernel) ?_
    exact g_iret () dX10_sightTold_10 (Nat.le_refl _) (Nat.le_refl _) (by unfold sightOf; rw [if_pos c6]; rfl) (fun _ h => h)
set_option maxHeartbeats 4000000 in
/-- reads a speaker -/
theorem ct_readSpeaker (p ns : Nat) (hs : size_ ≤ 900) (hT : ∀ j, tape j < 256) (hR : RdP (tape, size_) p at_ begin_ token value) (hps : p ≤ size_) (hns : fresh_ 5 = nI ns) (hn6 : ns ≤ 6) (hK1 : token = 1) : CT l D cl tys yX10_readSpeaker cX10_readSpeaker 3 none ({ frames := 6, cells := 0, slots := 0, locals := 130 } : Room) [.ref (ma 0)] (HM D cl tys mi cI cJ cZ ma known fresh_ saved images isImage thrown tape taped size_ at_ begin_ token value open_ 0 badPlace faultKind faultPlace xs ys pairs rows top heaps endsBehind path order firstOrder ordersMany tSort tMany numbers) (Qv (fun (u : (Nat → Int32) × Nat × Nat × Nat × Nat × Nat × Nat) => RdR (tape, size_) (pSpk (tape, size_) ns p) u.2.1 u.2.2.1 u.2.2.2.1 u.2.2.2.2.1 u.2.2.2.2.2.1 u.2.2.2.2.2.2 ∧ ∀ k li de z, (pSpk (tape, size_) ns p) = PR.ok (k, li, de) z → u.1 = frSpk fresh_ ns k li de) (fun (u : (Nat → Int32) × Nat × Nat × Nat × Nat × Nat × Nat) => HM D cl tys mi cI cJ cZ ma known u.1 saved images isImage thrown tape taped size_ u.2.1 u.2.2.1 u.2.2.2.1 u.2.2.2.2.1 open_ u.2.2.2.2.2.1 u.2.2.2.2.2.2 faultKind faultPlace xs ys pairs rows top heaps endsBehind path order firstOrder ordersMany tSort tMany numbers) (AM ma)) (AM ma) := by
  refine CT.of (L := [(0, .ref (ma 0))]) rfl (by decide +kernel) rfl (Nat.le_of_ble_eq_true rfl) ?_
  by_cases hn66 : ns = 6
  · skip
    have hr : (pSpk (tape, size_) ns p) = PR.no 4 (tkB (tape, size_) p) := by unfold pSpk; rw [if_pos hn66]
    refine g_aload_n 0 dX10_readSpeaker_0 rfl rfl ?_
    refine m_get_fresh dX10_readSpeaker_1 ?_
    refine g_iconst (v := nI 5) dX10_readSpeaker_4 (by decide +kernel) ?_
    refine m_ld_fresh dX10_readSpeaker_5 (by omega) ?_
    refine GG.topi hns ?_
    refine g_bipush (v := nI 6) dX10_readSpeaker_6 (by decide +kernel) ?_
    refine g_icmp_ne_n (tgt := 16) dX10_readSpeaker_8 (by decide) (by omega) (by omega) (fun c8 => ?_) (fun c8 => ?_)
    · skip
      exact absurd hn66 c8
    · skip
      refine g_aload_n 0 dX10_readSpeaker_11 rfl rfl ?_
      refine g_iconst (v := nI 4) dX10_readSpeaker_12 (by decide +kernel) ?_
      refine m_cVv (ct_blames _ hR.t4 (by decide)) hvX10_blames hyX10_blames rfl ⟨Nat.le_of_ble_eq_true rfl, Nat.le_of_ble_eq_true rfl⟩ ⟨Nat.zero_le _, Nat.zero_le _⟩ rfl (Nat.le_of_ble_eq_true rfl) dX10_readSpeaker_13 m_rec (fun u hp => ?_)
      obtain ⟨bd1, bp1⟩ := u
      obtain ⟨hk1, hl1⟩ := hp
      have hk1 : bd1 = _ := hk1
      have hl1 : bp1 = _ := hl1
      have hbd : 0 < bd1 ∧ bd1 < 10 := by rw [hk1]; split <;> decide
      refine g_aload_n 0 dX10_readSpeaker_16 rfl rfl ?_
      refine m_get_bad dX10_readSpeaker_17 ?_
      refine g_if_eq_n (tgt := 24) dX10_readSpeaker_20 (by decide) (by omega) (fun c20 => ?_) (fun c20 => ?_)
      · skip
        exact absurd c20 (by omega)
      · skip
        exact g_vret (_, _, _, _, _, _, _) dX10_readSpeaker_23 (Nat.le_refl _) (Nat.le_refl _) (by exact ⟨RdR.no hr hR.t4 hR.2.2.2.2 (by rw [hk1, if_neg (by omega)]) (by rw [hl1]; exact hR.2.1) hbd, fun k li de z e => by rw [hr] at e; exact (PR.ne e).elim⟩) (fun _ h => h)
  · skip
    rcases hq : sightOf (tape, size_) (tkE (tape, size_) p) with _ | k
    · skip
      have hr : (pSpk (tape, size_) ns p) = pWrong (tape, size_) (tkE (tape, size_) p) := by unfold pSpk; rw [if_neg hn66, hq]
      refine g_aload_n 0 dX10_readSpeaker_0 rfl rfl ?_
      refine m_get_fresh dX10_readSpeaker_1 ?_
      refine g_iconst (v := nI 5) dX10_readSpeaker_4 (by decide +kernel) ?_
      refine m_ld_fresh dX10_readSpeaker_5 (by omega) ?_
      refine GG.topi hns ?_
      refine g_bipush (v := nI 6) dX10_readSpeaker_6 (by decide +kernel) ?_
      refine g_icmp_ne_n (tgt := 16) dX10_readSpeaker_8 (by decide) (by omega) (by omega) (fun c8 => ?_) (fun c8 => ?_)
      · skip
        refine g_aload_n 0 dX10_readSpeaker_16 rfl rfl ?_
        refine m_get_bad dX10_readSpeaker_17 ?_
        refine g_if_eq_n (tgt := 24) dX10_readSpeaker_20 (by decide) (by decide) (fun _ => ?_) (fun h => absurd h (by decide))
        refine g_aload_n 0 dX10_readSpeaker_24 rfl rfl ?_
        refine m_cVv (ct_reads hs (hR.le hps).1 hR.2.2.2.2 hT) hvX10_reads hyX10_reads rfl ⟨Nat.le_of_ble_eq_true rfl, Nat.le_of_ble_eq_true rfl⟩ ⟨Nat.zero_le _, Nat.zero_le _⟩ rfl (Nat.le_of_ble_eq_true rfl) dX10_readSpeaker_25 m_rec (fun ur hrd => ?_)
        obtain ⟨a1, b1, t1, v1⟩ := ur
        have hR1 : RdP (tape, size_) (tkE (tape, size_) p) a1 b1 t1 v1 := by have hrd := hrd; rw [hR.1] at hrd; exact hrd
        have hps1 : tkE (tape, size_) p ≤ size_ := tkE_le (X := (tape, size_)) hps
        refine g_aload_n 0 dX10_readSpeaker_28 rfl rfl ?_
        refine m_cVi (ct_sightTold (tkE (tape, size_) p) hs hT hR1 hps1) hvX10_sightTold hyX10_sightTold rfl ⟨Nat.le_of_ble_eq_true rfl, Nat.le_of_ble_eq_true rfl⟩ ⟨Nat.zero_le _, Nat.zero_le _⟩ rfl (Nat.le_of_ble_eq_true rfl) dX10_readSpeaker_29 m_rec (fun r u9 hp => ?_)
        obtain rfl := hp
        refine g_istore_n (L' := [(0, _), (1, _)]) 1 dX10_readSpeaker_32 rfl (by decide) rfl rfl ?_
        refine g_iload_n 1 dX10_readSpeaker_33 rfl rfl ?_
        refine g_iconst (v := -1) dX10_readSpeaker_34 (by decide +kernel) ?_
        refine g_icmp_ne (tgt := 43) dX10_readSpeaker_35 (by decide) (fun c35 => ?_) (fun c35 => ?_)
        · skip
          exact absurd (sgtV_no hq) c35
        · skip
          refine g_aload_n 0 dX10_readSpeaker_38 rfl rfl ?_
          refine g_iconst (v := nI 2) dX10_readSpeaker_39 (by decide +kernel) ?_
          refine m_cVv (ct_blames _ hR1.t4 (by decide)) hvX10_blames hyX10_blames rfl ⟨Nat.le_of_ble_eq_true rfl, Nat.le_of_ble_eq_true rfl⟩ ⟨Nat.zero_le _, Nat.zero_le _⟩ rfl (Nat.le_of_ble_eq_true rfl) dX10_readSpeaker_40 m_rec (fun u hp => ?_)
          obtain ⟨bd2, bp2⟩ := u
          obtain ⟨hk2, hl2⟩ := hp
          have hk2 : bd2 = _ := hk2
          have hl2 : bp2 = _ := hl2
          have hbd : 0 < bd2 ∧ bd2 < 10 := by rw [hk2]; split <;> decide
          refine g_aload_n 0 dX10_readSpeaker_43 rfl rfl ?_
          refine m_get_bad dX10_readSpeaker_44 ?_
          refine g_if_eq_n (tgt := 51) dX10_readSpeaker_47 (by decide) (by omega) (fun c47 => ?_) (fun c47 => ?_)
          · skip
            exact absurd c47 (by omega)
          · skip
            exact g_vret (_, _, _, _, _, _, _) dX10_readSpeaker_50 (Nat.le_refl _) (Nat.le_refl _) (by exact ⟨RdR.no hr hR1.t4 hR1.2.2.2.2 (by rw [hk2, hR1.2.2.1]) (by rw [hl2]; exact hR1.2.1) hbd, fun k li de z e => by rw [hr] at e; exact (PR.ne e).elim⟩) (fun _ h => h)
      · skip
        exact absurd c8 hn66
    · skip
      have hk8 := (sightOf_le hq).1
      have hr : (pSpk (tape, size_) ns p) = PR.ok (k, (isW (tape, size_) wLiar (tkE (tape, size_) (tkE (tape, size_) p))), (isW (tape, size_) wDeaf (opt (tape, size_) wLiar (tkE (tape, size_) (tkE (tape, size_) p))))) (opt (tape, size_) wDeaf (opt (tape, size_) wLiar (tkE (tape, size_) (tkE (tape, size_) p)))) := by unfold pSpk; rw [if_neg hn66, hq]
      refine g_aload_n 0 dX10_readSpeaker_0 rfl rfl ?_
      refine m_get_fresh dX10_readSpeaker_1 ?_
      refine g_iconst (v := nI 5) dX10_readSpeaker_4 (by decide +kernel) ?_
      refine m_ld_fresh dX10_readSpeaker_5 (by omega) ?_
      refine GG.topi hns ?_
      refine g_bipush (v := nI 6) dX10_readSpeaker_6 (by decide +kernel) ?_
      refine g_icmp_ne_n (tgt := 16) dX10_readSpeaker_8 (by decide) (by omega) (by omega) (fun c8 => ?_) (fun c8 => ?_)
      · skip
        refine g_aload_n 0 dX10_readSpeaker_16 rfl rfl ?_
        refine m_get_bad dX10_readSpeaker_17 ?_
        refine g_if_eq_n (tgt := 24) dX10_readSpeaker_20 (by decide) (by decide) (fun _ => ?_) (fun h => absurd h (by decide))
        refine g_aload_n 0 dX10_readSpeaker_24 rfl rfl ?_
        refine m_cVv (ct_reads hs (hR.le hps).1 hR.2.2.2.2 hT) hvX10_reads hyX10_reads rfl ⟨Nat.le_of_ble_eq_true rfl, Nat.le_of_ble_eq_true rfl⟩ ⟨Nat.zero_le _, Nat.zero_le _⟩ rfl (Nat.le_of_ble_eq_true rfl) dX10_readSpeaker_25 m_rec (fun ur hrd => ?_)
        obtain ⟨a1, b1, t1, v1⟩ := ur
        have hR1 : RdP (tape, size_) (tkE (tape, size_) p) a1 b1 t1 v1 := by have hrd := hrd; rw [hR.1] at hrd; exact hrd
        have hps1 : tkE (tape, size_) p ≤ size_ := tkE_le (X := (tape, size_)) hps
        refine g_aload_n 0 dX10_readSpeaker_28 rfl rfl ?_
        refine m_cVi (ct_sightTold (tkE (tape, size_) p) hs hT hR1 hps1) hvX10_sightTold hyX10_sightTold rfl ⟨Nat.le_of_ble_eq_true rfl, Nat.le_of_ble_eq_true rfl⟩ ⟨Nat.zero_le _, Nat.zero_le _⟩ rfl (Nat.le_of_ble_eq_true rfl) dX10_readSpeaker_29 m_rec (fun r u9 hp => ?_)
        obtain rfl := hp
        refine GG.topi (sgtV_so hq) ?_
        refine g_istore_n (L' := [(0, _), (1, _)]) 1 dX10_readSpeaker_32 rfl (by decide) rfl rfl ?_
        refine g_iload_n 1 dX10_readSpeaker_33 rfl rfl ?_
        refine g_iconst (v := -1) dX10_readSpeaker_34 (by decide +kernel) ?_
        refine g_icmp_ne (tgt := 43) dX10_readSpeaker_35 (by decide) (fun c35 => ?_) (fun c35 => ?_)
        · skip
          refine g_aload_n 0 dX10_readSpeaker_43 rfl rfl ?_
          refine m_get_bad dX10_readSpeaker_44 ?_
          refine g_if_eq_n (tgt := 51) dX10_readSpeaker_47 (by decide) (by decide) (fun _ => ?_) (fun h => absurd h (by decide))
          refine g_aload_n 0 dX10_readSpeaker_51 rfl rfl ?_
          refine m_cVv (ct_reads hs (hR1.le hps1).1 hR1.2.2.2.2 hT) hvX10_reads hyX10_reads rfl ⟨Nat.le_of_ble_eq_true rfl, Nat.le_of_ble_eq_true rfl⟩ ⟨Nat.zero_le _, Nat.zero_le _⟩ rfl (Nat.le_of_ble_eq_true rfl) dX10_readSpeaker_52 m_rec (fun ur hrd => ?_)
          obtain ⟨a2, b2, t2, v2⟩ := ur
          have hR2 : RdP (tape, size_) (tkE (tape, size_) (tkE (tape, size_) p)) a2 b2 t2 v2 := by have hrd := hrd; rw [hR1.1] at hrd; exact hrd
          have hps2 : tkE (tape, size_) (tkE (tape, size_) p) ≤ size_ := tkE_le (X := (tape, size_)) hps1
          refine g_bipush (v := nI 8) dX10_readSpeaker_55 (by decide +kernel) ?_
          refine g_iconst (v := nI 3) dX10_readSpeaker_57 (by decide +kernel) ?_
          refine g_aload_n 0 dX10_readSpeaker_58 rfl rfl ?_
          refine m_get_fresh dX10_readSpeaker_59 ?_
          refine g_iconst (v := nI 5) dX10_readSpeaker_62 (by decide +kernel) ?_
          refine m_ld_fresh dX10_readSpeaker_63 (by omega) ?_
          refine GG.topi hns ?_
          refine g_imul_n dX10_readSpeaker_64 ?_
          refine g_iadd_n dX10_readSpeaker_65 ?_
          refine g_istore_n (L' := [(0, _), (1, _), (2, _)]) 2 dX10_readSpeaker_66 rfl (by decide) rfl rfl ?_
          refine g_aload_n 0 dX10_readSpeaker_67 rfl rfl ?_
          refine m_get_fresh dX10_readSpeaker_68 ?_
          refine g_iload_n 2 dX10_readSpeaker_71 rfl rfl ?_
          refine g_iconst (v := nI 0) dX10_readSpeaker_72 (by decide +kernel) ?_
          refine g_iadd_n dX10_readSpeaker_73 ?_
          refine g_iload_n 1 dX10_readSpeaker_74 rfl rfl ?_
          refine m_st_fresh dX10_readSpeaker_75 (by omega) ?_
          refine g_aload_n 0 dX10_readSpeaker_76 rfl rfl ?_
          refine m_get_fresh dX10_readSpeaker_77 ?_
          refine g_iload_n 2 dX10_readSpeaker_80 rfl rfl ?_
          refine g_iconst (v := nI 1) dX10_readSpeaker_81 (by decide +kernel) ?_
          refine g_iadd_n dX10_readSpeaker_82 ?_
          refine g_aload_n 0 dX10_readSpeaker_83 rfl rfl ?_
          refine g_ldcS st_X10_216 dX10_readSpeaker_84 ?_
          refine m_cVi (ct_took (tkE (tape, size_) (tkE (tape, size_) p)) wLiar hs hT hR2 hps2 st_X10_216 wd_X10_216) hvX10_took hyX10_took rfl ⟨Nat.le_of_ble_eq_true rfl, Nat.le_of_ble_eq_true rfl⟩ ⟨Nat.zero_le _, Nat.zero_le _⟩ rfl (Nat.le_of_ble_eq_true rfl) dX10_readSpeaker_86 m_rec (fun r u hp => ?_)
          obtain ⟨a3, b3, t3, v3⟩ := u
          obtain ⟨hp, hq3⟩ := hp
          have hR3 : RdP (tape, size_) (opt (tape, size_) wLiar (tkE (tape, size_) (tkE (tape, size_) p))) a3 b3 t3 v3 := hq3
          obtain rfl := hp
          have hps3 : opt (tape, size_) wLiar (tkE (tape, size_) (tkE (tape, size_) p)) ≤ size_ := (opt_go (X := (tape, size_)) hps2).2
          refine g_if_eq_b (tgt := 96) dX10_readSpeaker_89 (by decide) (fun c89 => ?_) (fun c89 => ?_)
          · skip
            refine g_iconst (v := nI 0) dX10_readSpeaker_96 (by decide +kernel) ?_
            refine m_st_fresh dX10_readSpeaker_97 (by omega) ?_
            refine g_aload_n 0 dX10_readSpeaker_98 rfl rfl ?_
            refine m_get_fresh dX10_readSpeaker_99 ?_
            refine g_iload_n 2 dX10_readSpeaker_102 rfl rfl ?_
            refine g_iconst (v := nI 2) dX10_readSpeaker_103 (by decide +kernel) ?_
            refine g_iadd_n dX10_readSpeaker_104 ?_
            refine g_aload_n 0 dX10_readSpeaker_105 rfl rfl ?_
            refine g_ldcS st_X10_218 dX10_readSpeaker_106 ?_
            refine m_cVi (ct_took (opt (tape, size_) wLiar (tkE (tape, size_) (tkE (tape, size_) p))) wDeaf hs hT hR3 hps3 st_X10_218 wd_X10_218) hvX10_took hyX10_took rfl ⟨Nat.le_of_ble_eq_true rfl, Nat.le_of_ble_eq_true rfl⟩ ⟨Nat.zero_le _, Nat.zero_le _⟩ rfl (Nat.le_of_ble_eq_true rfl) dX10_readSpeaker_108 m_rec (fun r u hp => ?_)
            obtain ⟨a4, b4, t4, v4⟩ := u
            obtain ⟨hp, hq4⟩ := hp
            have hR4 : RdP (tape, size_) (opt (tape, size_) wDeaf (opt (tape, size_) wLiar (tkE (tape, size_) (tkE (tape, size_) p)))) a4 b4 t4 v4 := hq4
            obtain rfl := hp
            have hps4 : opt (tape, size_) wDeaf (opt (tape, size_) wLiar (tkE (tape, size_) (tkE (tape, size_) p))) ≤ size_ := (opt_go (X := (tape, size_)) hps3).2
            refine g_if_eq_b (tgt := 118) dX10_readSpeaker_111 (by decide) (fun c111 => ?_) (fun c111 => ?_)
            · skip
              refine g_iconst (v := nI 0) dX10_readSpeaker_118 (by decide +kernel) ?_
              refine m_st_fresh dX10_readSpeaker_119 (by omega) ?_
              refine g_aload_n 0 dX10_readSpeaker_120 rfl rfl ?_
              refine m_get_fresh dX10_readSpeaker_121 ?_
              refine g_iconst (v := nI 5) dX10_readSpeaker_124 (by decide +kernel) ?_
              refine g_dup2_11 dX10_readSpeaker_125 rfl rfl ?_
              refine m_ld_fresh dX10_readSpeaker_126 (by omega) ?_
              refine GG.topi (y := nI ns) (by rw [up_n (by omega), up_n (by omega), up_n (by omega)]; exact hns) ?_
              refine g_iconst (v := nI 1) dX10_readSpeaker_127 (by decide +kernel) ?_
              refine g_iadd_n dX10_readSpeaker_128 ?_
              refine m_st_fresh dX10_readSpeaker_129 (by omega) ?_
              exact g_vret (_, _, _, _, _, _, _) dX10_readSpeaker_130 (Nat.le_refl _) (Nat.le_refl _) (by refine ⟨RdR.ok hr hR4 hps4, fun k2 li de z e => ?_⟩; rw [hr] at e; obtain ⟨e1, e2⟩ := PR.inj e; cases e1; unfold frSpk; rw [c89, c111]; rfl) (fun _ h => h)
            · skip
              refine g_iconst (v := nI 1) dX10_readSpeaker_114 (by decide +kernel) ?_
              refine g_goto (tgt := 119) dX10_readSpeaker_115 (by decide) ?_
              refine m_st_fresh dX10_readSpeaker_119 (by omega) ?_
              refine g_aload_n 0 dX10_readSpeaker_120 rfl rfl ?_
              refine m_get_fresh dX10_readSpeaker_121 ?_
              refine g_iconst (v := nI 5) dX10_readSpeaker_124 (by decide +kernel) ?_
              refine g_dup2_11 dX10_readSpeaker_125 rfl rfl ?_
              refine m_ld_fresh dX10_readSpeaker_126 (by omega) ?_
              refine GG.topi (y := nI ns) (by rw [up_n (by omega), up_n (by omega), up_n (by omega)]; exact hns) ?_
              refine g_iconst (v := nI 1) dX10_readSpeaker_127 (by decide +kernel) ?_
              refine g_iadd_n dX10_readSpeaker_128 ?_
              refine m_st_fresh dX10_readSpeaker_129 (by omega) ?_
              exact g_vret (_, _, _, _, _, _, _) dX10_readSpeaker_130 (Nat.le_refl _) (Nat.le_refl _) (by refine ⟨RdR.ok hr hR4 hps4, fun k2 li de z e => ?_⟩; rw [hr] at e; obtain ⟨e1, e2⟩ := PR.inj e; cases e1; unfold frSpk; rw [c89, c111]; rfl) (fun _ h => h)
          · skip
            refine g_iconst (v := nI 1) dX10_readSpeaker_92 (by decide +kernel) ?_
            refine g_goto (tgt := 97) dX10_readSpeaker_93 (by decide) ?_
            refine m_st_fresh dX10_readSpeaker_97 (by omega) ?_
            refine g_aload_n 0 dX10_readSpeaker_98 rfl rfl ?_
            refine m_get_fresh dX10_readSpeaker_99 ?_
            refine g_iload_n 2 dX10_readSpeaker_102 rfl rfl ?_
            refine g_iconst (v := nI 2) dX10_readSpeaker_103 (by decide +kernel) ?_
            refine g_iadd_n dX10_readSpeaker_104 ?_
            refine g_aload_n 0 dX10_readSpeaker_105 rfl rfl ?_
            refine g_ldcS st_X10_218 dX10_readSpeaker_106 ?_
            refine m_cVi (ct_took (opt (tape, size_) wLiar (tkE (tape, size_) (tkE (tape, size_) p))) wDeaf hs hT hR3 hps3 st_X10_218 wd_X10_218) hvX10_took hyX10_took rfl ⟨Nat.le_of_ble_eq_true rfl, Nat.le_of_ble_eq_true rfl⟩ ⟨Nat.zero_le _, Nat.zero_le _⟩ rfl (Nat.le_of_ble_eq_true rfl) dX10_readSpeaker_108 m_rec (fun r u hp => ?_)
            obtain ⟨a4, b4, t4, v4⟩ := u
            obtain ⟨hp, hq4⟩ := hp
            have hR4 : RdP (tape, size_) (opt (tape, size_) wDeaf (opt (tape, size_) wLiar (tkE (tape, size_) (tkE (tape, size_) p)))) a4 b4 t4 v4 := hq4
            obtain rfl := hp
            have hps4 : opt (tape, size_) wDeaf (opt (tape, size_) wLiar (tkE (tape, size_) (tkE (tape, size_) p))) ≤ size_ := (opt_go (X := (tape, size_)) hps3).2
            refine g_if_eq_b (tgt := 118) dX10_readSpeaker_111 (by decide) (fun c111 => ?_) (fun c111 => ?_)
            · skip
              refine g_iconst (v := nI 0) dX10_readSpeaker_118 (by decide +kernel) ?_
              refine m_st_fresh dX10_readSpeaker_119 (by omega) ?_
              refine g_aload_n 0 dX10_readSpeaker_120 rfl rfl ?_
              refine m_get_fresh dX10_readSpeaker_121 ?_
              refine g_iconst (v := nI 5) dX10_readSpeaker_124 (by decide +kernel) ?_
              refine g_dup2_11 dX10_readSpeaker_125 rfl rfl ?_
              refine m_ld_fresh dX10_readSpeaker_126 (by omega) ?_
              refine GG.topi (y := nI ns) (by rw [up_n (by omega), up_n (by omega), up_n (by omega)]; exact hns) ?_
              refine g_iconst (v := nI 1) dX10_readSpeaker_127 (by decide +kernel) ?_
              refine g_iadd_n dX10_readSpeaker_128 ?_
              refine m_st_fresh dX10_readSpeaker_129 (by omega) ?_
              exact g_vret (_, _, _, _, _, _, _) dX10_readSpeaker_130 (Nat.le_refl _) (Nat.le_refl _) (by refine ⟨RdR.ok hr hR4 hps4, fun k2 li de z e => ?_⟩; rw [hr] at e; obtain ⟨e1, e2⟩ := PR.inj e; cases e1; unfold frSpk; rw [c89, c111]; rfl) (fun _ h => h)
            · skip
              refine g_iconst (v := nI 1) dX10_readSpeaker_114 (by decide +kernel) ?_
              refine g_goto (tgt := 119) dX10_readSpeaker_115 (by decide) ?_
              refine m_st_fresh dX10_readSpeaker_119 (by omega) ?_
              refine g_aload_n 0 dX10_readSpeaker_120 rfl rfl ?_
              refine m_get_fresh dX10_readSpeaker_121 ?_
              refine g_iconst (v := nI 5) dX10_readSpeaker_124 (by decide +kernel) ?_
              refine g_dup2_11 dX10_readSpeaker_125 rfl rfl ?_
              refine m_ld_fresh dX10_readSpeaker_126 (by omega) ?_
              refine GG.topi (y := nI ns) (by rw [up_n (by omega), up_n (by omega), up_n (by omega)]; exact hns) ?_
              refine g_iconst (v := nI 1) dX10_readSpeaker_127 (by decide +kernel) ?_
              refine g_iadd_n dX10_readSpeaker_128 ?_
              refine m_st_fresh dX10_readSpeaker_129 (by omega) ?_
              exact g_vret (_, _, _, _, _, _, _) dX10_readSpeaker_130 (Nat.le_refl _) (Nat.le_refl _) (by refine ⟨RdR.ok hr hR4 hps4, fun k2 li de z e => ?_⟩; rw [hr] at e; obtain ⟨e1, e2⟩ := PR.inj e; cases e1; unfold frSpk; rw [c89, c111]; rfl) (fun _ h => h)
        · skip
          exact absurd c35 (nI_m1 (by omega))
      · skip
        exact absurd c8 hn66
set_option maxHeartbeats 4000000 in
/-- reads a turn -/
theorem ct_readTurn (p ns nt M : Nat) (hs : size_ ≤ 900) (hT : ∀ j, tape j < 256) (hR : RdP (tape, size_) p at_ begin_ token value) (hps : p ≤ size_) (hns : fresh_ 5 = nI ns) (hn6 : ns ≤ 6) (hK1 : token = 1) (hnt : fresh_ 6 = nI nt) (hnt2 : nt ≤ 20) (hM : fresh_ 7 = nI M) (hb : bnd (tape, size_) p) (hphi : 2 * M ≤ phi (tape, size_) p) : CT l D cl tys yX10_readTurn cX10_readTurn 3 none ({ frames := 72, cells := 0, slots := 0, locals := 1790 } : Room) [.ref (ma 0)] (HM D cl tys mi cI cJ cZ ma known fresh_ saved images isImage thrown tape taped size_ at_ begin_ token value 0 0 badPlace faultKind faultPlace xs ys pairs rows top heaps endsBehind path order firstOrder ordersMany tSort tMany numbers) (Qv (fun (u : (Nat → Int32) × Nat × Nat × Nat × Nat × Nat × Nat) => RdR (tape, size_) (pTrn (tape, size_) ns nt p) u.2.1 u.2.2.1 u.2.2.2.1 u.2.2.2.2.1 u.2.2.2.2.2.1 u.2.2.2.2.2.2 ∧ ∀ s f z, (pTrn (tape, size_) ns nt p) = PR.ok (s, f) z → ∃ (M2 m : Nat) (fr : Nat → Int32), s < ns ∧ M ≤ M2 ∧ fr 7 = nI M2 ∧ SayB ns M M2 27 f m fr ∧ 2 * M2 ≤ phi (tape, size_) z ∧ bnd (tape, size_) z ∧ (∀ j, ¬ j = 7 → j < 66 + 4 * M → fr j = fresh_ j) ∧ u.1 = frTrn fr nt s m) (fun (u : (Nat → Int32) × Nat × Nat × Nat × Nat × Nat × Nat) => HM D cl tys mi cI cJ cZ ma known u.1 saved images isImage thrown tape taped size_ u.2.1 u.2.2.1 u.2.2.2.1 u.2.2.2.2.1 0 u.2.2.2.2.2.1 u.2.2.2.2.2.2 faultKind faultPlace xs ys pairs rows top heaps endsBehind path order firstOrder ordersMany tSort tMany numbers) (AM ma)) (AM ma) := by
  refine CT.of (L := [(0, .ref (ma 0))]) rfl (by decide +kernel) rfl (Nat.le_of_ble_eq_true rfl) ?_
  by_cases hn20 : nt = 20
  · skip
    have hr : (pTrn (tape, size_) ns nt p) = PR.no 4 (tkB (tape, size_) p) := by unfold pTrn; rw [if_pos hn20]
    refine g_aload_n 0 dX10_readTurn_0 rfl rfl ?_
    refine m_get_fresh dX10_readTurn_1 ?_
    refine g_bipush (v := nI 6) dX10_readTurn_4 (by decide +kernel) ?_
    refine m_ld_fresh dX10_readTurn_6 (by omega) ?_
    refine GG.topi hnt ?_
    refine g_bipush (v := nI 20) dX10_readTurn_7 (by decide +kernel) ?_
    refine g_icmp_ne_n (tgt := 17) dX10_readTurn_9 (by decide) (by omega) (by omega) (fun c9 => ?_) (fun c9 => ?_)
    · skip
      exact absurd hn20 c9
    · skip
      refine g_aload_n 0 dX10_readTurn_12 rfl rfl ?_
      refine g_iconst (v := nI 4) dX10_readTurn_13 (by decide +kernel) ?_
      refine m_cVv (ct_blames _ hR.t4 (by decide)) hvX10_blames hyX10_blames rfl ⟨Nat.le_of_ble_eq_true rfl, Nat.le_of_ble_eq_true rfl⟩ ⟨Nat.zero_le _, Nat.zero_le _⟩ rfl (Nat.le_of_ble_eq_true rfl) dX10_readTurn_14 m_rec (fun u hp => ?_)
      obtain ⟨bd1, bp1⟩ := u
      obtain ⟨hk1, hl1⟩ := hp
      have hk1 : bd1 = _ := hk1
      have hl1 : bp1 = _ := hl1
      have hbd : 0 < bd1 ∧ bd1 < 10 := by rw [hk1]; split <;> decide
      refine g_aload_n 0 dX10_readTurn_17 rfl rfl ?_
      refine m_get_bad dX10_readTurn_18 ?_
      refine g_if_eq_n (tgt := 25) dX10_readTurn_21 (by decide) (by omega) (fun c21 => ?_) (fun c21 => ?_)
      · skip
        exact absurd c21 (by omega)
      · skip
        exact g_vret (_, _, _, _, _, _, _) dX10_readTurn_24 (Nat.le_refl _) (Nat.le_refl _) (by exact ⟨RdR.no hr hR.t4 hR.2.2.2.2 (by rw [hk1, if_neg (by omega)]) (by rw [hl1]; exact hR.2.1) hbd, fun s f z e => by rw [hr] at e; exact (PR.ne e).elim⟩) (fun _ h => h)
  · skip
    rcases hq : pNum (tape, size_) 0 ns (tkE (tape, size_) p) with ⟨k, l9⟩ | ⟨s, q⟩
    · skip
      have hr : (pTrn (tape, size_) ns nt p) = PR.no k l9 := by unfold pTrn; rw [if_neg hn20, hq]; rfl
      refine g_aload_n 0 dX10_readTurn_0 rfl rfl ?_
      refine m_get_fresh dX10_readTurn_1 ?_
      refine g_bipush (v := nI 6) dX10_readTurn_4 (by decide +kernel) ?_
      refine m_ld_fresh dX10_readTurn_6 (by omega) ?_
      refine GG.topi hnt ?_
      refine g_bipush (v := nI 20) dX10_readTurn_7 (by decide +kernel) ?_
      refine g_icmp_ne_n (tgt := 17) dX10_readTurn_9 (by decide) (by omega) (by omega) (fun c9 => ?_) (fun c9 => ?_)
      · skip
        refine g_aload_n 0 dX10_readTurn_17 rfl rfl ?_
        refine m_get_bad dX10_readTurn_18 ?_
        refine g_if_eq_n (tgt := 25) dX10_readTurn_21 (by decide) (by decide) (fun _ => ?_) (fun h => absurd h (by decide))
        refine g_aload_n 0 dX10_readTurn_25 rfl rfl ?_
        refine m_cVv (ct_reads hs (hR.le hps).1 hR.2.2.2.2 hT) hvX10_reads hyX10_reads rfl ⟨Nat.le_of_ble_eq_true rfl, Nat.le_of_ble_eq_true rfl⟩ ⟨Nat.zero_le _, Nat.zero_le _⟩ rfl (Nat.le_of_ble_eq_true rfl) dX10_readTurn_26 m_rec (fun ur hrd => ?_)
        obtain ⟨a1, b1, t1, v1⟩ := ur
        have hR1 : RdP (tape, size_) (tkE (tape, size_) p) a1 b1 t1 v1 := by have hrd := hrd; rw [hR.1] at hrd; exact hrd
        have hps1 : tkE (tape, size_) p ≤ size_ := tkE_le (X := (tape, size_)) hps
        refine g_aload_n 0 dX10_readTurn_29 rfl rfl ?_
        refine m_cVi (ct_speakerTold (tkE (tape, size_) p) ns hs hT hR1 hps1 hns hn6) hvX10_speakerTold hyX10_speakerTold rfl ⟨Nat.le_of_ble_eq_true rfl, Nat.le_of_ble_eq_true rfl⟩ ⟨Nat.zero_le _, Nat.zero_le _⟩ rfl (Nat.le_of_ble_eq_true rfl) dX10_readTurn_30 m_rec (fun r u hp => ?_)
        obtain ⟨a2, b2, t2, v2, bd2, bp2⟩ := u
        obtain ⟨hr2, hv2, hw2⟩ := hp
        obtain ⟨ht4, hv9, hk2, hl2, hbd⟩ := hr2.isno hq
        have hbd : 0 < bd2 ∧ bd2 < 10 := hbd
        refine g_istore_n (L' := [(0, _), (1, _)]) 1 dX10_readTurn_33 rfl (by decide) rfl rfl ?_
        refine g_aload_n 0 dX10_readTurn_34 rfl rfl ?_
        refine m_get_bad dX10_readTurn_35 ?_
        refine g_if_ne_n (tgt := 48) dX10_readTurn_38 (by decide) (by omega) (fun c38 => ?_) (fun c38 => ?_)
        · skip
          refine g_iconst (v := nI 0) dX10_readTurn_48 (by decide +kernel) ?_
          refine g_istore_n (L' := [(0, _), (1, _), (2, _)]) 2 dX10_readTurn_49 rfl (by decide) rfl rfl ?_
          refine g_aload_n 0 dX10_readTurn_50 rfl rfl ?_
          refine m_get_bad dX10_readTurn_51 ?_
          refine g_if_eq_n (tgt := 58) dX10_readTurn_54 (by decide) (by omega) (fun c54 => ?_) (fun c54 => ?_)
          · skip
            exact absurd c54 (by omega)
          · skip
            exact g_vret (_, _, _, _, _, _, _) dX10_readTurn_57 (Nat.le_refl _) (Nat.le_refl _) (by exact ⟨RdR.no hr ht4 hv9 hk2 hl2 hbd, fun s f z e => by rw [hr] at e; exact (PR.ne e).elim⟩) (fun _ h => h)
        · skip
          exact absurd c38 (by omega)
      · skip
        exact absurd c9 hn20
    · skip
      have hsn := pNum_ok hq
      rcases hq2 : pSay (tape, size_) ns q with ⟨k, l9⟩ | ⟨f, r9⟩
      · skip
        have hr : (pTrn (tape, size_) ns nt p) = PR.no k l9 := by unfold pTrn; rw [if_neg hn20, hq]; show PR.bind (pSay (tape, size_) ns q) _ = _; rw [hq2]; rfl
        refine g_aload_n 0 dX10_readTurn_0 rfl rfl ?_
        refine m_get_fresh dX10_readTurn_1 ?_
        refine g_bipush (v := nI 6) dX10_readTurn_4 (by decide +kernel) ?_
        refine m_ld_fresh dX10_readTurn_6 (by omega) ?_
        refine GG.topi hnt ?_
        refine g_bipush (v := nI 20) dX10_readTurn_7 (by decide +kernel) ?_
        refine g_icmp_ne_n (tgt := 17) dX10_readTurn_9 (by decide) (by omega) (by omega) (fun c9 => ?_) (fun c9 => ?_)
        · skip
          refine g_aload_n 0 dX10_readTurn_17 rfl rfl ?_
          refine m_get_bad dX10_readTurn_18 ?_
          refine g_if_eq_n (tgt := 25) dX10_readTurn_21 (by decide) (by decide) (fun _ => ?_) (fun h => absurd h (by decide))
          refine g_aload_n 0 dX10_readTurn_25 rfl rfl ?_
          refine m_cVv (ct_reads hs (hR.le hps).1 hR.2.2.2.2 hT) hvX10_reads hyX10_reads rfl ⟨Nat.le_of_ble_eq_true rfl, Nat.le_of_ble_eq_true rfl⟩ ⟨Nat.zero_le _, Nat.zero_le _⟩ rfl (Nat.le_of_ble_eq_true rfl) dX10_readTurn_26 m_rec (fun ur hrd => ?_)
          obtain ⟨a1, b1, t1, v1⟩ := ur
          have hR1 : RdP (tape, size_) (tkE (tape, size_) p) a1 b1 t1 v1 := by have hrd := hrd; rw [hR.1] at hrd; exact hrd
          have hps1 : tkE (tape, size_) p ≤ size_ := tkE_le (X := (tape, size_)) hps
          refine g_aload_n 0 dX10_readTurn_29 rfl rfl ?_
          refine m_cVi (ct_speakerTold (tkE (tape, size_) p) ns hs hT hR1 hps1 hns hn6) hvX10_speakerTold hyX10_speakerTold rfl ⟨Nat.le_of_ble_eq_true rfl, Nat.le_of_ble_eq_true rfl⟩ ⟨Nat.zero_le _, Nat.zero_le _⟩ rfl (Nat.le_of_ble_eq_true rfl) dX10_readTurn_30 m_rec (fun r u hp => ?_)
          obtain ⟨a2, b2, t2, v2, bd2, bp2⟩ := u
          obtain ⟨hr2, hv2, hw2⟩ := hp
          obtain ⟨hz2, hR2, hps2⟩ := hr2.isok hq
          have hz2 : bd2 = 0 := hz2
          subst hz2
          dsimp only
          have hps2 : q ≤ size_ := hps2
          refine GG.topi (hv2 s q hq) ?_
          refine g_istore_n (L' := [(0, _), (1, _)]) 1 dX10_readTurn_33 rfl (by decide) rfl rfl ?_
          refine g_aload_n 0 dX10_readTurn_34 rfl rfl ?_
          refine m_get_bad dX10_readTurn_35 ?_
          refine g_if_ne_n (tgt := 48) dX10_readTurn_38 (by decide) (by decide) (fun h => absurd h (by decide)) (fun _ => ?_)
          refine g_aload_n 0 dX10_readTurn_41 rfl rfl ?_
          refine m_cVi (rd_say FUEL q M ns hs hT hR2 hps2 (pNum_phi hq).1 hns hn6 hM (by have := phi_any (X := (tape, size_)) (p := p) (by rw [← hR.2.2.1, hK1]; decide); have := (pNum_phi hq).2; omega) (Nat.zero_le _) (pSay_ends hs hps2)) hvX10_readSaying hyX10_readSaying rfl ⟨Nat.le_of_ble_eq_true rfl, Nat.le_of_ble_eq_true rfl⟩ ⟨Nat.zero_le _, Nat.zero_le _⟩ rfl (Nat.le_of_ble_eq_true rfl) dX10_readTurn_42 m_rec (fun r u hp => ?_)
          obtain ⟨fr3, a3, b3, t3, v3, bd3, bp3⟩ := u
          obtain ⟨hr3, he3⟩ := hp
          obtain ⟨ht4, hv9, hk3, hl3, hbd⟩ := hr3.isno hq2
          have hbd : 0 < bd3 ∧ bd3 < 10 := hbd
          refine g_goto (tgt := 49) dX10_readTurn_45 (by decide) ?_
          refine g_istore_n (L' := [(0, _), (1, _), (2, _)]) 2 dX10_readTurn_49 rfl (by decide) rfl rfl ?_
          refine g_aload_n 0 dX10_readTurn_50 rfl rfl ?_
          refine m_get_bad dX10_readTurn_51 ?_
          refine g_if_eq_n (tgt := 58) dX10_readTurn_54 (by decide) (by omega) (fun c54 => ?_) (fun c54 => ?_)
          · skip
            exact absurd c54 (by omega)
          · skip
            exact g_vret (_, _, _, _, _, _, _) dX10_readTurn_57 (Nat.le_refl _) (Nat.le_refl _) (by exact ⟨RdR.no hr ht4 hv9 hk3 hl3 hbd, fun s f z e => by rw [hr] at e; exact (PR.ne e).elim⟩) (fun _ h => h)
        · skip
          exact absurd c9 hn20
      · skip
        have hr : (pTrn (tape, size_) ns nt p) = PR.ok (s, f) r9 := by unfold pTrn; rw [if_neg hn20, hq]; show PR.bind (pSay (tape, size_) ns q) _ = _; rw [hq2]; rfl
        refine g_aload_n 0 dX10_readTurn_0 rfl rfl ?_
        refine m_get_fresh dX10_readTurn_1 ?_
        refine g_bipush (v := nI 6) dX10_readTurn_4 (by decide +kernel) ?_
        refine m_ld_fresh dX10_readTurn_6 (by omega) ?_
        refine GG.topi hnt ?_
        refine g_bipush (v := nI 20) dX10_readTurn_7 (by decide +kernel) ?_
        refine g_icmp_ne_n (tgt := 17) dX10_readTurn_9 (by decide) (by omega) (by omega) (fun c9 => ?_) (fun c9 => ?_)
        · skip
          refine g_aload_n 0 dX10_readTurn_17 rfl rfl ?_
          refine m_get_bad dX10_readTurn_18 ?_
          refine g_if_eq_n (tgt := 25) dX10_readTurn_21 (by decide) (by decide) (fun _ => ?_) (fun h => absurd h (by decide))
          refine g_aload_n 0 dX10_readTurn_25 rfl rfl ?_
          refine m_cVv (ct_reads hs (hR.le hps).1 hR.2.2.2.2 hT) hvX10_reads hyX10_reads rfl ⟨Nat.le_of_ble_eq_true rfl, Nat.le_of_ble_eq_true rfl⟩ ⟨Nat.zero_le _, Nat.zero_le _⟩ rfl (Nat.le_of_ble_eq_true rfl) dX10_readTurn_26 m_rec (fun ur hrd => ?_)
          obtain ⟨a1, b1, t1, v1⟩ := ur
          have hR1 : RdP (tape, size_) (tkE (tape, size_) p) a1 b1 t1 v1 := by have hrd := hrd; rw [hR.1] at hrd; exact hrd
          have hps1 : tkE (tape, size_) p ≤ size_ := tkE_le (X := (tape, size_)) hps
          refine g_aload_n 0 dX10_readTurn_29 rfl rfl ?_
          refine m_cVi (ct_speakerTold (tkE (tape, size_) p) ns hs hT hR1 hps1 hns hn6) hvX10_speakerTold hyX10_speakerTold rfl ⟨Nat.le_of_ble_eq_true rfl, Nat.le_of_ble_eq_true rfl⟩ ⟨Nat.zero_le _, Nat.zero_le _⟩ rfl (Nat.le_of_ble_eq_true rfl) dX10_readTurn_30 m_rec (fun r u hp => ?_)
          obtain ⟨a2, b2, t2, v2, bd2, bp2⟩ := u
          obtain ⟨hr2, hv2, hw2⟩ := hp
          obtain ⟨hz2, hR2, hps2⟩ := hr2.isok hq
          have hz2 : bd2 = 0 := hz2
          subst hz2
          dsimp only
          have hps2 : q ≤ size_ := hps2
          refine GG.topi (hv2 s q hq) ?_
          refine g_istore_n (L' := [(0, _), (1, _)]) 1 dX10_readTurn_33 rfl (by decide) rfl rfl ?_
          refine g_aload_n 0 dX10_readTurn_34 rfl rfl ?_
          refine m_get_bad dX10_readTurn_35 ?_
          refine g_if_ne_n (tgt := 48) dX10_readTurn_38 (by decide) (by decide) (fun h => absurd h (by decide)) (fun _ => ?_)
          refine g_aload_n 0 dX10_readTurn_41 rfl rfl ?_
          refine m_cVi (rd_say FUEL q M ns hs hT hR2 hps2 (pNum_phi hq).1 hns hn6 hM (by have := phi_any (X := (tape, size_)) (p := p) (by rw [← hR.2.2.1, hK1]; decide); have := (pNum_phi hq).2; omega) (Nat.zero_le _) (pSay_ends hs hps2)) hvX10_readSaying hyX10_readSaying rfl ⟨Nat.le_of_ble_eq_true rfl, Nat.le_of_ble_eq_true rfl⟩ ⟨Nat.zero_le _, Nat.zero_le _⟩ rfl (Nat.le_of_ble_eq_true rfl) dX10_readTurn_42 m_rec (fun r u hp => ?_)
          obtain ⟨fr3, a3, b3, t3, v3, bd3, bp3⟩ := u
          obtain ⟨hr3, he3⟩ := hp
          obtain ⟨hz3, hR3, hps3⟩ := hr3.isok hq2
          have hz3 : bd3 = 0 := hz3
          subst hz3
          dsimp only
          obtain ⟨M3, m3, g31, g32, g33, g34, g35, g36, g37⟩ := he3 f r9 hq2
          have hf6 : fr3 6 = nI nt := (g37 6 (by decide) (by omega)).trans hnt
          refine GG.topi g32 ?_
          refine g_goto (tgt := 49) dX10_readTurn_45 (by decide) ?_
          refine g_istore_n (L' := [(0, _), (1, _), (2, _)]) 2 dX10_readTurn_49 rfl (by decide) rfl rfl ?_
          refine g_aload_n 0 dX10_readTurn_50 rfl rfl ?_
          refine m_get_bad dX10_readTurn_51 ?_
          refine g_if_eq_n (tgt := 58) dX10_readTurn_54 (by decide) (by decide) (fun _ => ?_) (fun h => absurd h (by decide))
          refine g_aload_n 0 dX10_readTurn_58 rfl rfl ?_
          refine m_get_fresh dX10_readTurn_59 ?_
          refine g_bipush (v := nI 26) dX10_readTurn_62 (by decide +kernel) ?_
          refine g_iconst (v := nI 2) dX10_readTurn_64 (by decide +kernel) ?_
          refine g_aload_n 0 dX10_readTurn_65 rfl rfl ?_
          refine m_get_fresh dX10_readTurn_66 ?_
          refine g_bipush (v := nI 6) dX10_readTurn_69 (by decide +kernel) ?_
          refine m_ld_fresh dX10_readTurn_71 (by omega) ?_
          refine GG.topi hf6 ?_
          refine g_imul_n dX10_readTurn_72 ?_
          refine g_iadd_n dX10_readTurn_73 ?_
          refine g_iload_n 1 dX10_readTurn_74 rfl rfl ?_
          refine m_st_fresh dX10_readTurn_75 (by omega) ?_
          refine g_aload_n 0 dX10_readTurn_76 rfl rfl ?_
          refine m_get_fresh dX10_readTurn_77 ?_
          refine g_bipush (v := nI 26) dX10_readTurn_80 (by decide +kernel) ?_
          refine g_iconst (v := nI 2) dX10_readTurn_82 (by decide +kernel) ?_
          refine g_aload_n 0 dX10_readTurn_83 rfl rfl ?_
          refine m_get_fresh dX10_readTurn_84 ?_
          refine g_bipush (v := nI 6) dX10_readTurn_87 (by decide +kernel) ?_
          refine m_ld_fresh dX10_readTurn_89 (by omega) ?_
          refine GG.topi (y := nI nt) (by rw [up_n (by omega)]; exact hf6) ?_
          refine g_imul_n dX10_readTurn_90 ?_
          refine g_iadd_n dX10_readTurn_91 ?_
          refine g_iconst (v := nI 1) dX10_readTurn_92 (by decide +kernel) ?_
          refine g_iadd_n dX10_readTurn_93 ?_
          refine g_iload_n 2 dX10_readTurn_94 rfl rfl ?_
          refine m_st_fresh dX10_readTurn_95 (by omega) ?_
          refine g_aload_n 0 dX10_readTurn_96 rfl rfl ?_
          refine m_get_fresh dX10_readTurn_97 ?_
          refine g_bipush (v := nI 6) dX10_readTurn_100 (by decide +kernel) ?_
          refine g_dup2_11 dX10_readTurn_102 rfl rfl ?_
          refine m_ld_fresh dX10_readTurn_103 (by omega) ?_
          refine GG.topi (y := nI nt) (by rw [up_n (by omega), up_n (by omega)]; exact hf6) ?_
          refine g_iconst (v := nI 1) dX10_readTurn_104 (by decide +kernel) ?_
          refine g_iadd_n dX10_readTurn_105 ?_
          refine m_st_fresh dX10_readTurn_106 (by omega) ?_
          exact g_vret (_, _, _, _, _, _, _) dX10_readTurn_107 (Nat.le_refl _) (Nat.le_refl _) (by refine ⟨RdR.ok hr hR3 hps3, fun s2 f2 z e => ?_⟩; rw [hr] at e; obtain ⟨e1, e2⟩ := PR.inj e; cases e1; cases e2; exact ⟨M3, m3, fr3, hsn.2.2.2.1, g31, g33, g34, (by have hz : 2 * M ≤ phi (tape, size_) q := (by have := phi_any (X := (tape, size_)) (p := p) (by rw [← hR.2.2.1, hK1]; decide); have := (pNum_phi hq).2; omega); omega), g36, g37, rfl⟩) (fun _ h => h)
        · skip
          exact absurd c9 hn20
end
