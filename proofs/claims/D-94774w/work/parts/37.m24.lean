/-! READING: the whole text -/
set_option maxRecDepth 100000
/-- what is answered to a talk: what is thrown, the answer, the fault's kind and place, how much is taped, and which talk is known then -/
def isTalk (T : Talk) (tape : Nat → Nat) (taped : Nat) (n : Int32) (fk : Nat) (fp : Int32) (thr : Nat) (v : Int32) (fk2 : Nat) (fp2 : Int32) (tp2 : Nat) (T2 : Talk) : Prop := match iR n (taped + 1) with
  | none => thr = 1 ∧ fk2 = fk ∧ fp2 = fp ∧ tp2 = taped ∧ T2 = T
  | some i => thr = 0 ∧ tp2 = 0 ∧ match parse (tape, i) with
    | Sum.inl (k, l) => v = -10 - nI k ∧ fk2 = k ∧ fp2 = nI l ∧ T2 = T
    | Sum.inr (T3, _) => v = nI (tLines T3) ∧ fk2 = 0 ∧ fp2 = -1 ∧ T2 = T3
theorem isTalk_none {T : Talk} {tape : Nat → Nat} {taped fk : Nat} {n fp v : Int32} (h : iR n (taped + 1) = none) : isTalk T tape taped n fk fp 1 v fk fp taped T := by
  unfold isTalk; rw [h]; exact ⟨rfl, rfl, rfl, rfl, rfl⟩
theorem isTalk_no {T : Talk} {tape : Nat → Nat} {taped fk i k l : Nat} {n fp : Int32} (h : iR n (taped + 1) = some i) (hp : parse (tape, i) = PR.no k l) : isTalk T tape taped n fk fp 0 (-10 - nI k) k (nI l) 0 T := by
  unfold isTalk; rw [h]; dsimp only; rw [hp]; exact ⟨rfl, rfl, rfl, rfl, rfl, rfl⟩
theorem isTalk_ok {T T3 : Talk} {tape : Nat → Nat} {taped fk i q : Nat} {n fp : Int32} (h : iR n (taped + 1) = some i) (hp : parse (tape, i) = PR.ok T3 q) : isTalk T tape taped n fk fp 0 (nI (tLines T3)) 0 (-1) 0 T3 := by
  unfold isTalk; rw [h]; dsimp only; rw [hp]; exact ⟨rfl, rfl, rfl, rfl, rfl, rfl⟩
theorem LInv_0 (X : Txt) (g : Nat → Int32) : LInv X talk0 0 0 (begF g) := by
  obtain ⟨h1, a0, a1, a2, a3, a4, a5, a6, a7, a8⟩ := KIs0 g
  exact ⟨h1, Nat.le_refl _, Nat.zero_le _, bnd_0 X, ⟨a0, a1, a2, a3, a4, a5, a6, rfl⟩, a7, fun t ht => absurd ht (Nat.not_lt_zero _)⟩
/-! THE MODEL, 23: a talk is read -/
set_option maxRecDepth 100000
section
variable {l : Launch} {D : va_G} {cl : List vw_C} {tys : List (ClassId × FieldType)} {mi : Nat} {cI cJ cZ : ClassId} {ma : Nat → Nat} {known fresh_ saved images : Nat → Int32} {isImage : Nat → Bool} {thrown : Nat} {tape : Nat → Nat} {taped size_ at_ begin_ token value open_ bad badPlace faultKind : Nat} {faultPlace : Int32} {xs ys : Nat → Nat} {pairs : Nat} {rows : Nat → Int64} {top : Nat} {heaps : Nat → Nat} {endsBehind : Nat → Int32} {path order firstOrder : Nat → Nat} {ordersMany : Nat} {tSort : Nat → Int32} {tMany : Nat → Nat} {numbers : Nat → Int64}
set_option maxHeartbeats 8000000 in
/-- a talk is read -/
theorem ct_talk (T : Talk) (n0 : Int32) (hs9 : taped ≤ 900) (hT : ∀ j, tape j < 256) (hv9 : value < 1000) (hK : KIs known T) : CT l D cl tys yX10_talk cX10_talk 2 (some .int) ({ frames := 74, cells := 0, slots := 0, locals := 1833 } : Room) [.ref (ma 0), .int n0] (HM D cl tys mi cI cJ cZ ma known fresh_ saved images isImage thrown tape taped size_ at_ begin_ token value open_ bad badPlace faultKind faultPlace xs ys pairs rows top heaps endsBehind path order firstOrder ordersMany tSort tMany numbers) (Qi (fun (v : Int32) (u : Nat × (Nat → Int32) × (Nat → Int32) × Nat × Nat × Nat × Nat × Nat × Nat × Nat × Nat × Nat × Nat × Int32) => ∃ T2, isTalk T tape taped n0 faultKind faultPlace u.1 v u.2.2.2.2.2.2.2.2.2.2.2.2.1 u.2.2.2.2.2.2.2.2.2.2.2.2.2 u.2.2.2.1 T2 ∧ KIs u.2.1 T2 ∧ u.2.2.2.2.2.2.2.2.1 < 1000) (fun (u : Nat × (Nat → Int32) × (Nat → Int32) × Nat × Nat × Nat × Nat × Nat × Nat × Nat × Nat × Nat × Nat × Int32) => HM D cl tys mi cI cJ cZ ma u.2.1 u.2.2.1 saved images isImage u.1 tape u.2.2.2.1 u.2.2.2.2.1 u.2.2.2.2.2.1 u.2.2.2.2.2.2.1 u.2.2.2.2.2.2.2.1 u.2.2.2.2.2.2.2.2.1 u.2.2.2.2.2.2.2.2.2.1 u.2.2.2.2.2.2.2.2.2.2.1 u.2.2.2.2.2.2.2.2.2.2.2.1 u.2.2.2.2.2.2.2.2.2.2.2.2.1 u.2.2.2.2.2.2.2.2.2.2.2.2.2 xs ys pairs rows top heaps endsBehind path order firstOrder ordersMany tSort tMany numbers) (AM ma)) (AM ma) := by
  refine CT.of (L := [(0, .ref (ma 0)), (1, .int n0)]) rfl (by decide +kernel) rfl (Nat.le_of_ble_eq_true rfl) ?_
  rcases hit : iR n0 (taped + 1) with _ | i
  · skip
    refine g_aload_n 0 dX10_talk_0 rfl rfl ?_
    refine g_iconst (v := nI 0) dX10_talk_1 (by decide +kernel) ?_
    refine m_put_thrown dX10_talk_2 ?_
    refine g_iload_n 1 dX10_talk_5 rfl rfl ?_
    refine g_i2l dX10_talk_6 rfl ?_
    refine g_lconst (v := lN 0) dX10_talk_7 (by decide +kernel) ?_
    refine g_aload_n 0 dX10_talk_8 rfl rfl ?_
    refine m_get_taped dX10_talk_9 ?_
    refine g_i2l_n dX10_talk_12 (by omega) ?_
    refine m_cSi (ct_within _ _ _) hsX10_within hyX10_within rfl ⟨Nat.le_of_ble_eq_true rfl, Nat.le_of_ble_eq_true rfl⟩ ⟨Nat.zero_le _, Nat.zero_le _⟩ rfl (Nat.le_of_ble_eq_true rfl) dX10_talk_13 (fun r u9 hp => ?_)
    obtain rfl := hp
    refine GG.topi (y := nI 0) (by rw [wIn_iR1 n0 (by omega), hit]; rfl) ?_
    refine g_if_ne_n (tgt := 25) dX10_talk_16 (by decide) (by decide) (fun h => absurd h (by decide)) (fun _ => ?_)
    refine g_aload_n 0 dX10_talk_19 rfl rfl ?_
    refine g_iconst (v := nI 1) dX10_talk_20 (by decide +kernel) ?_
    refine m_cVi (ct_fails _) hvX10_fails hyX10_fails rfl ⟨Nat.le_of_ble_eq_true rfl, Nat.le_of_ble_eq_true rfl⟩ ⟨Nat.zero_le _, Nat.zero_le _⟩ rfl (Nat.le_of_ble_eq_true rfl) dX10_talk_21 m_rec (fun r u9 hp => ?_)
    obtain rfl := hp
    exact g_iret (_, _, _, _, _, _, _, _, _, _, _, _, _, _) dX10_talk_24 (Nat.le_refl _) (Nat.le_refl _) (by exact ⟨T, isTalk_none hit, hK, hv9⟩) (fun _ h => h)
  · obtain ⟨hi, ei⟩ := iR_some hit
    subst ei
    have hi9 : i ≤ taped := by omega
    have loopT : ∀ (k9 : Nat) (T9 : Talk) (p M : Nat) (frq : Nat → Int32) (aq bq tq vq bpq : Nat), i - p < k9 → RdP (tape, i) p aq bq tq vq → p ≤ i → LInv (tape, i) T9 M p frq → parse (tape, i) = pText (tape, i) k9 T9 p → GG l D cl tys cX10_talk 2 (some .int) RX10 ({ frames := 74, cells := 0, slots := 0, locals := 1833 } : Room) (AM ma) MT (QM (Qi (fun (v : Int32) (u : Nat × (Nat → Int32) × (Nat → Int32) × Nat × Nat × Nat × Nat × Nat × Nat × Nat × Nat × Nat × Nat × Int32) => ∃ T2, isTalk T tape taped (nI i) faultKind faultPlace u.1 v u.2.2.2.2.2.2.2.2.2.2.2.2.1 u.2.2.2.2.2.2.2.2.2.2.2.2.2 u.2.2.2.1 T2 ∧ KIs u.2.1 T2 ∧ u.2.2.2.2.2.2.2.2.1 < 1000) (fun (u : Nat × (Nat → Int32) × (Nat → Int32) × Nat × Nat × Nat × Nat × Nat × Nat × Nat × Nat × Nat × Nat × Int32) => HM D cl tys mi cI cJ cZ ma u.2.1 u.2.2.1 saved images isImage u.1 tape u.2.2.2.1 u.2.2.2.2.1 u.2.2.2.2.2.1 u.2.2.2.2.2.2.1 u.2.2.2.2.2.2.2.1 u.2.2.2.2.2.2.2.2.1 u.2.2.2.2.2.2.2.2.2.1 u.2.2.2.2.2.2.2.2.2.2.1 u.2.2.2.2.2.2.2.2.2.2.2.1 u.2.2.2.2.2.2.2.2.2.2.2.2.1 u.2.2.2.2.2.2.2.2.2.2.2.2.2 xs ys pairs rows top heaps endsBehind path order firstOrder ordersMany tSort tMany numbers) (AM ma)) 0 0 (AM ma)) (HM D cl tys mi cI cJ cZ ma known frq saved images isImage 0 tape 0 i aq bq tq vq 0 0 bpq faultKind faultPlace xs ys pairs rows top heaps endsBehind path order firstOrder ordersMany tSort tMany numbers) 0 0 61 [(0, .ref (ma 0)), (1, .int (nI i))] [] := by
      intro k9
      induction k9 with
      | zero => intro T9 p M frq aq bq tq vq bpq hk; exact absurd hk (Nat.not_lt_zero _)
      | succ k9 ihT =>
        intro T9 p M frq aq bq tq vq bpq hk hRq hpq hL hr0
        have hst : pText (tape, i) (k9 + 1) T9 p = if tkK (tape, i) p = 0 then PR.ok T9 p else PR.bind (pLine (tape, i) T9 p) fun T2 q => pText (tape, i) k9 T2 q := rfl
        by_cases h0 : tkK (tape, i) p = 0
        · skip
          have hr : parse (tape, i) = PR.ok T9 p := by rw [hr0, hst, if_pos h0]
          refine g_aload_n 0 dX10_talk_61 rfl rfl ?_
          refine m_get_bad dX10_talk_62 ?_
          refine g_if_ne_n (tgt := 82) dX10_talk_65 (by decide) (by decide) (fun h => absurd h (by decide)) (fun _ => ?_)
          refine g_aload_n 0 dX10_talk_68 rfl rfl ?_
          refine m_get_token dX10_talk_69 ?_
          refine g_if_eq_n (tgt := 82) dX10_talk_72 (by decide) (by have := hRq.t4; omega) (fun c72 => ?_) (fun c72 => ?_)
          · skip
            refine g_aload_n 0 dX10_talk_82 rfl rfl ?_
            refine g_aload_n 0 dX10_talk_83 rfl rfl ?_
            refine m_get_bad dX10_talk_84 ?_
            refine m_put_faultKind dX10_talk_87 ?_
            refine g_aload_n 0 dX10_talk_90 rfl rfl ?_
            refine g_aload_n 0 dX10_talk_91 rfl rfl ?_
            refine m_get_bad dX10_talk_92 ?_
            refine g_if_ne_n (tgt := 102) dX10_talk_95 (by decide) (by decide) (fun h => absurd h (by decide)) (fun _ => ?_)
            refine g_iconst (v := -1) dX10_talk_98 (by decide +kernel) ?_
            refine g_goto (tgt := 106) dX10_talk_99 (by decide) ?_
            refine m_put_faultPlace dX10_talk_106 ?_
            refine g_aload_n 0 dX10_talk_109 rfl rfl ?_
            refine m_get_bad dX10_talk_110 ?_
            refine g_if_eq_n (tgt := 124) dX10_talk_113 (by decide) (by decide) (fun _ => ?_) (fun h => absurd h (by decide))
            refine g_aload_n 0 dX10_talk_124 rfl rfl ?_
            refine m_get_fresh dX10_talk_125 ?_
            refine g_aload_n 0 dX10_talk_128 rfl rfl ?_
            refine m_get_known dX10_talk_129 ?_
            refine m_cSv (ct_copies_fresh_known) hsX10_copies hyX10_copies rfl ⟨Nat.le_of_ble_eq_true rfl, Nat.le_of_ble_eq_true rfl⟩ ⟨Nat.zero_le _, Nat.zero_le _⟩ rfl (Nat.le_of_ble_eq_true rfl) dX10_talk_132 (fun u hu9 => ?_)
            have hu9 : u = cpy _ _ := hu9
            subst hu9
            refine g_aload_n 0 dX10_talk_135 rfl rfl ?_
            refine m_get_known dX10_talk_136 ?_
            refine g_iconst (v := nI 0) dX10_talk_139 (by decide +kernel) ?_
            refine m_ld_known dX10_talk_140 (by omega) ?_
            refine GG.topi (y := nI (tLines T9)) ((if_pos (show 0 < 1868 by decide)).trans hL.2.2.2.2.1.1) ?_
            exact g_iret (_, _, _, _, _, _, _, _, _, _, _, _, _, _) dX10_talk_141 (Nat.le_refl _) (Nat.le_refl _) (by exact ⟨T9, isTalk_ok hit hr, (hL.K (by omega)).congr (fun j hj => if_pos hj), hRq.2.2.2.2⟩) (fun _ h => h)
          · skip
            exact absurd (hRq.2.2.1.trans h0) c72
        · skip
          rcases hq : pLine (tape, i) T9 p with ⟨k, l9⟩ | ⟨T2, q⟩
          · skip
            have hr : parse (tape, i) = PR.no k l9 := by rw [hr0, hst, if_neg h0, hq]; rfl
            refine g_aload_n 0 dX10_talk_61 rfl rfl ?_
            refine m_get_bad dX10_talk_62 ?_
            refine g_if_ne_n (tgt := 82) dX10_talk_65 (by decide) (by decide) (fun h => absurd h (by decide)) (fun _ => ?_)
            refine g_aload_n 0 dX10_talk_68 rfl rfl ?_
            refine m_get_token dX10_talk_69 ?_
            refine g_if_eq_n (tgt := 82) dX10_talk_72 (by decide) (by have := hRq.t4; omega) (fun c72 => ?_) (fun c72 => ?_)
            · skip
              exact absurd (hRq.2.2.1.symm.trans c72) h0
            · skip
              refine g_aload_n 0 dX10_talk_75 rfl rfl ?_
              refine m_cVv (ct_readLine T9 p M (Nat.le_trans hi9 hs9) hT hRq hpq hL) hvX10_readLine hyX10_readLine rfl ⟨Nat.le_of_ble_eq_true rfl, Nat.le_of_ble_eq_true rfl⟩ ⟨Nat.zero_le _, Nat.zero_le _⟩ rfl (Nat.le_of_ble_eq_true rfl) dX10_talk_76 m_rec (fun u hp => ?_)
              obtain ⟨frz, az, bz, tz, vz, bdz, bpz⟩ := u
              obtain ⟨hrz, hez⟩ := hp
              obtain ⟨ht4, hvz, hkz, hlz, hbd⟩ := hrz.isno hq
              have hkz : bdz = k := hkz
              have hlz : bpz = l9 := hlz
              have hbd : 0 < bdz ∧ bdz < 10 := hbd
              refine g_goto (tgt := 61) dX10_talk_79 (by decide) ?_
              refine g_aload_n 0 dX10_talk_61 rfl rfl ?_
              refine m_get_bad dX10_talk_62 ?_
              refine g_if_ne_n (tgt := 82) dX10_talk_65 (by decide) (by omega) (fun c65 => ?_) (fun c65 => ?_)
              · skip
                refine g_aload_n 0 dX10_talk_82 rfl rfl ?_
                refine g_aload_n 0 dX10_talk_83 rfl rfl ?_
                refine m_get_bad dX10_talk_84 ?_
                refine m_put_faultKind dX10_talk_87 ?_
                refine g_aload_n 0 dX10_talk_90 rfl rfl ?_
                refine g_aload_n 0 dX10_talk_91 rfl rfl ?_
                refine m_get_bad dX10_talk_92 ?_
                refine g_if_ne_n (tgt := 102) dX10_talk_95 (by decide) (by omega) (fun c95 => ?_) (fun c95 => ?_)
                · skip
                  refine g_aload_n 0 dX10_talk_102 rfl rfl ?_
                  refine m_get_badPlace dX10_talk_103 ?_
                  refine m_put_faultPlace dX10_talk_106 ?_
                  refine g_aload_n 0 dX10_talk_109 rfl rfl ?_
                  refine m_get_bad dX10_talk_110 ?_
                  refine g_if_eq_n (tgt := 124) dX10_talk_113 (by decide) (by omega) (fun c113 => ?_) (fun c113 => ?_)
                  · skip
                    exact absurd c113 (by omega)
                  · skip
                    refine g_bipush (v := -10) dX10_talk_116 (by decide +kernel) ?_
                    refine g_aload_n 0 dX10_talk_118 rfl rfl ?_
                    refine m_get_bad dX10_talk_119 ?_
                    refine g_isub dX10_talk_122 ?_
                    exact g_iret (_, _, _, _, _, _, _, _, _, _, _, _, _, _) dX10_talk_123 (Nat.le_refl _) (Nat.le_refl _) (by rw [hkz, hlz]; exact ⟨T, isTalk_no hit hr, hK, hvz⟩) (fun _ h => h)
                · skip
                  exact absurd c95 (by omega)
              · skip
                exact absurd c65 (by omega)
          · skip
            have hr1 : pText (tape, i) (k9 + 1) T9 p = pText (tape, i) k9 T2 q := by rw [hst, if_neg h0, hq]; rfl
            refine g_aload_n 0 dX10_talk_61 rfl rfl ?_
            refine m_get_bad dX10_talk_62 ?_
            refine g_if_ne_n (tgt := 82) dX10_talk_65 (by decide) (by decide) (fun h => absurd h (by decide)) (fun _ => ?_)
            refine g_aload_n 0 dX10_talk_68 rfl rfl ?_
            refine m_get_token dX10_talk_69 ?_
            refine g_if_eq_n (tgt := 82) dX10_talk_72 (by decide) (by have := hRq.t4; omega) (fun c72 => ?_) (fun c72 => ?_)
            · skip
              exact absurd (hRq.2.2.1.symm.trans c72) h0
            · skip
              refine g_aload_n 0 dX10_talk_75 rfl rfl ?_
              refine m_cVv (ct_readLine T9 p M (Nat.le_trans hi9 hs9) hT hRq hpq hL) hvX10_readLine hyX10_readLine rfl ⟨Nat.le_of_ble_eq_true rfl, Nat.le_of_ble_eq_true rfl⟩ ⟨Nat.zero_le _, Nat.zero_le _⟩ rfl (Nat.le_of_ble_eq_true rfl) dX10_talk_76 m_rec (fun u hp => ?_)
              obtain ⟨frz, az, bz, tz, vz, bdz, bpz⟩ := u
              obtain ⟨hrz, hez⟩ := hp
              obtain ⟨hzz, hRz, hqz⟩ := hrz.isok hq
              have hzz : bdz = 0 := hzz
              subst hzz
              obtain ⟨M2, hLz⟩ := hez T2 q hq
              refine g_goto (tgt := 61) dX10_talk_79 (by decide) ?_
              exact ihT T2 q M2 _ _ _ _ _ _ (by have := pLine_go hq hpq; omega) hRz hqz hLz (hr0.trans hr1)
    refine g_aload_n 0 dX10_talk_0 rfl rfl ?_
    refine g_iconst (v := nI 0) dX10_talk_1 (by decide +kernel) ?_
    refine m_put_thrown dX10_talk_2 ?_
    refine g_iload_n 1 dX10_talk_5 rfl rfl ?_
    refine g_i2l dX10_talk_6 rfl ?_
    refine g_lconst (v := lN 0) dX10_talk_7 (by decide +kernel) ?_
    refine g_aload_n 0 dX10_talk_8 rfl rfl ?_
    refine m_get_taped dX10_talk_9 ?_
    refine g_i2l_n dX10_talk_12 (by omega) ?_
    refine m_cSi (ct_within _ _ _) hsX10_within hyX10_within rfl ⟨Nat.le_of_ble_eq_true rfl, Nat.le_of_ble_eq_true rfl⟩ ⟨Nat.zero_le _, Nat.zero_le _⟩ rfl (Nat.le_of_ble_eq_true rfl) dX10_talk_13 (fun r u9 hp => ?_)
    obtain rfl := hp
    refine GG.topi (y := nI 1) (by rw [show wIn (nI i).toInt64 (lN 0) (lN taped) = (iR (nI i) (taped + 1)).isSome from wIn_iR1 (nI i) (by omega), hit]; rfl) ?_
    refine g_if_ne_n (tgt := 25) dX10_talk_16 (by decide) (by decide) (fun _ => ?_) (fun h => absurd h (by decide))
    refine g_aload_n 0 dX10_talk_25 rfl rfl ?_
    refine g_iload_n 1 dX10_talk_26 rfl rfl ?_
    refine m_put_size dX10_talk_27 ?_
    refine g_aload_n 0 dX10_talk_30 rfl rfl ?_
    refine g_iconst (v := nI 0) dX10_talk_31 (by decide +kernel) ?_
    refine m_put_taped dX10_talk_32 ?_
    refine g_aload_n 0 dX10_talk_35 rfl rfl ?_
    refine g_iconst (v := nI 0) dX10_talk_36 (by decide +kernel) ?_
    refine m_put_at dX10_talk_37 ?_
    refine g_aload_n 0 dX10_talk_40 rfl rfl ?_
    refine g_iconst (v := nI 0) dX10_talk_41 (by decide +kernel) ?_
    refine m_put_bad dX10_talk_42 ?_
    refine g_aload_n 0 dX10_talk_45 rfl rfl ?_
    refine g_iconst (v := nI 0) dX10_talk_46 (by decide +kernel) ?_
    refine m_put_open dX10_talk_47 ?_
    refine g_aload_n 0 dX10_talk_50 rfl rfl ?_
    refine m_get_fresh dX10_talk_51 ?_
    refine m_cSv (ct_begins_fresh) hsX10_begins hyX10_begins rfl ⟨Nat.le_of_ble_eq_true rfl, Nat.le_of_ble_eq_true rfl⟩ ⟨Nat.zero_le _, Nat.zero_le _⟩ rfl (Nat.le_of_ble_eq_true rfl) dX10_talk_54 (fun u hu9 => ?_)
    have hu9 : u = begF fresh_ := hu9
    subst hu9
    refine g_aload_n 0 dX10_talk_57 rfl rfl ?_
    refine m_cVv (ct_reads (by omega) (Nat.zero_le _) hv9 hT) hvX10_reads hyX10_reads rfl ⟨Nat.le_of_ble_eq_true rfl, Nat.le_of_ble_eq_true rfl⟩ ⟨Nat.zero_le _, Nat.zero_le _⟩ rfl (Nat.le_of_ble_eq_true rfl) dX10_talk_58 m_rec (fun ur hrd => ?_)
    obtain ⟨a1, b1, t1, v1⟩ := ur
    have hrd : RdP (tape, i) 0 a1 b1 t1 v1 := hrd
    dsimp only
    exact loopT 902 talk0 0 0 _ _ _ _ _ _ (by omega) hrd (Nat.zero_le _) (LInv_0 _ _) rfl
end
