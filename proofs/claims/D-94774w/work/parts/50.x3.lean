/-! TWOSLIPS, 3: strikes, count, fault, images -/
set_option maxRecDepth 100000
def SBs (o : Option (Nat × Nat)) (most first : Int32) : Prop := match o with
  | none => most = -1 ∧ first = -1
  | some (b, m) => most = nI m ∧ first = nI b ∧ m < 2 ^ 31
theorem SBs_up {d : Nat → Nat} {t : Nat} {most first : Int32} (h : SBs (bestF d t) most first) (hd : d t < 2 ^ 31) (hc : most < nI (d t)) : SBs (bestF d (t + 1)) (nI (d t)) (nI t) := by
  unfold bestF
  cases hq : bestF d t with
  | none => exact ⟨rfl, rfl, hd⟩
  | some p =>
    obtain ⟨b, m⟩ := p
    rw [hq] at h
    obtain ⟨h1, h2, h3⟩ := h
    have h4 : ¬ d t ≤ m := by
      rw [h1] at hc
      have := (nI_ltI h3 hd).mp hc
      omega
    dsimp only
    rw [if_neg h4]
    exact ⟨rfl, rfl, hd⟩
theorem SBs_keep {d : Nat → Nat} {t : Nat} {most first : Int32} (h : SBs (bestF d t) most first) (hd : d t < 2 ^ 31) (hc : ¬ most < nI (d t)) : SBs (bestF d (t + 1)) most first := by
  unfold bestF
  cases hq : bestF d t with
  | none =>
    rw [hq] at h
    refine absurd ?_ hc
    rw [h.1, Int32.lt_iff_toInt_lt, nI_toInt hd]
    show (-1 : Int) < _
    omega
  | some p =>
    obtain ⟨b, m⟩ := p
    rw [hq] at h
    obtain ⟨h1, h2, h3⟩ := h
    have h4 : d t ≤ m := by
      rw [h1] at hc
      have := mt (nI_ltI h3 hd).mpr hc
      omega
    dsimp only
    rw [if_pos h4]
    exact ⟨h1, h2, h3⟩
theorem SBs_b {o : Option (Nat × Nat)} {most first : Int32} (h : SBs o most first) : first = (match (generalizing := false) o with | none => -1 | some (b, _) => nI b) := by
  cases o with
  | none => exact h.2
  | some p => exact h.2.1
theorem SBs_m {o : Option (Nat × Nat)} {most first : Int32} (h : SBs o most first) : (if nI 0 < most then most else nI 0) = (match (generalizing := false) o with | none => 0 | some (_, m) => nI m) := by
  cases o with
  | none => rw [h.1]; rfl
  | some p =>
    obtain ⟨b, m⟩ := p
    obtain ⟨h1, h2, h3⟩ := h
    rw [h1]
    dsimp only
    by_cases h0 : m = 0
    · subst h0; rfl
    · rw [if_pos ((nI_ltI (by decide) h3).mpr (by omega))]
/-- the images of a world: which talks they are -/
def ImC (Y : Nat → ClassId) (W : va_W) (images : Nat → Option Nat) (Im : Imgs) : Prop := ∀ i, i < 3 → (Im i = none → images i = none) ∧ ∀ T, Im i = some T → ∃ ta : Nat → Nat, images i = some (ta 0) ∧ TalkL Y T ta W ∧ TOK T
theorem ImC.keep {Y : Nat → ClassId} {W : va_W} {images : Nat → Option Nat} {Im : Imgs} {T : Talk} {ta : Nat → Nat} {i : Nat} (h : ImC Y W images Im) (hT : TalkL Y T ta W) (hok : TOK T) : ImC Y W (va_up images i (some (ta 0))) (up Im i (some T)) := by
  intro j hj
  by_cases e : j = i
  · subst e
    refine ⟨fun q => ?_, fun T2 q => ?_⟩
    · rw [up_s] at q; cases q
    · rw [up_s] at q; cases q
      exact ⟨ta, if_pos rfl, hT, hok⟩
  · refine ⟨fun q => ?_, fun T2 q => ?_⟩
    · rw [up_n e] at q; exact (if_neg e).trans ((h j hj).1 q)
    · rw [up_n e] at q
      obtain ⟨ta2, a1, a2, a3⟩ := (h j hj).2 T2 q
      exact ⟨ta2, (if_neg e).trans a1, a2, a3⟩

section
variable {l : Launch} {D : va_G} {Y : Nat → ClassId} {A : Nat → Prop} {Im : Imgs}
set_option maxHeartbeats 4000000 in
theorem ctX1_strikes {xa ca cb ra ta : Nat → Nat} {T : Talk} {bL : Bool} {tk : Option Nat} {many : Nat} {xs ys heaps : Nat → Nat} {slips : Nat → Nat → Nat} {rows : Nat → Nat → Int64} {taped fk : Nat} {fa : Int32} {an nx : Nat} {images : Nat → Option Nat} {tape : Nat → Int32} {W : va_W} (wh : Int32) (hl9 : l.stackTraces = false) (hT : TalkL Y T ta W) (hok : TOK T) (hL : bL = true → tk = some (ta 0) ∧ LdC T many xs ys slips rows) : CTB l D clX (tyX Y) yX1_strikes cX1_strikes 7 (some .int) ({ frames := 1816, cells := 1, slots := 6, locals := 54543 } : Room) [.ref (xa 0), .int wh] (HW D clX A (CoL Y ca ra 0 tk many 0 (-1) xs ys heaps slips rows (XoL Y xa ca cb ra (ta 0) bL taped fk fa an nx images tape W))) (Qi (fun (v : Int32) (u : XS) => ans (aStrikes T wh) 0 v ∧ LdX T (ta 0) u) (fun (u : XS) => HW D clX A (CoL Y ca ra 0 u.2.1 u.2.2.1 0 (-1) u.2.2.2.1 u.2.2.2.2.1 u.2.2.2.2.2.1 u.2.2.2.2.2.2.1 u.2.2.2.2.2.2.2 (XoL Y xa ca cb ra (ta 0) u.1 taped fk fa an nx images tape W))) A) (fun (u : Nat × XS) => (∃ v9, ans (aStrikes T wh) u.1 v9) ∧ 0 < u.1 ∧ LdX T (ta 0) u.2) (fun u => exL ["java/lang/IllegalArgumentException"] u.1) (fun (u : Nat × XS) (_ : Nat) => HW D clX A (CoL Y ca ra 0 u.2.2.1 u.2.2.2.1 0 (-1) u.2.2.2.2.1 u.2.2.2.2.2.1 u.2.2.2.2.2.2.1 u.2.2.2.2.2.2.2.1 u.2.2.2.2.2.2.2.2 (XoL Y xa ca cb ra (ta 0) u.2.1 taped fk fa an nx images tape W))) A := by
  obtain ⟨ea2, na2, mc2, hL2⟩ := hT.2.2.1
  have hn20 := hok.2.2.2.2.2.2.1
  refine CTB.of (L := [(0, .ref (xa 0)), (1, .int wh)]) rfl (by decide +kernel) rfl (Nat.le_of_ble_eq_true rfl) ?_
  refine g_iload_n 1 dX1_strikes_0 rfl rfl ?_
  refine g_if_eq (tgt := 9) dX1_strikes_1 (by decide) (fun c1 => ?_) (fun c1 => ?_)
  · skip
    refine g_iconst (v := nI 1) dX1_strikes_9 (by decide +kernel) ?_
    refine g_goto (tgt := 14) dX1_strikes_10 (by decide) ?_
    refine x_cSv (ctX1_right true hl9 (fun H H1 h _ hk => HW.keep h hk)) (lw_S q740 q741 q106 q742) hy_X1_right rfl ⟨Nat.le_of_ble_eq_true rfl, Nat.le_of_ble_eq_true rfl⟩ ⟨Nat.le_of_ble_eq_true rfl, Nat.le_of_ble_eq_true rfl⟩ rfl (Nat.le_of_ble_eq_true rfl) dX1_strikes_14 (fun _ _ _ h => h.1) (fun u9 q9 hx9 => absurd hx9 (by decide)) (fun u9 hy => ?_)
    have hwh : wh = 0 ∨ wh = 1 := Or.inl c1
    refine g_aload_n 0 dX1_strikes_17 rfl rfl ?_
    refine h_cVo (ctX1_laid hT hok hL) (lw_V q510 q512 qs1 q106 q513) ⟨rfl, hy_X1_laid⟩ rfl ⟨Nat.le_of_ble_eq_true rfl, Nat.le_of_ble_eq_true rfl⟩ ⟨Nat.le_of_ble_eq_true rfl, Nat.le_of_ble_eq_true rfl⟩ rfl (Nat.le_of_ble_eq_true rfl) dX1_strikes_18 x_rec (fun u9 hC1 => ?_)
    obtain ⟨many1, xs1, ys1, heaps1, slips1, rows1⟩ := u9
    have hC1 : LdC T many1 xs1 ys1 slips1 rows1 := hC1
    have hP1 := hC1.mny
    have hP2 := tP_le hok
    refine g_astore_n (L' := [(0, _), (1, _), (2, _)]) 2 dX1_strikes_21 rfl (by decide) rfl rfl ?_
    refine g_iconst (v := -1) dX1_strikes_22 (by decide +kernel) ?_
    refine g_istore_n (L' := [(0, _), (1, _), (2, _), (3, _)]) 3 dX1_strikes_23 rfl (by decide) rfl rfl ?_
    refine g_iconst (v := -1) dX1_strikes_24 (by decide +kernel) ?_
    refine g_istore (L' := [(0, _), (1, _), (2, _), (3, _), (4, _)]) dX1_strikes_25 (by decide) rfl rfl ?_
    refine g_iconst (v := nI 0) dX1_strikes_27 (by decide +kernel) ?_
    refine g_istore (L' := [(0, _), (1, _), (2, _), (3, _), (4, _), (5, _)]) dX1_strikes_28 (by decide) rfl rfl ?_
    have loop30 : ∀ (q30 : Nat) (t : Nat) (most first : Int32), tNT T - t < q30 → (t ≤ tNT T) → (SBs (bestF (fun t => leftN T t - leftN T (t + 1)) t) most first) → GG l D clX (tyX Y) cX1_strikes 7 (some .int) RX1 ({ frames := 1816, cells := 1, slots := 6, locals := 54543 } : Room) A (MXN A) (QB (Qi (fun (v : Int32) (u : XS) => ans (aStrikes T wh) 0 v ∧ LdX T (ta 0) u) (fun (u : XS) => HW D clX A (CoL Y ca ra 0 u.2.1 u.2.2.1 0 (-1) u.2.2.2.1 u.2.2.2.2.1 u.2.2.2.2.2.1 u.2.2.2.2.2.2.1 u.2.2.2.2.2.2.2 (XoL Y xa ca cb ra (ta 0) u.1 taped fk fa an nx images tape W))) A) (fun (u : Nat × XS) => (∃ v9, ans (aStrikes T wh) u.1 v9) ∧ 0 < u.1 ∧ LdX T (ta 0) u.2) (fun u => exL ["java/lang/IllegalArgumentException"] u.1) (fun (u : Nat × XS) (_ : Nat) => HW D clX A (CoL Y ca ra 0 u.2.2.1 u.2.2.2.1 0 (-1) u.2.2.2.2.1 u.2.2.2.2.2.1 u.2.2.2.2.2.2.1 u.2.2.2.2.2.2.2.1 u.2.2.2.2.2.2.2.2 (XoL Y xa ca cb ra (ta 0) u.2.1 taped fk fa an nx images tape W))) 1 6 A) (HW D clX A (CoL Y ca ra 0 (some (ta 0)) many1 0 (-1) xs1 ys1 heaps1 slips1 rows1 (XoL Y xa ca cb ra (ta 0) true taped fk fa an nx images tape W))) (0 + 1) (0 + 6) 30 [(0, .ref (xa 0)), (1, .int wh), (2, .ref (ca 0)), (3, .int most), (4, .int first), (5, .int (nI t))] [] := by
      intro q30
      induction q30 with
      | zero => intro t most first hq30; exact absurd hq30 (Nat.not_lt_zero _)
      | succ q30 ih30 =>
        intro t most first hq30 ht hb
        refine g_iload dX1_strikes_30 rfl ?_
        refine g_aload_n 0 dX1_strikes_32 rfl rfl ?_
        refine x_get_talk q444 dX1_strikes_33 ?_
        refine g_getfN (C := RX2) (T := TX2) (N := 7) 1 in_X2 rfl (by decide) q212 rfl dX1_strikes_36 (co_has _ (xo_tl hT.1)) rfl ?_
        refine h_cVi (ctJ2_size (co_has _ (xo_tl hL2.1))) (lw_V q714 q522 q523 q110 q524) ⟨rfl, hy_J2_size⟩ rfl ⟨Nat.le_of_ble_eq_true rfl, Nat.le_of_ble_eq_true rfl⟩ ⟨Nat.le_of_ble_eq_true rfl, Nat.le_of_ble_eq_true rfl⟩ rfl (Nat.le_of_ble_eq_true rfl) dX1_strikes_39 (fun s H hK hP => va_recv hK (co_has _ (xo_tl hL2.1) H hP) (ci := 33) rfl (q0 := 0) rfl) (fun r u hp => ?_)
        obtain rfl := hp
        refine g_icmp_ge_n (tgt := 92) dX1_strikes_42 (by decide) (by omega) (by omega) (fun c42 => ?_) (fun c42 => ?_)
        · skip
          refine g_iload_n 1 dX1_strikes_92 rfl rfl ?_
          refine g_iconst (v := nI 1) dX1_strikes_93 (by decide +kernel) ?_
          refine g_icmp_ne (tgt := 102) dX1_strikes_94 (by decide) (fun c94 => ?_) (fun c94 => ?_)
          · skip
            have hw0 : wh = 0 := hwh.resolve_right c94
            refine g_iconst (v := nI 0) dX1_strikes_102 (by decide +kernel) ?_
            refine g_iload_n 3 dX1_strikes_103 rfl rfl ?_
            refine g_max q682 q683 q129 q684 (Nat.le_of_ble_eq_true rfl) (Nat.le_of_ble_eq_true rfl) (Nat.le_of_ble_eq_true rfl) (Nat.le_of_ble_eq_true rfl) dX1_strikes_104 ?_
            exact GG.ret (g_iret (true, some (ta 0), many1, xs1, ys1, heaps1, slips1, rows1) dX1_strikes_107 (Nat.le_of_ble_eq_true rfl) (Nat.le_of_ble_eq_true rfl) (⟨ansT (by unfold aStrikes; rw [if_pos hw0]) (by rw [show t = tNT T by omega] at hb; exact SBs_m hb), fun _ => ⟨rfl, hC1⟩⟩) (fun _ h => h))
          · skip
            refine g_iload dX1_strikes_97 rfl ?_
            refine g_goto (tgt := 107) dX1_strikes_99 (by decide) ?_
            exact GG.ret (g_iret (true, some (ta 0), many1, xs1, ys1, heaps1, slips1, rows1) dX1_strikes_107 (Nat.le_of_ble_eq_true rfl) (Nat.le_of_ble_eq_true rfl) (⟨ansT (by unfold aStrikes; rw [if_neg (show ¬ wh = 0 by rw [c94]; decide), if_pos (show wh = 1 from c94)]) (by rw [show t = tNT T by omega] at hb; exact SBs_b hb), fun _ => ⟨rfl, hC1⟩⟩) (fun _ h => h))
        · skip
          refine g_aload_n 2 dX1_strikes_45 rfl rfl ?_
          refine co_get_leftN q270 dX1_strikes_46 ?_
          refine g_iload dX1_strikes_49 rfl ?_
          refine co_ld_left (by omega) dX1_strikes_51 ?_
          refine h_cSi (ctX1_count (f := rows1 (0 + t)) (hw_ix (CoL_row (r := 0 + t) (by omega)))) (lw_S q1439 q698 q106 q699) hy_X1_count rfl ⟨Nat.le_of_ble_eq_true rfl, Nat.le_of_ble_eq_true rfl⟩ ⟨Nat.le_of_ble_eq_true rfl, Nat.le_of_ble_eq_true rfl⟩ rfl (Nat.le_of_ble_eq_true rfl) dX1_strikes_52 (fun r u hp => ?_)
          obtain rfl := hp
          rw [hC1.num hok (t := t) (by omega)]
          refine g_aload_n 2 dX1_strikes_55 rfl rfl ?_
          refine co_get_leftN q270 dX1_strikes_56 ?_
          refine g_iload dX1_strikes_59 rfl ?_
          refine g_iconst (v := nI 1) dX1_strikes_61 (by decide +kernel) ?_
          refine g_iadd_n dX1_strikes_62 ?_
          refine co_ld_left (by omega) dX1_strikes_63 ?_
          refine h_cSi (ctX1_count (f := rows1 (0 + (t + 1))) (hw_ix (CoL_row (r := 0 + (t + 1)) (by omega)))) (lw_S q1439 q698 q106 q699) hy_X1_count rfl ⟨Nat.le_of_ble_eq_true rfl, Nat.le_of_ble_eq_true rfl⟩ ⟨Nat.le_of_ble_eq_true rfl, Nat.le_of_ble_eq_true rfl⟩ rfl (Nat.le_of_ble_eq_true rfl) dX1_strikes_64 (fun r u hp => ?_)
          obtain rfl := hp
          rw [hC1.num hok (t := (t + 1)) (by omega)]
          refine g_isub_n dX1_strikes_67 (leftN_mono T t) ?_
          refine g_istore (L' := [(0, _), (1, _), (2, _), (3, _), (4, _), (5, _), (6, _)]) dX1_strikes_68 (by decide) rfl rfl ?_
          refine g_iload dX1_strikes_70 rfl ?_
          refine g_iload_n 3 dX1_strikes_72 rfl rfl ?_
          refine g_icmp_gt (tgt := 79) dX1_strikes_73 (by decide) (fun c73 => ?_) (fun c73 => ?_)
          · skip
            refine g_iload dX1_strikes_79 rfl ?_
            refine g_istore_n (L' := [(0, _), (1, _), (2, _), (3, _), (4, _), (5, _), (6, _)]) 3 dX1_strikes_81 rfl (by decide) rfl rfl ?_
            refine g_iload dX1_strikes_82 rfl ?_
            refine g_istore (L' := [(0, _), (1, _), (2, _), (3, _), (4, _), (5, _), (6, _)]) dX1_strikes_84 (by decide) rfl rfl ?_
            refine g_iinc_n (b := 1) (L' := [(0, _), (1, _), (2, _), (3, _), (4, _), (5, _), (6, _)]) dX1_strikes_86 rfl rfl (by decide) rfl rfl ?_
            refine g_goto (tgt := 30) dX1_strikes_89 (by decide) ?_
            refine GG.locals [0, 1, 2, 3, 4, 5] rfl ?_
            have h8 := leftN_le T t
            exact ih30 (t + 1) _ _ (by omega) (by omega) (SBs_up hb (by show leftN T t - leftN T (t + 1) < 2 ^ 31; omega) c73)
          · skip
            refine g_goto (tgt := 86) dX1_strikes_76 (by decide) ?_
            refine g_iinc_n (b := 1) (L' := [(0, _), (1, _), (2, _), (3, _), (4, _), (5, _), (6, _)]) dX1_strikes_86 rfl rfl (by decide) rfl rfl ?_
            refine g_goto (tgt := 30) dX1_strikes_89 (by decide) ?_
            refine GG.locals [0, 1, 2, 3, 4, 5] rfl ?_
            have h8 := leftN_le T t
            exact ih30 (t + 1) _ _ (by omega) (by omega) (SBs_keep hb (by show leftN T t - leftN T (t + 1) < 2 ^ 31; omega) c73)
    exact loop30 (tNT T + 1) 0 (-1) (-1) (by omega) (by omega) ⟨rfl, rfl⟩
  · skip
    refine g_iload_n 1 dX1_strikes_4 rfl rfl ?_
    refine g_iconst (v := nI 1) dX1_strikes_5 (by decide +kernel) ?_
    refine g_icmp_ne (tgt := 13) dX1_strikes_6 (by decide) (fun c6 => ?_) (fun c6 => ?_)
    · skip
      refine g_iconst (v := nI 0) dX1_strikes_13 (by decide +kernel) ?_
      refine x_cSv (ctX1_right false hl9 (fun H H1 h _ hk => HW.keep h hk)) (lw_S q740 q741 q106 q742) hy_X1_right rfl ⟨Nat.le_of_ble_eq_true rfl, Nat.le_of_ble_eq_true rfl⟩ ⟨Nat.le_of_ble_eq_true rfl, Nat.le_of_ble_eq_true rfl⟩ rfl (Nat.le_of_ble_eq_true rfl) dX1_strikes_14 (fun _ _ _ h => h.1) (fun u9 q9 hx9 => xg_out (1, (bL, tk, many, xs, ys, heaps, slips, rows)) (Nat.le_of_ble_eq_true rfl) (Nat.le_of_ble_eq_true rfl) (⟨ansE (by unfold aStrikes; simp only [if_neg c1, if_neg (show ¬ wh = 1 from c6)]), Nat.le_of_ble_eq_true rfl, hL⟩) rfl (fun _ h => h)) (fun u9 hy => ?_)
      exact absurd hy (by decide)
    · skip
      refine g_iconst (v := nI 1) dX1_strikes_9 (by decide +kernel) ?_
      refine g_goto (tgt := 14) dX1_strikes_10 (by decide) ?_
      refine x_cSv (ctX1_right true hl9 (fun H H1 h _ hk => HW.keep h hk)) (lw_S q740 q741 q106 q742) hy_X1_right rfl ⟨Nat.le_of_ble_eq_true rfl, Nat.le_of_ble_eq_true rfl⟩ ⟨Nat.le_of_ble_eq_true rfl, Nat.le_of_ble_eq_true rfl⟩ rfl (Nat.le_of_ble_eq_true rfl) dX1_strikes_14 (fun _ _ _ h => h.1) (fun u9 q9 hx9 => absurd hx9 (by decide)) (fun u9 hy => ?_)
      have hwh : wh = 0 ∨ wh = 1 := Or.inr c6
      refine g_aload_n 0 dX1_strikes_17 rfl rfl ?_
      refine h_cVo (ctX1_laid hT hok hL) (lw_V q510 q512 qs1 q106 q513) ⟨rfl, hy_X1_laid⟩ rfl ⟨Nat.le_of_ble_eq_true rfl, Nat.le_of_ble_eq_true rfl⟩ ⟨Nat.le_of_ble_eq_true rfl, Nat.le_of_ble_eq_true rfl⟩ rfl (Nat.le_of_ble_eq_true rfl) dX1_strikes_18 x_rec (fun u9 hC1 => ?_)
      obtain ⟨many1, xs1, ys1, heaps1, slips1, rows1⟩ := u9
      have hC1 : LdC T many1 xs1 ys1 slips1 rows1 := hC1
      have hP1 := hC1.mny
      have hP2 := tP_le hok
      refine g_astore_n (L' := [(0, _), (1, _), (2, _)]) 2 dX1_strikes_21 rfl (by decide) rfl rfl ?_
      refine g_iconst (v := -1) dX1_strikes_22 (by decide +kernel) ?_
      refine g_istore_n (L' := [(0, _), (1, _), (2, _), (3, _)]) 3 dX1_strikes_23 rfl (by decide) rfl rfl ?_
      refine g_iconst (v := -1) dX1_strikes_24 (by decide +kernel) ?_
      refine g_istore (L' := [(0, _), (1, _), (2, _), (3, _), (4, _)]) dX1_strikes_25 (by decide) rfl rfl ?_
      refine g_iconst (v := nI 0) dX1_strikes_27 (by decide +kernel) ?_
      refine g_istore (L' := [(0, _), (1, _), (2, _), (3, _), (4, _), (5, _)]) dX1_strikes_28 (by decide) rfl rfl ?_
      have loop30 : ∀ (q30 : Nat) (t : Nat) (most first : Int32), tNT T - t < q30 → (t ≤ tNT T) → (SBs (bestF (fun t => leftN T t - leftN T (t + 1)) t) most first) → GG l D clX (tyX Y) cX1_strikes 7 (some .int) RX1 ({ frames := 1816, cells := 1, slots := 6, locals := 54543 } : Room) A (MXN A) (QB (Qi (fun (v : Int32) (u : XS) => ans (aStrikes T wh) 0 v ∧ LdX T (ta 0) u) (fun (u : XS) => HW D clX A (CoL Y ca ra 0 u.2.1 u.2.2.1 0 (-1) u.2.2.2.1 u.2.2.2.2.1 u.2.2.2.2.2.1 u.2.2.2.2.2.2.1 u.2.2.2.2.2.2.2 (XoL Y xa ca cb ra (ta 0) u.1 taped fk fa an nx images tape W))) A) (fun (u : Nat × XS) => (∃ v9, ans (aStrikes T wh) u.1 v9) ∧ 0 < u.1 ∧ LdX T (ta 0) u.2) (fun u => exL ["java/lang/IllegalArgumentException"] u.1) (fun (u : Nat × XS) (_ : Nat) => HW D clX A (CoL Y ca ra 0 u.2.2.1 u.2.2.2.1 0 (-1) u.2.2.2.2.1 u.2.2.2.2.2.1 u.2.2.2.2.2.2.1 u.2.2.2.2.2.2.2.1 u.2.2.2.2.2.2.2.2 (XoL Y xa ca cb ra (ta 0) u.2.1 taped fk fa an nx images tape W))) 1 6 A) (HW D clX A (CoL Y ca ra 0 (some (ta 0)) many1 0 (-1) xs1 ys1 heaps1 slips1 rows1 (XoL Y xa ca cb ra (ta 0) true taped fk fa an nx images tape W))) (0 + 1) (0 + 6) 30 [(0, .ref (xa 0)), (1, .int wh), (2, .ref (ca 0)), (3, .int most), (4, .int first), (5, .int (nI t))] [] := by
        intro q30
        induction q30 with
        | zero => intro t most first hq30; exact absurd hq30 (Nat.not_lt_zero _)
        | succ q30 ih30 =>
          intro t most first hq30 ht hb
          refine g_iload dX1_strikes_30 rfl ?_
          refine g_aload_n 0 dX1_strikes_32 rfl rfl ?_
          refine x_get_talk q444 dX1_strikes_33 ?_
          refine g_getfN (C := RX2) (T := TX2) (N := 7) 1 in_X2 rfl (by decide) q212 rfl dX1_strikes_36 (co_has _ (xo_tl hT.1)) rfl ?_
          refine h_cVi (ctJ2_size (co_has _ (xo_tl hL2.1))) (lw_V q714 q522 q523 q110 q524) ⟨rfl, hy_J2_size⟩ rfl ⟨Nat.le_of_ble_eq_true rfl, Nat.le_of_ble_eq_true rfl⟩ ⟨Nat.le_of_ble_eq_true rfl, Nat.le_of_ble_eq_true rfl⟩ rfl (Nat.le_of_ble_eq_true rfl) dX1_strikes_39 (fun s H hK hP => va_recv hK (co_has _ (xo_tl hL2.1) H hP) (ci := 33) rfl (q0 := 0) rfl) (fun r u hp => ?_)
          obtain rfl := hp
          refine g_icmp_ge_n (tgt := 92) dX1_strikes_42 (by decide) (by omega) (by omega) (fun c42 => ?_) (fun c42 => ?_)
          · skip
            refine g_iload_n 1 dX1_strikes_92 rfl rfl ?_
            refine g_iconst (v := nI 1) dX1_strikes_93 (by decide +kernel) ?_
            refine g_icmp_ne (tgt := 102) dX1_strikes_94 (by decide) (fun c94 => ?_) (fun c94 => ?_)
            · skip
              have hw0 : wh = 0 := hwh.resolve_right c94
              refine g_iconst (v := nI 0) dX1_strikes_102 (by decide +kernel) ?_
              refine g_iload_n 3 dX1_strikes_103 rfl rfl ?_
              refine g_max q682 q683 q129 q684 (Nat.le_of_ble_eq_true rfl) (Nat.le_of_ble_eq_true rfl) (Nat.le_of_ble_eq_true rfl) (Nat.le_of_ble_eq_true rfl) dX1_strikes_104 ?_
              exact GG.ret (g_iret (true, some (ta 0), many1, xs1, ys1, heaps1, slips1, rows1) dX1_strikes_107 (Nat.le_of_ble_eq_true rfl) (Nat.le_of_ble_eq_true rfl) (⟨ansT (by unfold aStrikes; rw [if_pos hw0]) (by rw [show t = tNT T by omega] at hb; exact SBs_m hb), fun _ => ⟨rfl, hC1⟩⟩) (fun _ h => h))
            · skip
              refine g_iload dX1_strikes_97 rfl ?_
              refine g_goto (tgt := 107) dX1_strikes_99 (by decide) ?_
              exact GG.ret (g_iret (true, some (ta 0), many1, xs1, ys1, heaps1, slips1, rows1) dX1_strikes_107 (Nat.le_of_ble_eq_true rfl) (Nat.le_of_ble_eq_true rfl) (⟨ansT (by unfold aStrikes; rw [if_neg (show ¬ wh = 0 by rw [c94]; decide), if_pos (show wh = 1 from c94)]) (by rw [show t = tNT T by omega] at hb; exact SBs_b hb), fun _ => ⟨rfl, hC1⟩⟩) (fun _ h => h))
          · skip
            refine g_aload_n 2 dX1_strikes_45 rfl rfl ?_
            refine co_get_leftN q270 dX1_strikes_46 ?_
            refine g_iload dX1_strikes_49 rfl ?_
            refine co_ld_left (by omega) dX1_strikes_51 ?_
            refine h_cSi (ctX1_count (f := rows1 (0 + t)) (hw_ix (CoL_row (r := 0 + t) (by omega)))) (lw_S q1439 q698 q106 q699) hy_X1_count rfl ⟨Nat.le_of_ble_eq_true rfl, Nat.le_of_ble_eq_true rfl⟩ ⟨Nat.le_of_ble_eq_true rfl, Nat.le_of_ble_eq_true rfl⟩ rfl (Nat.le_of_ble_eq_true rfl) dX1_strikes_52 (fun r u hp => ?_)
            obtain rfl := hp
            rw [hC1.num hok (t := t) (by omega)]
            refine g_aload_n 2 dX1_strikes_55 rfl rfl ?_
            refine co_get_leftN q270 dX1_strikes_56 ?_
            refine g_iload dX1_strikes_59 rfl ?_
            refine g_iconst (v := nI 1) dX1_strikes_61 (by decide +kernel) ?_
            refine g_iadd_n dX1_strikes_62 ?_
            refine co_ld_left (by omega) dX1_strikes_63 ?_
            refine h_cSi (ctX1_count (f := rows1 (0 + (t + 1))) (hw_ix (CoL_row (r := 0 + (t + 1)) (by omega)))) (lw_S q1439 q698 q106 q699) hy_X1_count rfl ⟨Nat.le_of_ble_eq_true rfl, Nat.le_of_ble_eq_true rfl⟩ ⟨Nat.le_of_ble_eq_true rfl, Nat.le_of_ble_eq_true rfl⟩ rfl (Nat.le_of_ble_eq_true rfl) dX1_strikes_64 (fun r u hp => ?_)
            obtain rfl := hp
            rw [hC1.num hok (t := (t + 1)) (by omega)]
            refine g_isub_n dX1_strikes_67 (leftN_mono T t) ?_
            refine g_istore (L' := [(0, _), (1, _), (2, _), (3, _), (4, _), (5, _), (6, _)]) dX1_strikes_68 (by decide) rfl rfl ?_
            refine g_iload dX1_strikes_70 rfl ?_
            refine g_iload_n 3 dX1_strikes_72 rfl rfl ?_
            refine g_icmp_gt (tgt := 79) dX1_strikes_73 (by decide) (fun c73 => ?_) (fun c73 => ?_)
            · skip
              refine g_iload dX1_strikes_79 rfl ?_
              refine g_istore_n (L' := [(0, _), (1, _), (2, _), (3, _), (4, _), (5, _), (6, _)]) 3 dX1_strikes_81 rfl (by decide) rfl rfl ?_
              refine g_iload dX1_strikes_82 rfl ?_
              refine g_istore (L' := [(0, _), (1, _), (2, _), (3, _), (4, _), (5, _), (6, _)]) dX1_strikes_84 (by decide) rfl rfl ?_
              refine g_iinc_n (b := 1) (L' := [(0, _), (1, _), (2, _), (3, _), (4, _), (5, _), (6, _)]) dX1_strikes_86 rfl rfl (by decide) rfl rfl ?_
              refine g_goto (tgt := 30) dX1_strikes_89 (by decide) ?_
              refine GG.locals [0, 1, 2, 3, 4, 5] rfl ?_
              have h8 := leftN_le T t
              exact ih30 (t + 1) _ _ (by omega) (by omega) (SBs_up hb (by show leftN T t - leftN T (t + 1) < 2 ^ 31; omega) c73)
            · skip
              refine g_goto (tgt := 86) dX1_strikes_76 (by decide) ?_
              refine g_iinc_n (b := 1) (L' := [(0, _), (1, _), (2, _), (3, _), (4, _), (5, _), (6, _)]) dX1_strikes_86 rfl rfl (by decide) rfl rfl ?_
              refine g_goto (tgt := 30) dX1_strikes_89 (by decide) ?_
              refine GG.locals [0, 1, 2, 3, 4, 5] rfl ?_
              have h8 := leftN_le T t
              exact ih30 (t + 1) _ _ (by omega) (by omega) (SBs_keep hb (by show leftN T t - leftN T (t + 1) < 2 ^ 31; omega) c73)
      exact loop30 (tNT T + 1) 0 (-1) (-1) (by omega) (by omega) ⟨rfl, rfl⟩
set_option maxHeartbeats 4000000 in
/-- counts -/
theorem ctX1_count_2 {xa ca cb ra ta : Nat → Nat} {T : Talk} {bL : Bool} {tk : Option Nat} {many : Nat} {xs ys heaps : Nat → Nat} {slips : Nat → Nat → Nat} {rows : Nat → Nat → Int64} {taped fk : Nat} {fa : Int32} {an nx : Nat} {images : Nat → Option Nat} {tape : Nat → Int32} {W : va_W} (wh : Int32) (hT : TalkL Y T ta W) (hok : TOK T) (hL : bL = true → tk = some (ta 0) ∧ LdC T many xs ys slips rows) : CT l D clX (tyX Y) yX1_count_2 cX1_count_2 2 (some .int) ({ frames := 1816, cells := 0, slots := 0, locals := 54543 } : Room) [.ref (xa 0), .int wh] (HW D clX A (CoL Y ca ra 0 tk many 0 (-1) xs ys heaps slips rows (XoL Y xa ca cb ra (ta 0) bL taped fk fa an nx images tape W))) (Qi (fun (v : Int32) (u : XS) => v = aCount T taped wh ∧ LdX T (ta 0) u) (fun (u : XS) => HW D clX A (CoL Y ca ra 0 u.2.1 u.2.2.1 0 (-1) u.2.2.2.1 u.2.2.2.2.1 u.2.2.2.2.2.1 u.2.2.2.2.2.2.1 u.2.2.2.2.2.2.2 (XoL Y xa ca cb ra (ta 0) u.1 taped fk fa an nx images tape W))) A) A := by
  obtain ⟨ea1, na1, mc1, hL1⟩ := hT.2.1
  obtain ⟨ea2, na2, mc2, hL2⟩ := hT.2.2.1
  have hun := hok.2.2.2.2.1
  refine CT.of (L := [(0, .ref (xa 0)), (1, .int wh)]) rfl (by decide +kernel) rfl (Nat.le_of_ble_eq_true rfl) ?_
  refine g_iload_n 1 dX1_count_2_0 rfl rfl ?_
  rcases hit : iR wh 9 with _ | i
  · skip
    refine g_tableOut (tgt := 135) dX1_count_2_1 (by have := iR_none hit; omega) (by decide) ?_
    refine g_iconst (v := -1) dX1_count_2_135 (by decide +kernel) ?_
    exact g_iret (bL, tk, many, xs, ys, heaps, slips, rows) dX1_count_2_136 (Nat.le_refl _) (Nat.le_refl _) (⟨by unfold aCount; rw [hit], hL⟩) (fun _ h => h)
  obtain ⟨hi, rfl⟩ := iR_some hit
  rcases (show i = 0 ∨ i = 1 ∨ i = 2 ∨ i = 3 ∨ i = 4 ∨ i = 5 ∨ i = 6 ∨ i = 7 ∨ i = 8 by omega) with rfl | rfl | rfl | rfl | rfl | rfl | rfl | rfl | rfl
  · skip
    refine g_table_n (a := 0) (tgt := 52) dX1_count_2_1 (by decide) (by decide) (by decide) rfl (by decide) ?_
    refine g_aload_n 0 dX1_count_2_52 rfl rfl ?_
    refine x_get_talk q444 dX1_count_2_53 ?_
    refine g_getfN (C := RX2) (T := TX2) (N := 7) 5 in_X2 rfl (by decide) q223 rfl dX1_count_2_56 (co_has _ (xo_tl hT.1)) rfl ?_
    exact g_iret (bL, tk, many, xs, ys, heaps, slips, rows) dX1_count_2_59 (Nat.le_refl _) (Nat.le_refl _) (⟨by unfold aCount; rw [hit]; exact rfl, hL⟩) (fun _ h => h)
  · skip
    refine g_table_n (a := 1) (tgt := 60) dX1_count_2_1 (by decide) (by decide) (by decide) rfl (by decide) ?_
    refine g_aload_n 0 dX1_count_2_60 rfl rfl ?_
    refine x_get_talk q444 dX1_count_2_61 ?_
    refine g_getfN (C := RX2) (T := TX2) (N := 7) 2 in_X2 rfl (by decide) q214 rfl dX1_count_2_64 (co_has _ (xo_tl hT.1)) rfl ?_
    exact g_iret (bL, tk, many, xs, ys, heaps, slips, rows) dX1_count_2_67 (Nat.le_refl _) (Nat.le_refl _) (⟨by unfold aCount; rw [hit]; exact rfl, hL⟩) (fun _ h => h)
  · skip
    refine g_table_n (a := 2) (tgt := 68) dX1_count_2_1 (by decide) (by decide) (by decide) rfl (by decide) ?_
    refine g_aload_n 0 dX1_count_2_68 rfl rfl ?_
    refine x_get_talk q444 dX1_count_2_69 ?_
    refine g_getfN (C := RX2) (T := TX2) (N := 7) 3 in_X2 rfl (by decide) q217 rfl dX1_count_2_72 (co_has _ (xo_tl hT.1)) rfl ?_
    exact g_iret (bL, tk, many, xs, ys, heaps, slips, rows) dX1_count_2_75 (Nat.le_refl _) (Nat.le_refl _) (⟨by unfold aCount; rw [hit]; exact rfl, hL⟩) (fun _ h => h)
  · skip
    refine g_table_n (a := 3) (tgt := 76) dX1_count_2_1 (by decide) (by decide) (by decide) rfl (by decide) ?_
    refine g_aload_n 0 dX1_count_2_76 rfl rfl ?_
    refine x_get_talk q444 dX1_count_2_77 ?_
    refine g_getfN (C := RX2) (T := TX2) (N := 7) 4 in_X2 rfl (by decide) q222 rfl dX1_count_2_80 (co_has _ (xo_tl hT.1)) rfl ?_
    exact g_iret (bL, tk, many, xs, ys, heaps, slips, rows) dX1_count_2_83 (Nat.le_refl _) (Nat.le_refl _) (⟨by unfold aCount; rw [hit]; exact rfl, hL⟩) (fun _ h => h)
  · skip
    refine g_table_n (a := 4) (tgt := 84) dX1_count_2_1 (by decide) (by decide) (by decide) rfl (by decide) ?_
    refine g_aload_n 0 dX1_count_2_84 rfl rfl ?_
    refine x_get_talk q444 dX1_count_2_85 ?_
    refine g_getfN (C := RX2) (T := TX2) (N := 7) 6 in_X2 rfl (by decide) q227 rfl dX1_count_2_88 (co_has _ (xo_tl hT.1)) rfl ?_
    refine g_if_eq_n (tgt := 98) dX1_count_2_91 (by decide) (by omega) (fun c91 => ?_) (fun c91 => ?_)
    · skip
      have z4 : tUn T = 0 := c91
      refine g_iconst (v := nI 0) dX1_count_2_98 (by decide +kernel) ?_
      exact g_iret (bL, tk, many, xs, ys, heaps, slips, rows) dX1_count_2_99 (Nat.le_refl _) (Nat.le_refl _) (⟨by unfold aCount; rw [hit]; exact (by rw [z4]; rfl), hL⟩) (fun _ h => h)
    · skip
      have z4 : tUn T = 1 := by omega
      refine g_iconst (v := nI 1) dX1_count_2_94 (by decide +kernel) ?_
      refine g_goto (tgt := 99) dX1_count_2_95 (by decide) ?_
      exact g_iret (bL, tk, many, xs, ys, heaps, slips, rows) dX1_count_2_99 (Nat.le_refl _) (Nat.le_refl _) (⟨by unfold aCount; rw [hit]; exact (by rw [z4]; rfl), hL⟩) (fun _ h => h)
  · skip
    refine g_table_n (a := 5) (tgt := 100) dX1_count_2_1 (by decide) (by decide) (by decide) rfl (by decide) ?_
    refine g_aload_n 0 dX1_count_2_100 rfl rfl ?_
    refine x_get_talk q444 dX1_count_2_101 ?_
    refine g_getfN (C := RX2) (T := TX2) (N := 7) 0 in_X2 rfl (by decide) q207 rfl dX1_count_2_104 (co_has _ (xo_tl hT.1)) rfl ?_
    refine h_cVi (ctJ2_size (co_has _ (xo_tl hL1.1))) (lw_V q714 q522 q523 q110 q524) ⟨rfl, hy_J2_size⟩ rfl ⟨Nat.le_of_ble_eq_true rfl, Nat.le_of_ble_eq_true rfl⟩ ⟨Nat.le_of_ble_eq_true rfl, Nat.le_of_ble_eq_true rfl⟩ rfl (Nat.le_of_ble_eq_true rfl) dX1_count_2_107 (fun s H hK hP => va_recv hK (co_has _ (xo_tl hL1.1) H hP) (ci := 33) rfl (q0 := 0) rfl) (fun r u hp => ?_)
    obtain rfl := hp
    exact g_iret (bL, tk, many, xs, ys, heaps, slips, rows) dX1_count_2_110 (Nat.le_refl _) (Nat.le_refl _) (⟨by unfold aCount; rw [hit]; exact rfl, hL⟩) (fun _ h => h)
  · skip
    refine g_table_n (a := 6) (tgt := 111) dX1_count_2_1 (by decide) (by decide) (by decide) rfl (by decide) ?_
    refine g_aload_n 0 dX1_count_2_111 rfl rfl ?_
    refine x_get_talk q444 dX1_count_2_112 ?_
    refine g_getfN (C := RX2) (T := TX2) (N := 7) 1 in_X2 rfl (by decide) q212 rfl dX1_count_2_115 (co_has _ (xo_tl hT.1)) rfl ?_
    refine h_cVi (ctJ2_size (co_has _ (xo_tl hL2.1))) (lw_V q714 q522 q523 q110 q524) ⟨rfl, hy_J2_size⟩ rfl ⟨Nat.le_of_ble_eq_true rfl, Nat.le_of_ble_eq_true rfl⟩ ⟨Nat.le_of_ble_eq_true rfl, Nat.le_of_ble_eq_true rfl⟩ rfl (Nat.le_of_ble_eq_true rfl) dX1_count_2_118 (fun s H hK hP => va_recv hK (co_has _ (xo_tl hL2.1) H hP) (ci := 33) rfl (q0 := 0) rfl) (fun r u hp => ?_)
    obtain rfl := hp
    exact g_iret (bL, tk, many, xs, ys, heaps, slips, rows) dX1_count_2_121 (Nat.le_refl _) (Nat.le_refl _) (⟨by unfold aCount; rw [hit]; exact rfl, hL⟩) (fun _ h => h)
  · skip
    refine g_table_n (a := 7) (tgt := 122) dX1_count_2_1 (by decide) (by decide) (by decide) rfl (by decide) ?_
    refine g_aload_n 0 dX1_count_2_122 rfl rfl ?_
    refine h_cVo (ctX1_laid hT hok hL) (lw_V q510 q512 qs1 q106 q513) ⟨rfl, hy_X1_laid⟩ rfl ⟨Nat.le_of_ble_eq_true rfl, Nat.le_of_ble_eq_true rfl⟩ ⟨Nat.le_of_ble_eq_true rfl, Nat.le_of_ble_eq_true rfl⟩ rfl (Nat.le_of_ble_eq_true rfl) dX1_count_2_123 x_rec (fun u9 hC1 => ?_)
    obtain ⟨many1, xs1, ys1, heaps1, slips1, rows1⟩ := u9
    have hC1 : LdC T many1 xs1 ys1 slips1 rows1 := hC1
    have hP1 := hC1.mny
    have hP2 := tP_le hok
    refine co_get_manyN q276 dX1_count_2_126 ?_
    exact g_iret (true, some (ta 0), many1, xs1, ys1, heaps1, slips1, rows1) dX1_count_2_129 (Nat.le_refl _) (Nat.le_refl _) (⟨by unfold aCount; rw [hit]; exact congrArg nI hP1, fun _ => ⟨rfl, hC1⟩⟩) (fun _ h => h)
  · skip
    refine g_table_n (a := 8) (tgt := 130) dX1_count_2_1 (by decide) (by decide) (by decide) rfl (by decide) ?_
    refine g_aload_n 0 dX1_count_2_130 rfl rfl ?_
    refine x_get_taped q451 dX1_count_2_131 ?_
    exact g_iret (bL, tk, many, xs, ys, heaps, slips, rows) dX1_count_2_134 (Nat.le_refl _) (Nat.le_refl _) (⟨by unfold aCount; rw [hit]; exact rfl, hL⟩) (fun _ h => h)
set_option maxHeartbeats 4000000 in
/-- the last fault -/
theorem ctX1_fault {tx : Nat} {xa ca cb ra : Nat → Nat} {bL : Bool} {tk : Option Nat} {many : Nat} {xs ys heaps : Nat → Nat} {slips : Nat → Nat → Nat} {rows : Nat → Nat → Int64} {taped fk : Nat} {fa : Int32} {an nx : Nat} {images : Nat → Option Nat} {tape : Nat → Int32} {W : va_W} (wh : Int32)  : CT l D clX (tyX Y) yX1_fault cX1_fault 2 (some .int) ({ frames := 0, cells := 0, slots := 0, locals := 0 } : Room) [.ref (xa 0), .int wh] (HW D clX A (CoL Y ca ra 0 tk many 0 (-1) xs ys heaps slips rows (XoL Y xa ca cb ra tx bL taped fk fa an nx images tape W))) (Qi (fun (v : Int32) (u : Unit) => v = (if wh = 0 then nI fk else if wh = nI 1 then fa else -1)) (fun (u : Unit) => HW D clX A (CoL Y ca ra 0 tk many 0 (-1) xs ys heaps slips rows (XoL Y xa ca cb ra tx bL taped fk fa an nx images tape W))) A) A := by
  refine CT.of (L := [(0, .ref (xa 0)), (1, .int wh)]) rfl (by decide +kernel) rfl (Nat.le_of_ble_eq_true rfl) ?_
  refine g_iload_n 1 dX1_fault_0 rfl rfl ?_
  refine g_if_ne (tgt := 11) dX1_fault_1 (by decide) (fun c1 => ?_) (fun c1 => ?_)
  · skip
    refine g_iload_n 1 dX1_fault_11 rfl rfl ?_
    refine g_iconst (v := nI 1) dX1_fault_12 (by decide +kernel) ?_
    refine g_icmp_ne (tgt := 23) dX1_fault_13 (by decide) (fun c13 => ?_) (fun c13 => ?_)
    · skip
      refine g_iconst (v := -1) dX1_fault_23 (by decide +kernel) ?_
      exact g_iret () dX1_fault_24 (Nat.le_refl _) (Nat.le_refl _) (by first | (rw [if_pos c1]) | (rw [if_neg c1, if_pos c13]) | (rw [if_neg c1, if_neg c13])) (fun _ h => h)
    · skip
      refine g_aload_n 0 dX1_fault_16 rfl rfl ?_
      refine x_get_faultAt q453 dX1_fault_17 ?_
      refine g_goto (tgt := 24) dX1_fault_20 (by decide) ?_
      exact g_iret () dX1_fault_24 (Nat.le_refl _) (Nat.le_refl _) (by first | (rw [if_pos c1]) | (rw [if_neg c1, if_pos c13]) | (rw [if_neg c1, if_neg c13])) (fun _ h => h)
  · skip
    refine g_aload_n 0 dX1_fault_4 rfl rfl ?_
    refine x_get_faultKind q452 dX1_fault_5 ?_
    refine g_goto (tgt := 24) dX1_fault_8 (by decide) ?_
    exact g_iret () dX1_fault_24 (Nat.le_refl _) (Nat.le_refl _) (by first | (rw [if_pos c1]) | (rw [if_neg c1, if_pos c13]) | (rw [if_neg c1, if_neg c13])) (fun _ h => h)
set_option maxHeartbeats 4000000 in
/-- another talk -/
theorem ctX1_begins {tx : Nat} {xa ca cb ra : Nat → Nat} {bL : Bool} {tk : Option Nat} {many : Nat} {xs ys heaps : Nat → Nat} {slips : Nat → Nat → Nat} {rows : Nat → Nat → Int64} {taped fk : Nat} {fa : Int32} {an nx : Nat} {images : Nat → Option Nat} {tape : Nat → Int32} {W : va_W} (z : Nat)  : CT l D clX (tyX Y) yX1_begins cX1_begins 2 none ({ frames := 0, cells := 0, slots := 0, locals := 0 } : Room) [.ref (xa 0), .ref z] (HW D clX A (CoL Y ca ra 0 tk many 0 (-1) xs ys heaps slips rows (XoL Y xa ca cb ra tx bL taped fk fa an nx images tape W))) (Qv (fun (u : Unit) => True) (fun (u : Unit) => HW D clX A (CoL Y ca ra 0 tk many 0 (-1) xs ys heaps slips rows (XoL Y xa ca cb ra z false taped fk fa an nx images tape W))) A) A := by
  refine CT.of (L := [(0, .ref (xa 0)), (1, .ref z)]) rfl (by decide +kernel) rfl (Nat.le_of_ble_eq_true rfl) ?_
  refine g_aload_n 0 dX1_begins_0 rfl rfl ?_
  refine g_aload_n 1 dX1_begins_1 rfl rfl ?_
  refine x_put_talk q444 dX1_begins_2 ?_
  refine g_aload_n 0 dX1_begins_5 rfl rfl ?_
  refine g_iconst (v := bI false) dX1_begins_6 (by decide +kernel) ?_
  refine x_put_isLaid q448 dX1_begins_7 ?_
  exact g_vret () dX1_begins_10 (Nat.le_refl _) (Nat.le_refl _) (trivial) (fun _ h => h)
set_option maxHeartbeats 4000000 in
theorem ctX1_image {xa ca cb ra ta : Nat → Nat} {T : Talk} {bL : Bool} {tk : Option Nat} {many : Nat} {xs ys heaps : Nat → Nat} {slips : Nat → Nat → Nat} {rows : Nat → Nat → Int64} {taped fk : Nat} {fa : Int32} {an nx : Nat} {images : Nat → Option Nat} {tape : Nat → Int32} {W : va_W} (i0 : Int32) (hl9 : l.stackTraces = false) (hT : TalkL Y T ta W) (hok : TOK T) (hIm : ImC Y W images Im) : CTB l D clX (tyX Y) yX1_image cX1_image 2 none ({ frames := 7, cells := 1, slots := 6, locals := 110 } : Room) [.ref (xa 0), .int i0] (HW D clX A (CoL Y ca ra 0 tk many 0 (-1) xs ys heaps slips rows (XoL Y xa ca cb ra (ta 0) bL taped fk fa an nx images tape W))) (Qv (fun (u : Nat → Option Nat) => (imKeep Im T i0).1 = 0 ∧ ImC Y W u (imKeep Im T i0).2) (fun (u : Nat → Option Nat) => HW D clX A (CoL Y ca ra 0 tk many 0 (-1) xs ys heaps slips rows (XoL Y xa ca cb ra (ta 0) bL taped fk fa an nx u tape W))) A) (fun (u : Nat) => (imKeep Im T i0).1 = u ∧ 0 < u) (fun u => exL ["java/util/NoSuchElementException"] u) (fun (u : Nat) (_ : Nat) => HW D clX A (CoL Y ca ra 0 tk many 0 (-1) xs ys heaps slips rows (XoL Y xa ca cb ra (ta 0) bL taped fk fa an nx images tape W))) A := by
  refine CTB.of (L := [(0, .ref (xa 0)), (1, .int i0)]) rfl (by decide +kernel) rfl (Nat.le_of_ble_eq_true rfl) ?_
  refine g_iload_n 1 dX1_image_0 rfl rfl ?_
  refine g_i2l dX1_image_1 rfl ?_
  refine g_lconst (v := lN 0) dX1_image_2 (by decide +kernel) ?_
  refine g_ldc2 (v := lN 2) dX1_image_3 q1686 ?_
  refine h_cSi (ctX1_isIn _ _ _) (lw_S q737 q738 q106 q739) hy_X1_isIn rfl ⟨Nat.le_of_ble_eq_true rfl, Nat.le_of_ble_eq_true rfl⟩ ⟨Nat.le_of_ble_eq_true rfl, Nat.le_of_ble_eq_true rfl⟩ rfl (Nat.le_of_ble_eq_true rfl) dX1_image_6 (fun r u hp => ?_)
  obtain rfl := hp
  rw [show wIn i0.toInt64 (lN 0) (lN 2) = (iR i0 3).isSome from wIn_iR1 i0 (by decide)]
  refine x_cSv (ctX1_there _ hl9 (fun H H1 h _ hk => HW.keep h hk)) (lw_S q1374 q1375 q106 q1376) hy_X1_there rfl ⟨Nat.le_of_ble_eq_true rfl, Nat.le_of_ble_eq_true rfl⟩ ⟨Nat.le_of_ble_eq_true rfl, Nat.le_of_ble_eq_true rfl⟩ rfl (Nat.le_of_ble_eq_true rfl) dX1_image_9 (fun _ _ _ h => h.1) (fun u9 q9 hx9 => xg_out 1 (Nat.le_of_ble_eq_true rfl) (Nat.le_of_ble_eq_true rfl) (⟨by have hn : iR i0 3 = none := (by cases h : iR i0 3 with | none => rfl | some j => rw [h] at hx9; exact absurd (show true = false from hx9) (by decide)); unfold imKeep; simp only [hn], Nat.le_of_ble_eq_true rfl⟩) rfl (fun _ h => h)) (fun u9 hy => ?_)
  obtain ⟨i, hi⟩ := Option.isSome_iff_exists.mp hy
  obtain ⟨hiL, rfl⟩ := iR_some hi
  refine g_aload_n 0 dX1_image_12 rfl rfl ?_
  refine x_get_images q449 dX1_image_13 ?_
  refine g_iload_n 1 dX1_image_16 rfl rfl ?_
  refine g_aload_n 0 dX1_image_17 rfl rfl ?_
  refine x_get_talk q444 dX1_image_18 ?_
  refine x_st_images (fs := _) hiL (List.getElem?_of_mem hT.1) dX1_image_21 ?_
  exact GG.ret (g_vret (va_up images i (some (ta 0))) dX1_image_22 (Nat.le_of_ble_eq_true rfl) (Nat.le_of_ble_eq_true rfl) (⟨by unfold imKeep; simp only [hi], by unfold imKeep; simp only [hi]; exact hIm.keep hT hok⟩) (fun _ h => h))
end
