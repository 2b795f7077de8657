/-! TWOSLIPS, 5: upTo, mended, restore, feed -/
set_option maxRecDepth 100000
theorem SibB {T : Talk} (hok : TOK T) {t s : Nat} (ht : t < tNT T) (hs : s < tNS T) : Sib T (tBy T t s) (nI t) (nI s) (-1) := by
  have h20 := hok.2.2.2.2.2.2.1
  refine ⟨rfl, rfl, rfl, rfl, rfl, fun i hi => (if_pos rfl).symm, fun t' ht' => ?_⟩
  show (if nI t' = nI t then nI s else nI (tWho T t')) = nI (up (tWho T) t s t') ∧ up (tWho T) t s t' < tNS T
  by_cases e : t' = t
  · subst e
    rw [if_pos rfl, up_s]; exact ⟨rfl, hs⟩
  · rw [if_neg (fun q => e ((nI_eq (by omega) (by omega)).mp q)), up_n e]
    exact ⟨rfl, hok.2.2.2.2.2.2.2.2.1 t' ht'⟩
theorem TOK.by_ {T : Talk} (h : TOK T) {t s : Nat} (hs : s < tNS T) : TOK (tBy T t s) := by
  obtain ⟨h1, h2, h3, h4, h5, h6, h7, h8, h9, h10⟩ := h
  refine ⟨h1, h2, h3, h4, h5, h6, h7, h8, fun t' ht' => ?_, h10⟩
  show up (tWho T) t s t' < tNS T
  by_cases e : t' = t
  · subst e; rw [up_s]; exact hs
  · rw [up_n e]; exact h9 t' ht'
theorem isOnly_ex {T : Talk} (h : leftN T (tNT T) = 1) (_ : tP T ≤ 1830) : ∃ x, isOnly T x := by
  have key : ∀ n (f : Nat → Bool), ∃ x, isFst f n x := by
    intro n f
    induction n with
    | zero => exact ⟨-1, Or.inr ⟨fun w hw => absurd hw (Nat.not_lt_zero _), rfl⟩⟩
    | succ n ih =>
      obtain ⟨x, hx⟩ := ih
      rcases hx with ⟨w, h1, h2, h3, h4⟩ | ⟨h1, h2⟩
      · exact ⟨x, Or.inl ⟨w, by omega, h2, h3, h4⟩⟩
      · cases hf : f n with
        | true => exact ⟨nI n, Or.inl ⟨n, Nat.lt_succ_self n, hf, h1, rfl⟩⟩
        | false => exact ⟨-1, Or.inr ⟨fun w hw => (Nat.lt_succ_iff_lt_or_eq.mp hw).elim (h1 w) (fun e => by rw [e]; exact hf), rfl⟩⟩
  obtain ⟨x, hx⟩ := key (tP T) (leftT T (tNT T))
  exact ⟨x, by unfold isOnly; rw [if_pos h]; exact hx⟩
theorem LdT.only {T : Talk} {b many : Nat} {xs ys : Nat → Nat} {slips : Nat → Nat → Nat} {rows : Nat → Nat → Int64} {v : Int32} (h : LdT T b many xs ys slips rows) (hok : TOK T) (hp : if cnt (lbt (rows (b + tNT T))) 1856 = 1 then isFst (fun w => lbt (rows (b + tNT T)) w && decide (nI 0 = nI (cnt (lbt (rows (b + tNT T))) w))) many v else v = -1) : isOnly T v := by
  have h2 := tP_le hok
  rw [h.num hok] at hp
  unfold isOnly
  by_cases c : leftN T (tNT T) = 1
  · rw [if_pos c] at hp ⊢
    rw [h.1.1] at hp
    refine isFst_congr (fun w hw => ?_) (isFst_0 (by omega) hp)
    rw [h.2 _ (Nat.le_refl _) w (by omega)]
    show (decide (w < many) && _) = _
    rw [decide_eq_true (show w < many by rw [h.1.1]; exact hw), Bool.true_and]
  · rw [if_neg c] at hp ⊢
    exact hp

section
variable {l : Launch} {D : va_G} {Y : Nat → ClassId} {A : Nat → Prop} {Im : Imgs}
set_option maxHeartbeats 4000000 in
theorem ctX1_upTo {xa ca cb ra ta : Nat → Nat} {T : Talk} {bL : Bool} {tk : Option Nat} {many : Nat} {xs ys heaps : Nat → Nat} {slips : Nat → Nat → Nat} {rows : Nat → Nat → Int64} {taped fk : Nat} {fa : Int32} {an nx : Nat} {images : Nat → Option Nat} {tape : Nat → Int32} {W : va_W} (wh : Int32) (hl9 : l.stackTraces = false) (hT : TalkL Y T ta W) (hok : TOK T) : CTB l D clX (tyX Y) yX1_upTo cX1_upTo 4 (some .int) ({ frames := 1816, cells := 1, slots := 6, locals := 54545 } : Room) [.ref (xa 0), .int wh] (HW D clX A (CoL Y cb ra 70 tk many 0 (-1) xs ys heaps slips rows (XoL Y xa ca cb ra (ta 0) bL taped fk fa an nx images tape W))) (Qi (fun (v : Int32) (u : XT) => isUpTo T wh 0 v ∧ keepT rows u.2.2.2.2.2.2) (fun (u : XT) => HW D clX A (CoL Y cb ra 70 u.1 u.2.1 0 (-1) u.2.2.1 u.2.2.2.1 u.2.2.2.2.1 u.2.2.2.2.2.1 u.2.2.2.2.2.2 (XoL Y xa ca cb ra (ta 0) bL taped fk fa an nx images tape W))) A) (fun (u : Nat) => (∃ v9, isUpTo T wh u v9) ∧ 0 < u) (fun u => exL ["java/lang/IllegalArgumentException"] u) (fun (u : Nat) (_ : Nat) => HW D clX A (CoL Y cb ra 70 tk many 0 (-1) xs ys heaps slips rows (XoL Y xa ca cb ra (ta 0) bL taped fk fa an nx images tape W))) A := by
  refine CTB.of (L := [(0, .ref (xa 0)), (1, .int wh)]) rfl (by decide +kernel) rfl (Nat.le_of_ble_eq_true rfl) ?_
  refine g_iload_n 1 dX1_upTo_0 rfl rfl ?_
  refine g_if_eq (tgt := 9) dX1_upTo_1 (by decide) (fun c1 => ?_) (fun c1 => ?_)
  · skip
    refine g_iconst (v := nI 1) dX1_upTo_9 (by decide +kernel) ?_
    refine g_goto (tgt := 14) dX1_upTo_10 (by decide) ?_
    refine x_cSv (ctX1_right true hl9 (fun H H1 h _ hk => HW.keep h hk)) (lw_S q740 q741 q106 q742) hy_X1_right rfl ⟨Nat.le_of_ble_eq_true rfl, Nat.le_of_ble_eq_true rfl⟩ ⟨Nat.le_of_ble_eq_true rfl, Nat.le_of_ble_eq_true rfl⟩ rfl (Nat.le_of_ble_eq_true rfl) dX1_upTo_14 (fun _ _ _ h => h.1) (fun u9 q9 hx9 => absurd hx9 (by decide)) (fun u9 hy => ?_)
    have hwh : wh = 0 ∨ wh = 1 := Or.inl c1
    refine g_iconst (v := -1) dX1_upTo_17 (by decide +kernel) ?_
    refine g_istore_n (L' := [(0, _), (1, _), (2, _)]) 2 dX1_upTo_18 rfl (by decide) rfl rfl ?_
    refine g_aload_n 0 dX1_upTo_19 rfl rfl ?_
    refine x_get_talk q444 dX1_upTo_20 ?_
    refine g_getfN (C := RX2) (T := TX2) (N := 7) 2 in_X2 rfl (by decide) q214 rfl dX1_upTo_23 (co_has _ (xo_tl hT.1)) rfl ?_
    refine g_istore_n (L' := [(0, _), (1, _), (2, _), (3, _)]) 3 dX1_upTo_26 rfl (by decide) rfl rfl ?_
    have loop27 : ∀ (q27 : Nat) (h : Nat) (b : Int32) (tkL : Option Nat) (manyL : Nat) (xsL ysL heapsL : Nat → Nat) (slipsL : Nat → Nat → Nat) (rowsL : Nat → Nat → Int64), 61 - h < q27 → (tLow T ≤ h) → (h ≤ 61) → ((∃ y, tLow T ≤ y ∧ y < h ∧ leftN (tLH T (tLow T) y) (tNT T) = 1 ∧ (∀ g, y < g → g < h → ¬ leftN (tLH T (tLow T) g) (tNT T) = 1) ∧ b = nI y) ∨ ((∀ g, tLow T ≤ g → g < h → ¬ leftN (tLH T (tLow T) g) (tNT T) = 1) ∧ b = -1)) → (wh = 0 → (∀ g, tLow T ≤ g → g < h → ¬ leftN (tLH T (tLow T) g) (tNT T) = 1) ∧ b = -1) → (keepT rows rowsL) → GG l D clX (tyX Y) cX1_upTo 4 (some .int) RX1 ({ frames := 1816, cells := 1, slots := 6, locals := 54545 } : Room) A (MXN A) (QB (Qi (fun (v : Int32) (u : XT) => isUpTo T wh 0 v ∧ keepT rows u.2.2.2.2.2.2) (fun (u : XT) => HW D clX A (CoL Y cb ra 70 u.1 u.2.1 0 (-1) u.2.2.1 u.2.2.2.1 u.2.2.2.2.1 u.2.2.2.2.2.1 u.2.2.2.2.2.2 (XoL Y xa ca cb ra (ta 0) bL taped fk fa an nx images tape W))) A) (fun (u : Nat) => (∃ v9, isUpTo T wh u v9) ∧ 0 < u) (fun u => exL ["java/lang/IllegalArgumentException"] u) (fun (u : Nat) (_ : Nat) => HW D clX A (CoL Y cb ra 70 tk many 0 (-1) xs ys heaps slips rows (XoL Y xa ca cb ra (ta 0) bL taped fk fa an nx images tape W))) 1 6 A) (HW D clX A (CoL Y cb ra 70 tkL manyL 0 (-1) xsL ysL heapsL slipsL rowsL (XoL Y xa ca cb ra (ta 0) bL taped fk fa an nx images tape W))) (0 + 1) (0 + 6) 27 [(0, .ref (xa 0)), (1, .int wh), (2, .int b), (3, .int (nI h))] [] := by
      intro q27
      induction q27 with
      | zero => intro h b tkL manyL xsL ysL heapsL slipsL rowsL hq27; exact absurd hq27 (Nat.not_lt_zero _)
      | succ q27 ih27 =>
        intro h b tkL manyL xsL ysL heapsL slipsL rowsL hq27 hh1 hh2 hb hz hkL
        refine g_iload_n 3 dX1_upTo_27 rfl rfl ?_
        refine g_bipush (v := nI 60) dX1_upTo_28 (by decide +kernel) ?_
        refine g_icmp_gt_n (tgt := 69) dX1_upTo_30 (by decide) (by omega) (by omega) (fun c30 => ?_) (fun c30 => ?_)
        · skip
          refine g_iload_n 2 dX1_upTo_69 rfl rfl ?_
          exact GG.ret (g_iret (tkL, manyL, xsL, ysL, heapsL, slipsL, rowsL) dX1_upTo_70 (Nat.le_of_ble_eq_true rfl) (Nat.le_of_ble_eq_true rfl) (⟨by unfold isUpTo; rcases hwh with q0 | q1; (· rw [if_pos q0]; exact ⟨rfl, Or.inr ⟨fun g g1 g2 => (hz q0).1 g g1 (by omega), (hz q0).2⟩⟩); (· rw [if_neg (show ¬ wh = 0 by rw [q1]; decide), if_pos q1]; exact ⟨rfl, hb.elim (fun ⟨y, y1, y2, y3, y4, y5⟩ => Or.inl ⟨y, y1, by omega, y3, fun g g1 g2 => y4 g g1 (by omega), y5⟩) (fun ⟨y1, y2⟩ => Or.inr ⟨fun g g1 g2 => y1 g g1 (by omega), y2⟩)⟩), hkL⟩) (fun _ h => h))
        · skip
          refine g_aload_n 0 dX1_upTo_33 rfl rfl ?_
          refine g_aload_n 0 dX1_upTo_34 rfl rfl ?_
          refine x_get_talk q444 dX1_upTo_35 ?_
          refine g_getfN (C := RX2) (T := TX2) (N := 7) 2 in_X2 rfl (by decide) q214 rfl dX1_upTo_38 (co_has _ (xo_tl hT.1)) rfl ?_
          refine g_iload_n 3 dX1_upTo_41 rfl rfl ?_
          refine h_cVo (ctX1_reaching (tLow T) h hT hok hok.1 hok.2.1 (by omega)) (lw_V q1522 q1524 qs38 q106 q1525) ⟨rfl, hy_X1_reaching⟩ rfl ⟨Nat.le_of_ble_eq_true rfl, Nat.le_of_ble_eq_true rfl⟩ ⟨Nat.le_of_ble_eq_true rfl, Nat.le_of_ble_eq_true rfl⟩ rfl (Nat.le_of_ble_eq_true rfl) dX1_upTo_42 x_rec (fun u9 hp9 => ?_)
          obtain ⟨many1, xs1, ys1, heaps1, slips1, rows1⟩ := u9
          obtain ⟨hF1, hk1⟩ := hp9
          have hF1 : LdT (tLH T (tLow T) h) 70 many1 xs1 ys1 slips1 rows1 := hF1
          have hk1 : keepT rowsL rows1 := hk1
          have hok2 := hok.lh hok.1 hok.2.1 (show h ≤ 60 by omega)
          have hn1 := hF1.num hok2
          refine h_cVi (ctX3_end (xo_up hT) (by decide) hok.2.2.2.2.2.2.1) (lw_V q723 q694 q695 q111 q696) ⟨rfl, hy_X3_end⟩ rfl ⟨Nat.le_of_ble_eq_true rfl, Nat.le_of_ble_eq_true rfl⟩ ⟨Nat.le_of_ble_eq_true rfl, Nat.le_of_ble_eq_true rfl⟩ rfl (Nat.le_of_ble_eq_true rfl) dX1_upTo_45 co_rec (fun r u9 hp9 => ?_)
          obtain rfl := hp9
          rw [show cnt (lbt (rows1 (70 + tNT T))) 1856 = leftN (tLH T (tLow T) h) (tNT T) from hn1]
          refine g_iconst (v := nI 1) dX1_upTo_48 (by decide +kernel) ?_
          refine g_icmp_eq_n (tgt := 55) dX1_upTo_49 (by decide) (by have h9 := leftN_le (tLH T (tLow T) h) (tNT T); have h8 := tP_le hok2; omega) (by omega) (fun c49 => ?_) (fun c49 => ?_)
          · skip
            refine g_iload_n 1 dX1_upTo_55 rfl rfl ?_
            refine g_if_ne (tgt := 61) dX1_upTo_56 (by decide) (fun c56 => ?_) (fun c56 => ?_)
            · skip
              refine g_iload_n 3 dX1_upTo_61 rfl rfl ?_
              refine g_istore_n (L' := [(0, _), (1, _), (2, _), (3, _)]) 2 dX1_upTo_62 rfl (by decide) rfl rfl ?_
              refine g_iinc_n (b := 1) (L' := [(0, _), (1, _), (2, _), (3, _)]) dX1_upTo_63 rfl rfl (by decide) rfl rfl ?_
              refine g_goto (tgt := 27) dX1_upTo_66 (by decide) ?_
              exact ih27 (h + 1) _ (some (ta 0)) many1 xs1 ys1 heaps1 slips1 rows1 (by clear hb hz; omega) (by clear hb hz; omega) (by clear hb hz; omega) (Or.inl ⟨h, hh1, by omega, c49, fun g g1 g2 => absurd g2 (by omega), rfl⟩) (fun q0 => absurd q0 c56) (hkL.tr hk1)
            · skip
              refine g_iload_n 3 dX1_upTo_59 rfl rfl ?_
              exact GG.ret (g_iret (some (ta 0), many1, xs1, ys1, heaps1, slips1, rows1) dX1_upTo_60 (Nat.le_of_ble_eq_true rfl) (Nat.le_of_ble_eq_true rfl) (⟨by unfold isUpTo; rw [if_pos c56]; exact ⟨rfl, Or.inl ⟨h, hh1, by omega, c49, (hz c56).1, rfl⟩⟩, hkL.tr hk1⟩) (fun _ h => h))
          · skip
            refine g_goto (tgt := 63) dX1_upTo_52 (by decide) ?_
            refine g_iinc_n (b := 1) (L' := [(0, _), (1, _), (2, _), (3, _)]) dX1_upTo_63 rfl rfl (by decide) rfl rfl ?_
            refine g_goto (tgt := 27) dX1_upTo_66 (by decide) ?_
            exact ih27 (h + 1) b (some (ta 0)) many1 xs1 ys1 heaps1 slips1 rows1 (by clear hb hz; omega) (by clear hb hz; omega) (by clear hb hz; omega) (hb.elim (fun ⟨y, y1, y2, y3, y4, y5⟩ => Or.inl ⟨y, y1, by omega, y3, fun g g1 g2 => (Nat.lt_succ_iff_lt_or_eq.mp g2).elim (fun q => y4 g g1 q) (fun q => by rw [q]; exact c49), y5⟩) (fun ⟨y1, y2⟩ => Or.inr ⟨fun g g1 g2 => (Nat.lt_succ_iff_lt_or_eq.mp g2).elim (fun q => y1 g g1 q) (fun q => by rw [q]; exact c49), y2⟩)) (fun q0 => ⟨fun g g1 g2 => (Nat.lt_succ_iff_lt_or_eq.mp g2).elim (fun q => (hz q0).1 g g1 q) (fun q => by rw [q]; exact c49), (hz q0).2⟩) (hkL.tr hk1)
    have ho2 := hok.2.1
    exact loop27 62 (tLow T) (-1) tk many xs ys heaps slips rows (by omega) (by omega) (by omega) (Or.inr ⟨fun g g1 g2 => absurd g2 (by omega), rfl⟩) (fun _ => ⟨fun g g1 g2 => absurd g2 (by omega), rfl⟩) (fun _ _ => rfl)
  · skip
    refine g_iload_n 1 dX1_upTo_4 rfl rfl ?_
    refine g_iconst (v := nI 1) dX1_upTo_5 (by decide +kernel) ?_
    refine g_icmp_ne (tgt := 13) dX1_upTo_6 (by decide) (fun c6 => ?_) (fun c6 => ?_)
    · skip
      refine g_iconst (v := nI 0) dX1_upTo_13 (by decide +kernel) ?_
      refine x_cSv (ctX1_right false hl9 (fun H H1 h _ hk => HW.keep h hk)) (lw_S q740 q741 q106 q742) hy_X1_right rfl ⟨Nat.le_of_ble_eq_true rfl, Nat.le_of_ble_eq_true rfl⟩ ⟨Nat.le_of_ble_eq_true rfl, Nat.le_of_ble_eq_true rfl⟩ rfl (Nat.le_of_ble_eq_true rfl) dX1_upTo_14 (fun _ _ _ h => h.1) (fun u9 q9 hx9 => xg_out 1 (Nat.le_of_ble_eq_true rfl) (Nat.le_of_ble_eq_true rfl) (⟨⟨0, by unfold isUpTo; rw [if_neg c1, if_neg (show ¬ wh = 1 from c6)]⟩, Nat.le_of_ble_eq_true rfl⟩) rfl (fun _ h => h)) (fun u9 hy => ?_)
      exact absurd hy (by decide)
    · skip
      refine g_iconst (v := nI 1) dX1_upTo_9 (by decide +kernel) ?_
      refine g_goto (tgt := 14) dX1_upTo_10 (by decide) ?_
      refine x_cSv (ctX1_right true hl9 (fun H H1 h _ hk => HW.keep h hk)) (lw_S q740 q741 q106 q742) hy_X1_right rfl ⟨Nat.le_of_ble_eq_true rfl, Nat.le_of_ble_eq_true rfl⟩ ⟨Nat.le_of_ble_eq_true rfl, Nat.le_of_ble_eq_true rfl⟩ rfl (Nat.le_of_ble_eq_true rfl) dX1_upTo_14 (fun _ _ _ h => h.1) (fun u9 q9 hx9 => absurd hx9 (by decide)) (fun u9 hy => ?_)
      have hwh : wh = 0 ∨ wh = 1 := Or.inr c6
      refine g_iconst (v := -1) dX1_upTo_17 (by decide +kernel) ?_
      refine g_istore_n (L' := [(0, _), (1, _), (2, _)]) 2 dX1_upTo_18 rfl (by decide) rfl rfl ?_
      refine g_aload_n 0 dX1_upTo_19 rfl rfl ?_
      refine x_get_talk q444 dX1_upTo_20 ?_
      refine g_getfN (C := RX2) (T := TX2) (N := 7) 2 in_X2 rfl (by decide) q214 rfl dX1_upTo_23 (co_has _ (xo_tl hT.1)) rfl ?_
      refine g_istore_n (L' := [(0, _), (1, _), (2, _), (3, _)]) 3 dX1_upTo_26 rfl (by decide) rfl rfl ?_
      have loop27 : ∀ (q27 : Nat) (h : Nat) (b : Int32) (tkL : Option Nat) (manyL : Nat) (xsL ysL heapsL : Nat → Nat) (slipsL : Nat → Nat → Nat) (rowsL : Nat → Nat → Int64), 61 - h < q27 → (tLow T ≤ h) → (h ≤ 61) → ((∃ y, tLow T ≤ y ∧ y < h ∧ leftN (tLH T (tLow T) y) (tNT T) = 1 ∧ (∀ g, y < g → g < h → ¬ leftN (tLH T (tLow T) g) (tNT T) = 1) ∧ b = nI y) ∨ ((∀ g, tLow T ≤ g → g < h → ¬ leftN (tLH T (tLow T) g) (tNT T) = 1) ∧ b = -1)) → (wh = 0 → (∀ g, tLow T ≤ g → g < h → ¬ leftN (tLH T (tLow T) g) (tNT T) = 1) ∧ b = -1) → (keepT rows rowsL) → GG l D clX (tyX Y) cX1_upTo 4 (some .int) RX1 ({ frames := 1816, cells := 1, slots := 6, locals := 54545 } : Room) A (MXN A) (QB (Qi (fun (v : Int32) (u : XT) => isUpTo T wh 0 v ∧ keepT rows u.2.2.2.2.2.2) (fun (u : XT) => HW D clX A (CoL Y cb ra 70 u.1 u.2.1 0 (-1) u.2.2.1 u.2.2.2.1 u.2.2.2.2.1 u.2.2.2.2.2.1 u.2.2.2.2.2.2 (XoL Y xa ca cb ra (ta 0) bL taped fk fa an nx images tape W))) A) (fun (u : Nat) => (∃ v9, isUpTo T wh u v9) ∧ 0 < u) (fun u => exL ["java/lang/IllegalArgumentException"] u) (fun (u : Nat) (_ : Nat) => HW D clX A (CoL Y cb ra 70 tk many 0 (-1) xs ys heaps slips rows (XoL Y xa ca cb ra (ta 0) bL taped fk fa an nx images tape W))) 1 6 A) (HW D clX A (CoL Y cb ra 70 tkL manyL 0 (-1) xsL ysL heapsL slipsL rowsL (XoL Y xa ca cb ra (ta 0) bL taped fk fa an nx images tape W))) (0 + 1) (0 + 6) 27 [(0, .ref (xa 0)), (1, .int wh), (2, .int b), (3, .int (nI h))] [] := by
        intro q27
        induction q27 with
        | zero => intro h b tkL manyL xsL ysL heapsL slipsL rowsL hq27; exact absurd hq27 (Nat.not_lt_zero _)
        | succ q27 ih27 =>
          intro h b tkL manyL xsL ysL heapsL slipsL rowsL hq27 hh1 hh2 hb hz hkL
          refine g_iload_n 3 dX1_upTo_27 rfl rfl ?_
          refine g_bipush (v := nI 60) dX1_upTo_28 (by decide +kernel) ?_
          refine g_icmp_gt_n (tgt := 69) dX1_upTo_30 (by decide) (by omega) (by omega) (fun c30 => ?_) (fun c30 => ?_)
          · skip
            refine g_iload_n 2 dX1_upTo_69 rfl rfl ?_
            exact GG.ret (g_iret (tkL, manyL, xsL, ysL, heapsL, slipsL, rowsL) dX1_upTo_70 (Nat.le_of_ble_eq_true rfl) (Nat.le_of_ble_eq_true rfl) (⟨by unfold isUpTo; rcases hwh with q0 | q1; (· rw [if_pos q0]; exact ⟨rfl, Or.inr ⟨fun g g1 g2 => (hz q0).1 g g1 (by omega), (hz q0).2⟩⟩); (· rw [if_neg (show ¬ wh = 0 by rw [q1]; decide), if_pos q1]; exact ⟨rfl, hb.elim (fun ⟨y, y1, y2, y3, y4, y5⟩ => Or.inl ⟨y, y1, by omega, y3, fun g g1 g2 => y4 g g1 (by omega), y5⟩) (fun ⟨y1, y2⟩ => Or.inr ⟨fun g g1 g2 => y1 g g1 (by omega), y2⟩)⟩), hkL⟩) (fun _ h => h))
          · skip
            refine g_aload_n 0 dX1_upTo_33 rfl rfl ?_
            refine g_aload_n 0 dX1_upTo_34 rfl rfl ?_
            refine x_get_talk q444 dX1_upTo_35 ?_
            refine g_getfN (C := RX2) (T := TX2) (N := 7) 2 in_X2 rfl (by decide) q214 rfl dX1_upTo_38 (co_has _ (xo_tl hT.1)) rfl ?_
            refine g_iload_n 3 dX1_upTo_41 rfl rfl ?_
            refine h_cVo (ctX1_reaching (tLow T) h hT hok hok.1 hok.2.1 (by omega)) (lw_V q1522 q1524 qs38 q106 q1525) ⟨rfl, hy_X1_reaching⟩ rfl ⟨Nat.le_of_ble_eq_true rfl, Nat.le_of_ble_eq_true rfl⟩ ⟨Nat.le_of_ble_eq_true rfl, Nat.le_of_ble_eq_true rfl⟩ rfl (Nat.le_of_ble_eq_true rfl) dX1_upTo_42 x_rec (fun u9 hp9 => ?_)
            obtain ⟨many1, xs1, ys1, heaps1, slips1, rows1⟩ := u9
            obtain ⟨hF1, hk1⟩ := hp9
            have hF1 : LdT (tLH T (tLow T) h) 70 many1 xs1 ys1 slips1 rows1 := hF1
            have hk1 : keepT rowsL rows1 := hk1
            have hok2 := hok.lh hok.1 hok.2.1 (show h ≤ 60 by omega)
            have hn1 := hF1.num hok2
            refine h_cVi (ctX3_end (xo_up hT) (by decide) hok.2.2.2.2.2.2.1) (lw_V q723 q694 q695 q111 q696) ⟨rfl, hy_X3_end⟩ rfl ⟨Nat.le_of_ble_eq_true rfl, Nat.le_of_ble_eq_true rfl⟩ ⟨Nat.le_of_ble_eq_true rfl, Nat.le_of_ble_eq_true rfl⟩ rfl (Nat.le_of_ble_eq_true rfl) dX1_upTo_45 co_rec (fun r u9 hp9 => ?_)
            obtain rfl := hp9
            rw [show cnt (lbt (rows1 (70 + tNT T))) 1856 = leftN (tLH T (tLow T) h) (tNT T) from hn1]
            refine g_iconst (v := nI 1) dX1_upTo_48 (by decide +kernel) ?_
            refine g_icmp_eq_n (tgt := 55) dX1_upTo_49 (by decide) (by have h9 := leftN_le (tLH T (tLow T) h) (tNT T); have h8 := tP_le hok2; omega) (by omega) (fun c49 => ?_) (fun c49 => ?_)
            · skip
              refine g_iload_n 1 dX1_upTo_55 rfl rfl ?_
              refine g_if_ne (tgt := 61) dX1_upTo_56 (by decide) (fun c56 => ?_) (fun c56 => ?_)
              · skip
                refine g_iload_n 3 dX1_upTo_61 rfl rfl ?_
                refine g_istore_n (L' := [(0, _), (1, _), (2, _), (3, _)]) 2 dX1_upTo_62 rfl (by decide) rfl rfl ?_
                refine g_iinc_n (b := 1) (L' := [(0, _), (1, _), (2, _), (3, _)]) dX1_upTo_63 rfl rfl (by decide) rfl rfl ?_
                refine g_goto (tgt := 27) dX1_upTo_66 (by decide) ?_
                exact ih27 (h + 1) _ (some (ta 0)) many1 xs1 ys1 heaps1 slips1 rows1 (by clear hb hz; omega) (by clear hb hz; omega) (by clear hb hz; omega) (Or.inl ⟨h, hh1, by omega, c49, fun g g1 g2 => absurd g2 (by omega), rfl⟩) (fun q0 => absurd q0 c56) (hkL.tr hk1)
              · skip
                refine g_iload_n 3 dX1_upTo_59 rfl rfl ?_
                exact GG.ret (g_iret (some (ta 0), many1, xs1, ys1, heaps1, slips1, rows1) dX1_upTo_60 (Nat.le_of_ble_eq_true rfl) (Nat.le_of_ble_eq_true rfl) (⟨by unfold isUpTo; rw [if_pos c56]; exact ⟨rfl, Or.inl ⟨h, hh1, by omega, c49, (hz c56).1, rfl⟩⟩, hkL.tr hk1⟩) (fun _ h => h))
            · skip
              refine g_goto (tgt := 63) dX1_upTo_52 (by decide) ?_
              refine g_iinc_n (b := 1) (L' := [(0, _), (1, _), (2, _), (3, _)]) dX1_upTo_63 rfl rfl (by decide) rfl rfl ?_
              refine g_goto (tgt := 27) dX1_upTo_66 (by decide) ?_
              exact ih27 (h + 1) b (some (ta 0)) many1 xs1 ys1 heaps1 slips1 rows1 (by clear hb hz; omega) (by clear hb hz; omega) (by clear hb hz; omega) (hb.elim (fun ⟨y, y1, y2, y3, y4, y5⟩ => Or.inl ⟨y, y1, by omega, y3, fun g g1 g2 => (Nat.lt_succ_iff_lt_or_eq.mp g2).elim (fun q => y4 g g1 q) (fun q => by rw [q]; exact c49), y5⟩) (fun ⟨y1, y2⟩ => Or.inr ⟨fun g g1 g2 => (Nat.lt_succ_iff_lt_or_eq.mp g2).elim (fun q => y1 g g1 q) (fun q => by rw [q]; exact c49), y2⟩)) (fun q0 => ⟨fun g g1 g2 => (Nat.lt_succ_iff_lt_or_eq.mp g2).elim (fun q => (hz q0).1 g g1 q) (fun q => by rw [q]; exact c49), (hz q0).2⟩) (hkL.tr hk1)
      have ho2 := hok.2.1
      exact loop27 62 (tLow T) (-1) tk many xs ys heaps slips rows (by omega) (by omega) (by omega) (Or.inr ⟨fun g g1 g2 => absurd g2 (by omega), rfl⟩) (fun _ => ⟨fun g g1 g2 => absurd g2 (by omega), rfl⟩) (fun _ _ => rfl)
set_option maxHeartbeats 4000000 in
theorem ctX1_mended {xa ca cb ra ta : Nat → Nat} {T : Talk} {bL : Bool} {tk : Option Nat} {many : Nat} {xs ys heaps : Nat → Nat} {slips : Nat → Nat → Nat} {rows : Nat → Nat → Int64} {taped fk : Nat} {fa : Int32} {an nx : Nat} {images : Nat → Option Nat} {tape : Nat → Int32} {W : va_W} (wh : Int32) (hl9 : l.stackTraces = false) (hT : TalkL Y T ta W) (hok : TOK T) : CTB l D clX (tyX Y) yX1_mended cX1_mended 4 (some .int) ({ frames := 1815, cells := 1, slots := 6, locals := 54523 } : Room) [.ref (xa 0), .int wh] (HW D clX A (CoL Y cb ra 70 tk many 0 (-1) xs ys heaps slips rows (XoL Y xa ca cb ra (ta 0) bL taped fk fa an nx images tape W))) (Qi (fun (v : Int32) (u : XT) => isMended T wh 0 v ∧ keepT rows u.2.2.2.2.2.2) (fun (u : XT) => HW D clX A (CoL Y cb ra 70 u.1 u.2.1 0 (-1) u.2.2.1 u.2.2.2.1 u.2.2.2.2.1 u.2.2.2.2.2.1 u.2.2.2.2.2.2 (XoL Y xa ca cb ra (ta 0) bL taped fk fa an nx images tape W))) A) (fun (u : Nat) => (∃ v9, isMended T wh u v9) ∧ 0 < u) (fun u => exL ["java/lang/IllegalArgumentException"] u) (fun (u : Nat) (_ : Nat) => HW D clX A (CoL Y cb ra 70 tk many 0 (-1) xs ys heaps slips rows (XoL Y xa ca cb ra (ta 0) bL taped fk fa an nx images tape W))) A := by
  refine CTB.of (L := [(0, .ref (xa 0)), (1, .int wh)]) rfl (by decide +kernel) rfl (Nat.le_of_ble_eq_true rfl) ?_
  refine g_iload_n 1 dX1_mended_0 rfl rfl ?_
  refine g_i2l dX1_mended_1 rfl ?_
  refine g_lconst (v := lN 0) dX1_mended_2 (by decide +kernel) ?_
  refine g_ldc2 (v := lN 2) dX1_mended_3 q1686 ?_
  refine h_cSi (ctX1_isIn _ _ _) (lw_S q737 q738 q106 q739) hy_X1_isIn rfl ⟨Nat.le_of_ble_eq_true rfl, Nat.le_of_ble_eq_true rfl⟩ ⟨Nat.le_of_ble_eq_true rfl, Nat.le_of_ble_eq_true rfl⟩ rfl (Nat.le_of_ble_eq_true rfl) dX1_mended_6 (fun r u hp => ?_)
  obtain rfl := hp
  rw [show wIn wh.toInt64 (lN 0) (lN 2) = (iR wh 3).isSome from wIn_iR1 wh (by decide)]
  refine x_cSv (ctX1_right _ hl9 (fun H H1 h _ hk => HW.keep h hk)) (lw_S q740 q741 q106 q742) hy_X1_right rfl ⟨Nat.le_of_ble_eq_true rfl, Nat.le_of_ble_eq_true rfl⟩ ⟨Nat.le_of_ble_eq_true rfl, Nat.le_of_ble_eq_true rfl⟩ rfl (Nat.le_of_ble_eq_true rfl) dX1_mended_9 (fun _ _ _ h => h.1) (fun u9 q9 hx9 => xg_out 1 (Nat.le_of_ble_eq_true rfl) (Nat.le_of_ble_eq_true rfl) (⟨⟨0, by have hn : iR wh 3 = none := (by cases h : iR wh 3 with | none => rfl | some j => rw [h] at hx9; exact absurd (show true = false from hx9) (by decide)); unfold isMended; simp only [hn]⟩, Nat.le_of_ble_eq_true rfl⟩) rfl (fun _ h => h)) (fun u9 hy => ?_)
  obtain ⟨i, hi⟩ := Option.isSome_iff_exists.mp hy
  obtain ⟨hiL, rfl⟩ := iR_some hi
  obtain ⟨ea1, na1, mc1, hL1⟩ := hT.2.1
  obtain ⟨ea2, na2, mc2, hL2⟩ := hT.2.2.1
  have hn20 := hok.2.2.2.2.2.2.1
  have hn6 := hok.2.2.2.2.2.1
  refine g_iconst (v := nI 0) dX1_mended_12 (by decide +kernel) ?_
  refine g_istore_n (L' := [(0, _), (1, _), (2, _)]) 2 dX1_mended_13 rfl (by decide) rfl rfl ?_
  have loop14 : ∀ (q14 : Nat) (t : Nat) (tkL : Option Nat) (manyL : Nat) (xsL ysL heapsL : Nat → Nat) (slipsL : Nat → Nat → Nat) (rowsL : Nat → Nat → Int64), tNT T - t < q14 → (t ≤ tNT T) → (∀ t' s', t' < tNT T → s' < tNS T → ¬ s' = tWho T t' → (t' < t ∨ (t' = t ∧ s' < 0)) → ¬ leftN (tBy T t' s') (tNT T) = 1) → (keepT rows rowsL) → GG l D clX (tyX Y) cX1_mended 4 (some .int) RX1 ({ frames := 1815, cells := 1, slots := 6, locals := 54523 } : Room) A (MXN A) (QB (Qi (fun (v : Int32) (u : XT) => isMended T (nI i) 0 v ∧ keepT rows u.2.2.2.2.2.2) (fun (u : XT) => HW D clX A (CoL Y cb ra 70 u.1 u.2.1 0 (-1) u.2.2.1 u.2.2.2.1 u.2.2.2.2.1 u.2.2.2.2.2.1 u.2.2.2.2.2.2 (XoL Y xa ca cb ra (ta 0) bL taped fk fa an nx images tape W))) A) (fun (u : Nat) => (∃ v9, isMended T (nI i) u v9) ∧ 0 < u) (fun u => exL ["java/lang/IllegalArgumentException"] u) (fun (u : Nat) (_ : Nat) => HW D clX A (CoL Y cb ra 70 tk many 0 (-1) xs ys heaps slips rows (XoL Y xa ca cb ra (ta 0) bL taped fk fa an nx images tape W))) 1 6 A) (HW D clX A (CoL Y cb ra 70 tkL manyL 0 (-1) xsL ysL heapsL slipsL rowsL (XoL Y xa ca cb ra (ta 0) bL taped fk fa an nx images tape W))) (0 + 1) (0 + 6) 14 [(0, .ref (xa 0)), (1, .int (nI i)), (2, .int (nI t))] [] := by
    intro q14
    induction q14 with
    | zero => intro t tkL manyL xsL ysL heapsL slipsL rowsL hq14; exact absurd hq14 (Nat.not_lt_zero _)
    | succ q14 ih14 =>
      intro t tkL manyL xsL ysL heapsL slipsL rowsL hq14 ht hno hkL
      refine g_iload_n 2 dX1_mended_14 rfl rfl ?_
      refine g_aload_n 0 dX1_mended_15 rfl rfl ?_
      refine x_get_talk q444 dX1_mended_16 ?_
      refine g_getfN (C := RX2) (T := TX2) (N := 7) 1 in_X2 rfl (by decide) q212 rfl dX1_mended_19 (co_has _ (xo_tl hT.1)) rfl ?_
      refine h_cVi (ctJ2_size (co_has _ (xo_tl hL2.1))) (lw_V q714 q522 q523 q110 q524) ⟨rfl, hy_J2_size⟩ rfl ⟨Nat.le_of_ble_eq_true rfl, Nat.le_of_ble_eq_true rfl⟩ ⟨Nat.le_of_ble_eq_true rfl, Nat.le_of_ble_eq_true rfl⟩ rfl (Nat.le_of_ble_eq_true rfl) dX1_mended_22 (fun s H hK hP => va_recv hK (co_has _ (xo_tl hL2.1) H hP) (ci := 33) rfl (q0 := 0) rfl) (fun r u hp => ?_)
      obtain rfl := hp
      refine g_icmp_ge_n (tgt := 121) dX1_mended_25 (by decide) (by omega) (by omega) (fun c25 => ?_) (fun c25 => ?_)
      · skip
        refine g_iconst (v := -1) dX1_mended_121 (by decide +kernel) ?_
        exact GG.ret (g_iret (tkL, manyL, xsL, ysL, heapsL, slipsL, rowsL) dX1_mended_122 (Nat.le_of_ble_eq_true rfl) (Nat.le_of_ble_eq_true rfl) (⟨by unfold isMended; simp only [hi]; exact ⟨trivial, Or.inr ⟨fun t' s' a b c => hno t' s' a b c (Or.inl (by omega)), trivial⟩⟩, hkL⟩) (fun _ h => h))
      · skip
        obtain ⟨g9, hg1, hg2, hg3, hg4⟩ := hL2.2 (by omega)
        refine g_iconst (v := nI 0) dX1_mended_28 (by decide +kernel) ?_
        refine g_istore_n (L' := [(0, _), (1, _), (2, _), (3, _)]) 3 dX1_mended_29 rfl (by decide) rfl rfl ?_
        have loop30 : ∀ (q30 : Nat) (s : Nat) (tkM : Option Nat) (manyM : Nat) (xsM ysM heapsM : Nat → Nat) (slipsM : Nat → Nat → Nat) (rowsM : Nat → Nat → Int64), tNS T - s < q30 → (s ≤ tNS T) → (∀ t' s', t' < tNT T → s' < tNS T → ¬ s' = tWho T t' → (t' < t ∨ (t' = t ∧ s' < s)) → ¬ leftN (tBy T t' s') (tNT T) = 1) → (keepT rows rowsM) → GG l D clX (tyX Y) cX1_mended 4 (some .int) RX1 ({ frames := 1815, cells := 1, slots := 6, locals := 54523 } : Room) A (MXN A) (QB (Qi (fun (v : Int32) (u : XT) => isMended T (nI i) 0 v ∧ keepT rows u.2.2.2.2.2.2) (fun (u : XT) => HW D clX A (CoL Y cb ra 70 u.1 u.2.1 0 (-1) u.2.2.1 u.2.2.2.1 u.2.2.2.2.1 u.2.2.2.2.2.1 u.2.2.2.2.2.2 (XoL Y xa ca cb ra (ta 0) bL taped fk fa an nx images tape W))) A) (fun (u : Nat) => (∃ v9, isMended T (nI i) u v9) ∧ 0 < u) (fun u => exL ["java/lang/IllegalArgumentException"] u) (fun (u : Nat) (_ : Nat) => HW D clX A (CoL Y cb ra 70 tk many 0 (-1) xs ys heaps slips rows (XoL Y xa ca cb ra (ta 0) bL taped fk fa an nx images tape W))) 1 6 A) (HW D clX A (CoL Y cb ra 70 tkM manyM 0 (-1) xsM ysM heapsM slipsM rowsM (XoL Y xa ca cb ra (ta 0) bL taped fk fa an nx images tape W))) (0 + 1) (0 + 6) 30 [(0, .ref (xa 0)), (1, .int (nI i)), (2, .int (nI t)), (3, .int (nI s))] [] := by
          intro q30
          induction q30 with
          | zero => intro s tkM manyM xsM ysM heapsM slipsM rowsM hq30; exact absurd hq30 (Nat.not_lt_zero _)
          | succ q30 ih30 =>
            intro s tkM manyM xsM ysM heapsM slipsM rowsM hq30 hs hno2 hkM
            refine g_iload_n 3 dX1_mended_30 rfl rfl ?_
            refine g_aload_n 0 dX1_mended_31 rfl rfl ?_
            refine x_get_talk q444 dX1_mended_32 ?_
            refine g_getfN (C := RX2) (T := TX2) (N := 7) 0 in_X2 rfl (by decide) q207 rfl dX1_mended_35 (co_has _ (xo_tl hT.1)) rfl ?_
            refine h_cVi (ctJ2_size (co_has _ (xo_tl hL1.1))) (lw_V q714 q522 q523 q110 q524) ⟨rfl, hy_J2_size⟩ rfl ⟨Nat.le_of_ble_eq_true rfl, Nat.le_of_ble_eq_true rfl⟩ ⟨Nat.le_of_ble_eq_true rfl, Nat.le_of_ble_eq_true rfl⟩ rfl (Nat.le_of_ble_eq_true rfl) dX1_mended_38 (fun s H hK hP => va_recv hK (co_has _ (xo_tl hL1.1) H hP) (ci := 33) rfl (q0 := 0) rfl) (fun r u hp => ?_)
            obtain rfl := hp
            refine g_icmp_ge_n (tgt := 115) dX1_mended_41 (by decide) (by omega) (by omega) (fun c41 => ?_) (fun c41 => ?_)
            · skip
              refine g_iinc_n (b := 1) (L' := [(0, _), (1, _), (2, _), (3, _)]) dX1_mended_115 rfl rfl (by decide) rfl rfl ?_
              refine g_goto (tgt := 14) dX1_mended_118 (by decide) ?_
              refine GG.locals [0, 1, 2] rfl ?_
              exact ih14 (t + 1) tkM manyM xsM ysM heapsM slipsM rowsM (by omega) (by omega) (fun t' s' a b c q => hno2 t' s' a b c (by omega)) hkM
            · skip
              refine g_iload_n 3 dX1_mended_44 rfl rfl ?_
              refine g_aload_n 0 dX1_mended_45 rfl rfl ?_
              refine x_get_talk q444 dX1_mended_46 ?_
              refine g_getfN (C := RX2) (T := TX2) (N := 7) 1 in_X2 rfl (by decide) q212 rfl dX1_mended_49 (co_has _ (xo_tl hT.1)) rfl ?_
              refine g_iload_n 2 dX1_mended_52 rfl rfl ?_
              refine h_cVo (ctJ2_get t _ (co_has _ (xo_tl hL2.1)) (co_has _ (xo_tl hg1)) hg3 hg2 c25 (congrArg va_rf (hg4 _ c25))) (lw_V q1415 q530 q531 q110 q532) ⟨rfl, hy_J2_get⟩ rfl ⟨Nat.le_of_ble_eq_true rfl, Nat.le_of_ble_eq_true rfl⟩ ⟨Nat.le_of_ble_eq_true rfl, Nat.le_of_ble_eq_true rfl⟩ rfl (Nat.le_of_ble_eq_true rfl) dX1_mended_53 (fun s H hK hP => va_recv hK (co_has _ (xo_tl hL2.1) H hP) (ci := 33) rfl (q0 := 0) rfl) (fun u hp => ?_)
              refine g_castS (r := (RX22, TX22, 2)) q1416 rfl dX1_mended_56 (co_has _ (xo_tl (hT.2.2.2.2 t c25).1)) ?_
              refine g_getfN (C := RX22) (T := TX22) (N := 2) 0 in_X22 rfl (by decide) q1346 rfl dX1_mended_59 (co_has _ (xo_tl (hT.2.2.2.2 t c25).1)) rfl ?_
              refine g_icmp_eq_n (tgt := 109) dX1_mended_62 (by decide) (by omega) (by have := hok.2.2.2.2.2.2.2.2.1 t c25; omega) (fun c62 => ?_) (fun c62 => ?_)
              · skip
                refine g_iinc_n (b := 1) (L' := [(0, _), (1, _), (2, _), (3, _)]) dX1_mended_109 rfl rfl (by decide) rfl rfl ?_
                refine g_goto (tgt := 30) dX1_mended_112 (by decide) ?_
                exact ih30 (s + 1) tkM manyM xsM ysM heapsM slipsM rowsM (by omega) (by omega) (fun t' s' a b c q => by
                  by_cases z : t' = t ∧ s' = s
                  · obtain ⟨rfl, rfl⟩ := z
                    exact absurd c62 c
                  · exact hno2 t' s' a b c (by omega)) hkM
              · skip
                refine g_aload_n 0 dX1_mended_65 rfl rfl ?_
                refine h_cVo (ctX1_fresh hT hok) (lw_V q719 q721 qs6 q106 q722) ⟨rfl, hy_X1_fresh⟩ rfl ⟨Nat.le_of_ble_eq_true rfl, Nat.le_of_ble_eq_true rfl⟩ ⟨Nat.le_of_ble_eq_true rfl, Nat.le_of_ble_eq_true rfl⟩ rfl (Nat.le_of_ble_eq_true rfl) dX1_mended_66 x_rec (fun u9 hp9 => ?_)
                obtain ⟨many1, xs1, ys1, heaps1, slips1, rows1⟩ := u9
                obtain ⟨hW1, hk1⟩ := hp9
                have hW1 : CoWd (tBy T t s) 70 many1 xs1 ys1 slips1 rows1 := hW1
                have hk1 : keepT rowsM rows1 := hk1
                refine g_iload_n 2 dX1_mended_69 rfl rfl ?_
                refine g_iload_n 3 dX1_mended_70 rfl rfl ?_
                refine h_cVo (ctX3_goes (xo_up hT) (SibB hok c25 c41) (hok.by_ c41) hW1 (by decide) (by decide) (Or.inl rfl)) (lw_V q580 q581 q582 q111 q583) ⟨rfl, hy_X3_goes⟩ rfl ⟨Nat.le_of_ble_eq_true rfl, Nat.le_of_ble_eq_true rfl⟩ ⟨Nat.le_of_ble_eq_true rfl, Nat.le_of_ble_eq_true rfl⟩ rfl (Nat.le_of_ble_eq_true rfl) dX1_mended_71 co_rec (fun u9 hp9 => ?_)
                obtain ⟨heaps2, rows2⟩ := u9
                obtain ⟨hg2, hga2, hgk2⟩ := hp9
                have hF2 : LdT (tBy T t s) 70 many1 xs1 ys1 slips1 rows2 := CoWd.fin hW1 hg2 hga2
                have hk2 : keepT rowsM rows2 := hk1.tr (fun r hr => hgk2 r (by omega))
                have hn1 := hF2.num (hok.by_ c41)
                refine h_cVi (ctX3_end (xo_up hT) (by decide) hok.2.2.2.2.2.2.1) (lw_V q723 q694 q695 q111 q696) ⟨rfl, hy_X3_end⟩ rfl ⟨Nat.le_of_ble_eq_true rfl, Nat.le_of_ble_eq_true rfl⟩ ⟨Nat.le_of_ble_eq_true rfl, Nat.le_of_ble_eq_true rfl⟩ rfl (Nat.le_of_ble_eq_true rfl) dX1_mended_74 co_rec (fun r u9 hp9 => ?_)
                obtain rfl := hp9
                rw [show cnt (lbt (rows2 (70 + tNT T))) 1856 = leftN (tBy T t s) (tNT T) from hn1]
                refine g_iconst (v := nI 1) dX1_mended_77 (by decide +kernel) ?_
                refine g_icmp_eq_n (tgt := 84) dX1_mended_78 (by decide) (by have h9 := leftN_le (tBy T t s) (tNT T); have h8 := tP_le (hok.by_ (t := t) c41); omega) (by omega) (fun c78 => ?_) (fun c78 => ?_)
                · skip
                  refine g_iload_n 1 dX1_mended_84 rfl rfl ?_
                  refine g_if_ne_n (tgt := 92) dX1_mended_85 (by decide) (by omega) (fun c85 => ?_) (fun c85 => ?_)
                  · skip
                    refine g_iload_n 1 dX1_mended_92 rfl rfl ?_
                    refine g_iconst (v := nI 1) dX1_mended_93 (by decide +kernel) ?_
                    refine g_icmp_ne_n (tgt := 101) dX1_mended_94 (by decide) (by omega) (by omega) (fun c94 => ?_) (fun c94 => ?_)
                    · skip
                      have hP9 : many1 ≤ 1830 := by have h8 := tP_le (hok.by_ (t := t) c41); have h7 := hF2.1.1; omega
                      refine g_aload_n 0 dX1_mended_101 rfl rfl ?_
                      refine x_get_tried q447 dX1_mended_102 ?_
                      refine h_cVi (ctX3_only (xo_up hT) (by decide) hok.2.2.2.2.2.2.1 (show many1 ≤ 1830 from hP9)) (lw_V q689 q690 q691 q111 q692) ⟨rfl, hy_X3_only⟩ rfl ⟨Nat.le_of_ble_eq_true rfl, Nat.le_of_ble_eq_true rfl⟩ ⟨Nat.le_of_ble_eq_true rfl, Nat.le_of_ble_eq_true rfl⟩ rfl (Nat.le_of_ble_eq_true rfl) dX1_mended_105 co_rec (fun r u9 hp9 => ?_)
                      have hO : isOnly (tBy T t s) r := hF2.only (hok.by_ c41) hp9
                      exact GG.ret (g_iret (some (ta 0), many1, xs1, ys1, heaps2, slips1, rows2) dX1_mended_108 (Nat.le_of_ble_eq_true rfl) (Nat.le_of_ble_eq_true rfl) (⟨by unfold isMended; simp only [hi]; exact ⟨trivial, Or.inl ⟨t, s, r, c25, c41, c62, c78, hO, hno2, by rw [if_neg c85, if_neg c94]⟩⟩, hkM.tr hk2⟩) (fun _ h => h))
                    · skip
                      refine g_iload_n 3 dX1_mended_97 rfl rfl ?_
                      refine g_goto (tgt := 108) dX1_mended_98 (by decide) ?_
                      exact GG.ret (g_iret (some (ta 0), many1, xs1, ys1, heaps2, slips1, rows2) dX1_mended_108 (Nat.le_of_ble_eq_true rfl) (Nat.le_of_ble_eq_true rfl) (⟨by unfold isMended; simp only [hi]; obtain ⟨x9, hx9⟩ := isOnly_ex (T := tBy T t s) c78 (tP_le (hok.by_ c41)); exact ⟨trivial, Or.inl ⟨t, s, x9, c25, c41, c62, c78, hx9, hno2, by rw [if_neg (show ¬ i = 0 by omega), if_pos c94]⟩⟩, hkM.tr hk2⟩) (fun _ h => h))
                  · skip
                    refine g_iload_n 2 dX1_mended_88 rfl rfl ?_
                    refine g_goto (tgt := 108) dX1_mended_89 (by decide) ?_
                    exact GG.ret (g_iret (some (ta 0), many1, xs1, ys1, heaps2, slips1, rows2) dX1_mended_108 (Nat.le_of_ble_eq_true rfl) (Nat.le_of_ble_eq_true rfl) (⟨by unfold isMended; simp only [hi]; obtain ⟨x9, hx9⟩ := isOnly_ex (T := tBy T t s) c78 (tP_le (hok.by_ c41)); exact ⟨trivial, Or.inl ⟨t, s, x9, c25, c41, c62, c78, hx9, hno2, by rw [if_pos c85]⟩⟩, hkM.tr hk2⟩) (fun _ h => h))
                · skip
                  refine g_goto (tgt := 109) dX1_mended_81 (by decide) ?_
                  refine g_iinc_n (b := 1) (L' := [(0, _), (1, _), (2, _), (3, _)]) dX1_mended_109 rfl rfl (by decide) rfl rfl ?_
                  refine g_goto (tgt := 30) dX1_mended_112 (by decide) ?_
                  exact ih30 (s + 1) (some (ta 0)) many1 xs1 ys1 heaps2 slips1 rows2 (by omega) (by omega) (fun t' s' a b c q => by
                    by_cases z : t' = t ∧ s' = s
                    · obtain ⟨rfl, rfl⟩ := z
                      exact c78
                    · exact hno2 t' s' a b c (by omega)) (hkM.tr hk2)
        exact loop30 (tNS T + 1) 0 tkL manyL xsL ysL heapsL slipsL rowsL (by omega) (by omega) hno hkL
  exact loop14 (tNT T + 1) 0 tk many xs ys heaps slips rows (by omega) (by omega) (fun t' s' a b c q => by omega) (fun _ _ => rfl)
end
