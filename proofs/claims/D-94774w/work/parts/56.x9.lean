/-! TWOSLIPS, 9: soonest, shortest -/
set_option maxRecDepth 100000
theorem msk_iff {n : Nat} (hn : n ≤ 6) (x : Int32) : (x &&& ((nI (2 ^ n) - nI 1) ^^^ (-1))) = 0 ↔ (iR x (2 ^ n)).isSome = true := by
  have hm : ∀ n, n < 7 → ∀ i, i < 32 → (((nI (2 ^ n) - nI 1) ^^^ (-1 : Int32)).toBitVec).getLsbD i = decide (n ≤ i) := by decide +kernel
  have h31 : 2 ^ n < 2 ^ 31 := Nat.pow_lt_pow_right (by decide) (by omega)
  have hI : (iR x (2 ^ n)).isSome = true ↔ x.toBitVec.toNat < 2 ^ n := by
    constructor
    · intro h
      obtain ⟨j, hj⟩ := Option.isSome_iff_exists.mp h
      obtain ⟨h1, rfl⟩ := iR_some hj
      rw [show (nI j).toBitVec.toNat = j by show (BitVec.ofNat 32 j).toNat = j; rw [BitVec.toNat_ofNat, Nat.mod_eq_of_lt (by omega)]]
      exact h1
    · intro h
      have e : x = nI x.toBitVec.toNat := by
        apply Int32.toBitVec_inj.mp
        apply BitVec.eq_of_toNat_eq
        show _ = (BitVec.ofNat 32 x.toBitVec.toNat).toNat
        rw [BitVec.toNat_ofNat, Nat.mod_eq_of_lt x.toBitVec.isLt]
      rw [e, iR_nI h (by omega)]; rfl
  rw [hI]
  constructor
  · intro h
    refine Nat.lt_pow_two_of_testBit _ fun i hi => ?_
    rcases Nat.lt_or_ge i 32 with q | q
    · have h2 := congrArg (fun y : Int32 => y.toBitVec.getLsbD i) h
      have h3 : (x.toBitVec &&& ((nI (2 ^ n) - nI 1) ^^^ (-1 : Int32)).toBitVec).getLsbD i = (0 : Int32).toBitVec.getLsbD i := h2
      rw [BitVec.getLsbD_and, hm n (by omega) i q, decide_eq_true hi, Bool.and_true] at h3
      rw [show (0 : Int32).toBitVec.getLsbD i = false from BitVec.getLsbD_zero] at h3
      exact h3
    · exact Nat.testBit_lt_two_pow (Nat.lt_of_lt_of_le x.toBitVec.isLt (Nat.pow_le_pow_right (by decide) q))
  · intro h
    apply Int32.toBitVec_inj.mp
    refine BitVec.eq_of_getLsbD_eq fun i hi => ?_
    show (x.toBitVec &&& ((nI (2 ^ n) - nI 1) ^^^ (-1 : Int32)).toBitVec).getLsbD i = (0 : Int32).toBitVec.getLsbD i
    rw [BitVec.getLsbD_and, hm n (by omega) i hi, show (0 : Int32).toBitVec.getLsbD i = false from BitVec.getLsbD_zero]
    by_cases q : n ≤ i
    · rw [show x.toBitVec.getLsbD i = false from Nat.testBit_lt_two_pow (Nat.lt_of_lt_of_le h (Nat.pow_le_pow_right (by decide) q)), Bool.false_and]
    · rw [decide_eq_false q, Bool.and_false]
theorem wIn_iR2 (v : Int32) {a b : Nat} (ha : a < 2 ^ 31) (hb : b < 2 ^ 31) : wIn v.toInt64 (lN a) (lN b) = true ↔ ∃ j, iR v (b + 1) = some j ∧ a ≤ j := by
  unfold wIn
  rw [decide_eq_true_iff, i2l_int, lN_toInt ha, lN_toInt hb]
  cases h : iR v (b + 1) with
  | none =>
    have h9 := iR_none h
    exact ⟨fun q => absurd ⟨by omega, by omega⟩ h9, fun ⟨j, hj, _⟩ => by cases hj⟩
  | some j =>
    obtain ⟨hj, rfl⟩ := iR_some h
    rw [nI_toInt (by omega)]
    exact ⟨fun q => ⟨j, rfl, by omega⟩, fun ⟨k, hk, h2⟩ => by cases hk; omega⟩
def shOk (v : Int32) : Prop := ∃ i, iR v 14 = some i ∧ (i < 2 ∨ 10 ≤ i)
theorem shOk_a {v : Int32} (h : wIn v.toInt64 (lN 0) (lN 1) = true) : shOk v := by
  obtain ⟨j, h1, -⟩ := (wIn_iR2 v (by decide) (by decide)).mp h
  obtain ⟨h2, rfl⟩ := iR_some h1
  exact ⟨j, iR_nI (by omega) (by decide), Or.inl h2⟩
theorem shOk_b {v : Int32} (h : wIn v.toInt64 (lN 10) (lN 13) = true) : shOk v := by
  obtain ⟨j, h1, h3⟩ := (wIn_iR2 v (by decide) (by decide)).mp h
  exact ⟨j, h1, Or.inr h3⟩
theorem shOk_n {v : Int32} (h1 : wIn v.toInt64 (lN 0) (lN 1) = false) (h2 : wIn v.toInt64 (lN 10) (lN 13) = false) : ¬ shOk v := by
  rintro ⟨i, hi, q | q⟩
  · obtain ⟨hl, rfl⟩ := iR_some hi
    rw [(wIn_iR2 (nI i) (a := 0) (b := 1) (by decide) (by decide)).mpr ⟨i, iR_nI (by omega) (by decide), Nat.zero_le _⟩] at h1
    cases h1
  · rw [(wIn_iR2 v (a := 10) (b := 13) (by decide) (by decide)).mpr ⟨i, hi, q⟩] at h2
    cases h2
theorem sh_bad {T : Talk} {n wh : Int32} {v : Int32} (h : ¬ ((∃ m, iR n 5 = some m ∧ 1 ≤ m) ∧ shOk wh)) : isShortest T n wh 1 v := by
  unfold isShortest
  split
  · next m i h1 h2 => rw [if_neg (fun q => h ⟨⟨m, h1, q.1⟩, i, h2, q.2⟩)]
  · rfl
theorem isFst_row {f : Nat → Int64} {S : Nat → Bool} {m : Nat} {v : Int32} (hr : isRow f (fun w => decide (w < m) && S w)) (hm : m ≤ 1830) (h : isFst (fun w => lbt f w && decide (nI 0 = nI (cnt (lbt f) w))) m v) : isFst S m v := by
  have key : ∀ w, w < m → lbt f w = S w := fun w hw => by
    rw [hr w (by omega)]; show (decide (w < m) && S w) = S w; rw [decide_eq_true hw, Bool.true_and]
  rcases isFst_0 (by omega) h with ⟨w, h1, h2, h3, h4⟩ | ⟨h1, h2⟩
  · exact Or.inl ⟨w, h1, by rw [← key w h1]; exact h2, fun u hu => by rw [← key u (by omega)]; exact h3 u hu, h4⟩
  · exact Or.inr ⟨fun w hw => by rw [← key w hw]; exact h1 w hw, h2⟩

theorem hyx_TwoSlips_Rows_finds__I_Z : "TwoSlips$Rows" ≠ "java/lang/invoke/MethodHandle" ∧ "TwoSlips$Rows" ≠ "java/lang/invoke/VarHandle" ∧ (parseMethodDescriptor "(I)Z").map (fun d => d.parameters.length) = some 1 := by decide +kernel
section
variable {l : Launch} {D : va_G} {Y : Nat → ClassId} {A : Nat → Prop}
set_option maxHeartbeats 4000000 in
/-- by which turns one knows soonest -/
theorem ctX1_soonest {xa ca cb ra ta : Nat → Nat} {T : Talk} {bL : Bool} {tk : Option Nat} {many : Nat} {xs ys heaps : Nat → Nat} {slips : Nat → Nat → Nat} {rows : Nat → Nat → Int64} {taped fk : Nat} {fa : Int32} {an nx : Nat} {images : Nat → Option Nat} {tape : Nat → Int32} {W : va_W} {inn : Option Nat} {mny wd : Nat} {wan hid : Int32} {rw bs : Nat → Nat} (w0 wa0 hi0 k0 : Int32) (hl9 : l.stackTraces = false) (hT : TalkL Y T ta W) (hok : TOK T) (hL : bL = true → tk = some (ta 0) ∧ LdC T many xs ys slips rows) : CTB l D clX (tyX Y) yX1_soonest cX1_soonest 6 (some .int) ({ frames := 1817, cells := 2, slots := 12, locals := 54564 } : Room) [.ref (xa 0), .int w0, .int wa0, .int hi0, .int k0] (HW D clX A (CoL Y ca ra 0 tk many 0 (-1) xs ys heaps slips rows (XoL Y xa ca cb ra (ta 0) bL taped fk fa an nx images tape (soL Y xa ra inn mny wd wan hid rw bs W)))) (Qi (fun (v : Int32) (u : XS × Option Nat × Nat × Nat × Int32 × Int32 × (Nat → Nat)) => isSoonest T w0 wa0 hi0 k0 0 v ∧ LdX T (ta 0) u.1) (fun (u : XS × Option Nat × Nat × Nat × Int32 × Int32 × (Nat → Nat)) => HW D clX A (CoL Y ca ra 0 u.1.2.1 u.1.2.2.1 0 (-1) u.1.2.2.2.1 u.1.2.2.2.2.1 u.1.2.2.2.2.2.1 u.1.2.2.2.2.2.2.1 u.1.2.2.2.2.2.2.2 (XoL Y xa ca cb ra (ta 0) u.1.1 taped fk fa an nx images tape (soL Y xa ra u.2.1 u.2.2.1 u.2.2.2.1 u.2.2.2.2.1 u.2.2.2.2.2.1 u.2.2.2.2.2.2 bs W)))) A) (fun (u : Nat × XS) => (∃ v9, isSoonest T w0 wa0 hi0 k0 u.1 v9) ∧ 0 < u.1 ∧ LdX T (ta 0) u.2) (fun u => exL ["java/util/NoSuchElementException", "java/lang/IllegalArgumentException"] u.1) (fun (u : Nat × XS) (_ : Nat) => HW D clX A (CoL Y ca ra 0 u.2.2.1 u.2.2.2.1 0 (-1) u.2.2.2.2.1 u.2.2.2.2.2.1 u.2.2.2.2.2.2.1 u.2.2.2.2.2.2.2.1 u.2.2.2.2.2.2.2.2 (XoL Y xa ca cb ra (ta 0) u.2.1 taped fk fa an nx images tape (soL Y xa ra inn mny wd wan hid rw bs W)))) A := by
  obtain ⟨ea1, na1, mc1, hL1⟩ := hT.2.1
  have hn6 := hok.2.2.2.2.2.1
  refine CTB.of (L := [(0, .ref (xa 0)), (1, .int w0), (2, .int wa0), (3, .int hi0), (4, .int k0)]) rfl (by decide +kernel) rfl (Nat.le_of_ble_eq_true rfl) ?_
  refine g_aload_n 0 dX1_soonest_0 rfl rfl ?_
  refine g_iload_n 1 dX1_soonest_1 rfl rfl ?_
  refine x_cVv (ctX1_mustWorld _ hl9 (so_up hT) hok hL) (lw_V q1370 q1372 qs33 q106 q1373) ⟨rfl, hy_X1_mustWorld⟩ rfl ⟨Nat.le_of_ble_eq_true rfl, Nat.le_of_ble_eq_true rfl⟩ ⟨Nat.le_of_ble_eq_true rfl, Nat.le_of_ble_eq_true rfl⟩ rfl (Nat.le_of_ble_eq_true rfl) dX1_soonest_2 (fun _ _ _ h => h.1) x_rec (fun u9 q9 hx9 => xg_out (1, (true, some (ta 0), u9.1, u9.2.1, u9.2.2.1, u9.2.2.2.1, u9.2.2.2.2.1, u9.2.2.2.2.2)) (Nat.le_of_ble_eq_true rfl) (Nat.le_of_ble_eq_true rfl) (⟨⟨0, by unfold isSoonest; simp only [hx9.1]⟩, Nat.le_of_ble_eq_true rfl, fun _ => ⟨rfl, hx9.2⟩⟩) rfl (fun _ h => h)) (fun u9 hy9 => ?_)
  obtain ⟨many1, xs1, ys1, heaps1, slips1, rows1⟩ := u9
  obtain ⟨hs9, hC1⟩ := hy9
  have hC1 : LdC T many1 xs1 ys1 slips1 rows1 := hC1
  have hP1 := hC1.mny
  have hP2 := tP_le hok
  obtain ⟨w, hw⟩ := Option.isSome_iff_exists.mp hs9
  obtain ⟨hwL, rfl⟩ := iR_some hw
  refine g_iconst (v := nI 1) dX1_soonest_5 (by decide +kernel) ?_
  refine g_aload_n 0 dX1_soonest_6 rfl rfl ?_
  refine x_get_talk q444 dX1_soonest_7 ?_
  refine g_getfN (C := RX2) (T := TX2) (N := 7) 0 in_X2 rfl (by decide) q207 rfl dX1_soonest_10 (co_has _ (xo_tl (so_tl hT.1))) rfl ?_
  refine h_cVi (ctJ2_size (co_has _ (xo_tl (so_tl hL1.1)))) (lw_V q714 q522 q523 q110 q524) ⟨rfl, hy_J2_size⟩ rfl ⟨Nat.le_of_ble_eq_true rfl, Nat.le_of_ble_eq_true rfl⟩ ⟨Nat.le_of_ble_eq_true rfl, Nat.le_of_ble_eq_true rfl⟩ rfl (Nat.le_of_ble_eq_true rfl) dX1_soonest_13 (fun s H hK hP => va_recv hK (co_has _ (xo_tl (so_tl hL1.1)) H hP) (ci := 33) rfl (q0 := 0) rfl) (fun r u hp => ?_)
  obtain rfl := hp
  refine g_ishl dX1_soonest_16 ?_
  refine GG.topi (pow2_Ns hn6) ?_
  refine g_iconst (v := nI 1) dX1_soonest_17 (by decide +kernel) ?_
  refine g_isub dX1_soonest_18 ?_
  refine g_istore (L' := [(0, _), (1, _), (2, _), (3, _), (4, _), (5, _)]) dX1_soonest_19 (by decide) rfl rfl ?_
  refine g_iload_n 2 dX1_soonest_21 rfl rfl ?_
  refine g_iload dX1_soonest_22 rfl ?_
  refine g_iconst (v := -1) dX1_soonest_24 (by decide +kernel) ?_
  refine g_ixor dX1_soonest_25 ?_
  refine g_iand dX1_soonest_26 ?_
  refine g_if_ne (tgt := 43) dX1_soonest_27 (by decide) (fun c27 => ?_) (fun c27 => ?_)
  · skip
    refine g_iconst (v := nI 0) dX1_soonest_43 (by decide +kernel) ?_
    refine x_cSv (ctX1_right false hl9 (fun H H1 h _ hk => HW.keep h hk)) (lw_S q740 q741 q106 q742) hy_X1_right rfl ⟨Nat.le_of_ble_eq_true rfl, Nat.le_of_ble_eq_true rfl⟩ ⟨Nat.le_of_ble_eq_true rfl, Nat.le_of_ble_eq_true rfl⟩ rfl (Nat.le_of_ble_eq_true rfl) dX1_soonest_44 (fun _ _ _ h => h.1) (fun u9 q9 hx9 => xg_out (2, (true, some (ta 0), many1, xs1, ys1, heaps1, slips1, rows1)) (Nat.le_of_ble_eq_true rfl) (Nat.le_of_ble_eq_true rfl) (⟨⟨0, by unfold isSoonest; simp only [hw]; rw [if_neg (fun q => by first | exact c36 ((msk_iff hn6 hi0).mpr q.2) | exact c27 ((msk_iff hn6 wa0).mpr q.1))]; trivial⟩, Nat.le_of_ble_eq_true rfl, fun _ => ⟨rfl, hC1⟩⟩) rfl (fun _ h => h)) (fun u9 hy => ?_)
    exact absurd hy (by decide)
  · skip
    refine g_iload_n 3 dX1_soonest_30 rfl rfl ?_
    refine g_iload dX1_soonest_31 rfl ?_
    refine g_iconst (v := -1) dX1_soonest_33 (by decide +kernel) ?_
    refine g_ixor dX1_soonest_34 ?_
    refine g_iand dX1_soonest_35 ?_
    refine g_if_ne (tgt := 43) dX1_soonest_36 (by decide) (fun c36 => ?_) (fun c36 => ?_)
    · skip
      refine g_iconst (v := nI 0) dX1_soonest_43 (by decide +kernel) ?_
      refine x_cSv (ctX1_right false hl9 (fun H H1 h _ hk => HW.keep h hk)) (lw_S q740 q741 q106 q742) hy_X1_right rfl ⟨Nat.le_of_ble_eq_true rfl, Nat.le_of_ble_eq_true rfl⟩ ⟨Nat.le_of_ble_eq_true rfl, Nat.le_of_ble_eq_true rfl⟩ rfl (Nat.le_of_ble_eq_true rfl) dX1_soonest_44 (fun _ _ _ h => h.1) (fun u9 q9 hx9 => xg_out (2, (true, some (ta 0), many1, xs1, ys1, heaps1, slips1, rows1)) (Nat.le_of_ble_eq_true rfl) (Nat.le_of_ble_eq_true rfl) (⟨⟨0, by unfold isSoonest; simp only [hw]; rw [if_neg (fun q => by first | exact c36 ((msk_iff hn6 hi0).mpr q.2) | exact c27 ((msk_iff hn6 wa0).mpr q.1))]; trivial⟩, Nat.le_of_ble_eq_true rfl, fun _ => ⟨rfl, hC1⟩⟩) rfl (fun _ h => h)) (fun u9 hy => ?_)
      exact absurd hy (by decide)
    · skip
      refine g_iconst (v := nI 1) dX1_soonest_39 (by decide +kernel) ?_
      refine g_goto (tgt := 44) dX1_soonest_40 (by decide) ?_
      refine x_cSv (ctX1_right true hl9 (fun H H1 h _ hk => HW.keep h hk)) (lw_S q740 q741 q106 q742) hy_X1_right rfl ⟨Nat.le_of_ble_eq_true rfl, Nat.le_of_ble_eq_true rfl⟩ ⟨Nat.le_of_ble_eq_true rfl, Nat.le_of_ble_eq_true rfl⟩ rfl (Nat.le_of_ble_eq_true rfl) dX1_soonest_44 (fun _ _ _ h => h.1) (fun u9 q9 hx9 => absurd hx9 (by decide)) (fun u9 hy => ?_)
      have hwa := (msk_iff hn6 wa0).mp c27
      have hhi := (msk_iff hn6 hi0).mp c36
      refine g_aload_n 0 dX1_soonest_47 rfl rfl ?_
      refine x_get_soon q455 dX1_soonest_48 ?_
      refine g_iload_n 1 dX1_soonest_51 rfl rfl ?_
      refine so_put_worldN q339 dX1_soonest_52 ?_
      refine g_aload_n 0 dX1_soonest_55 rfl rfl ?_
      refine x_get_soon q455 dX1_soonest_56 ?_
      refine g_iload_n 2 dX1_soonest_59 rfl rfl ?_
      refine so_put_wantedN q341 dX1_soonest_60 ?_
      refine g_aload_n 0 dX1_soonest_63 rfl rfl ?_
      refine x_get_soon q455 dX1_soonest_64 ?_
      refine g_iload_n 3 dX1_soonest_67 rfl rfl ?_
      refine so_put_hiddenN q343 dX1_soonest_68 ?_
      refine g_aload_n 0 dX1_soonest_71 rfl rfl ?_
      refine x_get_soon q455 dX1_soonest_72 ?_
      refine g_iconst (v := nI 5) dX1_soonest_75 (by decide +kernel) ?_
      refine h_cUi (ctX5_findsS 5 hT hok (fun _ => ⟨rfl, hC1⟩) (by decide) hwL) (lw_U q1577 q1578 q1580 q1581 q113 q1582) rfl hyx_TwoSlips_Rows_finds__I_Z rfl ⟨Nat.le_of_ble_eq_true rfl, Nat.le_of_ble_eq_true rfl⟩ ⟨Nat.le_of_ble_eq_true rfl, Nat.le_of_ble_eq_true rfl⟩ rfl (Nat.le_of_ble_eq_true rfl) dX1_soonest_76 so_rec (fun r9 u9 hp9 => ?_)
      obtain ⟨⟨many2, xs2, ys2, heaps2, slips2, rows2⟩, n2, rw2⟩ := u9
      obtain ⟨hC2, hr9, hp2⟩ := hp9
      obtain rfl := hr9
      have hC2 : LdC T many2 xs2 ys2 slips2 rows2 := hC2
      have hm2 := hC2.mny
      have hP2 := tP_le hok
      refine g_if_ne_b (tgt := 84) dX1_soonest_79 (by decide) (fun c79 => ?_) (fun c79 => ?_)
      · skip
        obtain ⟨⟨n9, p9⟩, hq⟩ := Option.isSome_iff_exists.mp c79
        obtain ⟨e1, e2, e3, e4⟩ := hp2 n9 p9 hq
        have e1 : n2 = n9 := e1
        subst e1
        have e3 : ∀ i, i < n2 → rw2 i = p9.1.getD i 0 := e3
        have hq : firstG (fun l9 => snF T wa0 hi0 w l9 allT) 6 = some (n2, p9) := hq
        refine g_iload dX1_soonest_84 rfl ?_
        refine g_iconst (v := -1) dX1_soonest_86 (by decide +kernel) ?_
        refine g_icmp_ne (tgt := 100) dX1_soonest_87 (by decide) (fun c87 => ?_) (fun c87 => ?_)
        · skip
          refine g_iload dX1_soonest_100 rfl ?_
          refine g_i2l dX1_soonest_102 rfl ?_
          refine g_lconst (v := lN 0) dX1_soonest_103 (by decide +kernel) ?_
          refine g_aload_n 0 dX1_soonest_104 rfl rfl ?_
          refine x_get_soon q455 dX1_soonest_105 ?_
          refine g_getfU (C := RX6) (T := TX6) (N := 10) 4 in_X6 rfl (by decide) q364 q365 dX1_soonest_108 ((hw_mem (co_tl (xo_tl List.mem_cons_self)))) rfl ?_
          refine g_iconst (v := nI 1) dX1_soonest_111 (by decide +kernel) ?_
          refine g_isub dX1_soonest_112 ?_
          refine g_i2l dX1_soonest_113 rfl ?_
          refine h_cSi (ctX1_isIn _ _ _) (lw_S q737 q738 q106 q739) hy_X1_isIn rfl ⟨Nat.le_of_ble_eq_true rfl, Nat.le_of_ble_eq_true rfl⟩ ⟨Nat.le_of_ble_eq_true rfl, Nat.le_of_ble_eq_true rfl⟩ rfl (Nat.le_of_ble_eq_true rfl) dX1_soonest_114 (fun r u hp => ?_)
          obtain rfl := hp
          rw [wIn_iR k0 (n := n2) (by omega)]
          refine g_if_eq_b (tgt := 133) dX1_soonest_117 (by decide) (fun c117 => ?_) (fun c117 => ?_)
          · skip
            have hnn : iR k0 n2 = none := Option.not_isSome_iff_eq_none.mp (by rw [show (iR k0 n2).isSome = false from c117]; decide)
            refine g_iconst (v := -1) dX1_soonest_133 (by decide +kernel) ?_
            exact GG.ret (g_iret ((true, some (ta 0), many2, xs2, ys2, heaps2, slips2, rows2), some (ca 0), n2, w, wa0, hi0, rw2) dX1_soonest_134 (Nat.le_of_ble_eq_true rfl) (Nat.le_of_ble_eq_true rfl) (⟨by unfold isSoonest; simp only [hw]; rw [if_pos ⟨hwa, hhi⟩]; refine ⟨trivial, ?_⟩; simp only [hq]; rw [if_neg c87]; simp only [hnn]; try trivial, fun _ => ⟨rfl, hC2⟩⟩) (fun _ h => h))
          · skip
            obtain ⟨i, hi⟩ := Option.isSome_iff_exists.mp c117
            obtain ⟨hiL, rfl⟩ := iR_some hi
            refine g_aload_n 0 dX1_soonest_120 rfl rfl ?_
            refine x_get_soon q455 dX1_soonest_121 ?_
            refine g_getfU (C := RX6) (T := TX6) (N := 10) 1 in_X6 rfl (by decide) q352 q353 dX1_soonest_124 ((hw_mem (co_tl (xo_tl List.mem_cons_self)))) rfl ?_
            refine g_iload dX1_soonest_127 rfl ?_
            refine so_ld_row (by omega) dX1_soonest_129 ?_
            refine g_goto (tgt := 134) dX1_soonest_130 (by decide) ?_
            exact GG.ret (g_iret ((true, some (ta 0), many2, xs2, ys2, heaps2, slips2, rows2), some (ca 0), n2, w, wa0, hi0, rw2) dX1_soonest_134 (Nat.le_of_ble_eq_true rfl) (Nat.le_of_ble_eq_true rfl) (⟨by unfold isSoonest; simp only [hw]; rw [if_pos ⟨hwa, hhi⟩]; refine ⟨trivial, ?_⟩; simp only [hq]; rw [if_neg c87]; simp only [hi]; rw [e3 i hiL]; try trivial, fun _ => ⟨rfl, hC2⟩⟩) (fun _ h => h))
        · skip
          refine g_aload_n 0 dX1_soonest_90 rfl rfl ?_
          refine x_get_soon q455 dX1_soonest_91 ?_
          refine g_getfU (C := RX6) (T := TX6) (N := 10) 4 in_X6 rfl (by decide) q364 q365 dX1_soonest_94 ((hw_mem (co_tl (xo_tl List.mem_cons_self)))) rfl ?_
          refine g_goto (tgt := 134) dX1_soonest_97 (by decide) ?_
          exact GG.ret (g_iret ((true, some (ta 0), many2, xs2, ys2, heaps2, slips2, rows2), some (ca 0), n2, w, wa0, hi0, rw2) dX1_soonest_134 (Nat.le_of_ble_eq_true rfl) (Nat.le_of_ble_eq_true rfl) (⟨by unfold isSoonest; simp only [hw]; rw [if_pos ⟨hwa, hhi⟩]; refine ⟨trivial, ?_⟩; simp only [hq]; rw [if_pos c87]; try trivial, fun _ => ⟨rfl, hC2⟩⟩) (fun _ h => h))
      · skip
        refine g_iconst (v := -1) dX1_soonest_82 (by decide +kernel) ?_
        exact GG.ret (g_iret ((true, some (ta 0), many2, xs2, ys2, heaps2, slips2, rows2), some (ca 0), n2, w, wa0, hi0, rw2) dX1_soonest_83 (Nat.le_of_ble_eq_true rfl) (Nat.le_of_ble_eq_true rfl) (⟨by unfold isSoonest; simp only [hw]; rw [if_pos ⟨hwa, hhi⟩]; refine ⟨trivial, ?_⟩; rw [show firstG (fun l9 => snF T wa0 hi0 w l9 allT) 6 = none from Option.not_isSome_iff_eq_none.mp (by rw [show (firstG (fun l9 => snF T wa0 hi0 w l9 allT) 6).isSome = false from c79]; decide)]; try trivial, fun _ => ⟨rfl, hC2⟩⟩) (fun _ h => h))
set_option maxHeartbeats 4000000 in
/-- the shortest row of answers -/
theorem ctX1_shortest {xa ca cb ra ta : Nat → Nat} {T : Talk} {bL : Bool} {tk : Option Nat} {many : Nat} {xs ys heaps : Nat → Nat} {slips : Nat → Nat → Nat} {rows : Nat → Nat → Int64} {taped fk : Nat} {fa : Int32} {an nx : Nat} {images : Nat → Option Nat} {tape : Nat → Int32} {W : va_W} {inn : Option Nat} {mny : Nat} {rw bs : Nat → Nat} (m9 wh : Int32) (hl9 : l.stackTraces = false) (hT : TalkL Y T ta W) (hok : TOK T) (hL : bL = true → tk = some (ta 0) ∧ LdC T many xs ys slips rows) : CTB l D clX (tyX Y) yX1_shortest cX1_shortest 3 (some .int) ({ frames := 1817, cells := 1, slots := 6, locals := 54564 } : Room) [.ref (xa 0), .int m9, .int wh] (HW D clX A (CoL Y ca ra 0 tk many 0 (-1) xs ys heaps slips rows (XoL Y xa ca cb ra (ta 0) bL taped fk fa an nx images tape (brL Y xa ra inn mny rw bs W)))) (Qi (fun (v : Int32) (u : XS × Option Nat × Nat × (Nat → Nat)) => isShortest T m9 wh 0 v ∧ LdX T (ta 0) u.1) (fun (u : XS × Option Nat × Nat × (Nat → Nat)) => HW D clX A (CoL Y ca ra 0 u.1.2.1 u.1.2.2.1 0 (-1) u.1.2.2.2.1 u.1.2.2.2.2.1 u.1.2.2.2.2.2.1 u.1.2.2.2.2.2.2.1 u.1.2.2.2.2.2.2.2 (XoL Y xa ca cb ra (ta 0) u.1.1 taped fk fa an nx images tape (brL Y xa ra u.2.1 u.2.2.1 u.2.2.2 bs W)))) A) (fun (u : Nat × XS) => (∃ v9, isShortest T m9 wh u.1 v9) ∧ 0 < u.1 ∧ LdX T (ta 0) u.2) (fun u => exL ["java/lang/IllegalArgumentException"] u.1) (fun (u : Nat × XS) (_ : Nat) => HW D clX A (CoL Y ca ra 0 u.2.2.1 u.2.2.2.1 0 (-1) u.2.2.2.2.1 u.2.2.2.2.2.1 u.2.2.2.2.2.2.1 u.2.2.2.2.2.2.2.1 u.2.2.2.2.2.2.2.2 (XoL Y xa ca cb ra (ta 0) u.2.1 taped fk fa an nx images tape (brL Y xa ra inn mny rw bs W)))) A := by
  refine CTB.of (L := [(0, .ref (xa 0)), (1, .int m9), (2, .int wh)]) rfl (by decide +kernel) rfl (Nat.le_of_ble_eq_true rfl) ?_
  refine g_iload_n 1 dX1_shortest_0 rfl rfl ?_
  refine g_i2l dX1_shortest_1 rfl ?_
  refine g_lconst (v := lN 1) dX1_shortest_2 (by decide +kernel) ?_
  refine g_ldc2 (v := lN 4) dX1_shortest_3 q1644 ?_
  refine h_cSi (ctX1_isIn _ _ _) (lw_S q737 q738 q106 q739) hy_X1_isIn rfl ⟨Nat.le_of_ble_eq_true rfl, Nat.le_of_ble_eq_true rfl⟩ ⟨Nat.le_of_ble_eq_true rfl, Nat.le_of_ble_eq_true rfl⟩ rfl (Nat.le_of_ble_eq_true rfl) dX1_shortest_6 (fun r u hp => ?_)
  obtain rfl := hp
  refine g_if_eq_b (tgt := 40) dX1_shortest_9 (by decide) (fun c9 => ?_) (fun c9 => ?_)
  · skip
    refine g_iconst (v := nI 0) dX1_shortest_40 (by decide +kernel) ?_
    refine x_cSv (ctX1_right false hl9 (fun H H1 h _ hk => HW.keep h hk)) (lw_S q740 q741 q106 q742) hy_X1_right rfl ⟨Nat.le_of_ble_eq_true rfl, Nat.le_of_ble_eq_true rfl⟩ ⟨Nat.le_of_ble_eq_true rfl, Nat.le_of_ble_eq_true rfl⟩ rfl (Nat.le_of_ble_eq_true rfl) dX1_shortest_41 (fun _ _ _ h => h.1) (fun u9 q9 hx9 => xg_out (1, (bL, tk, many, xs, ys, heaps, slips, rows)) (Nat.le_of_ble_eq_true rfl) (Nat.le_of_ble_eq_true rfl) (⟨⟨0, sh_bad (fun q => by first | exact shOk_n c19 c33 q.2 | (obtain ⟨m, h1, h2⟩ := q.1; rw [(wIn_iR2 m9 (a := 1) (b := 4) (by decide) (by decide)).mpr ⟨m, h1, h2⟩] at c9; cases c9))⟩, Nat.le_of_ble_eq_true rfl, hL⟩) rfl (fun _ h => h)) (fun u9 hy => ?_)
    exact absurd hy (by decide)
  · skip
    refine g_iload_n 2 dX1_shortest_12 rfl rfl ?_
    refine g_i2l dX1_shortest_13 rfl ?_
    refine g_lconst (v := lN 0) dX1_shortest_14 (by decide +kernel) ?_
    refine g_lconst (v := lN 1) dX1_shortest_15 (by decide +kernel) ?_
    refine h_cSi (ctX1_isIn _ _ _) (lw_S q737 q738 q106 q739) hy_X1_isIn rfl ⟨Nat.le_of_ble_eq_true rfl, Nat.le_of_ble_eq_true rfl⟩ ⟨Nat.le_of_ble_eq_true rfl, Nat.le_of_ble_eq_true rfl⟩ rfl (Nat.le_of_ble_eq_true rfl) dX1_shortest_16 (fun r u hp => ?_)
    obtain rfl := hp
    refine g_if_ne_b (tgt := 36) dX1_shortest_19 (by decide) (fun c19 => ?_) (fun c19 => ?_)
    · skip
      refine g_iconst (v := nI 1) dX1_shortest_36 (by decide +kernel) ?_
      refine g_goto (tgt := 41) dX1_shortest_37 (by decide) ?_
      refine x_cSv (ctX1_right true hl9 (fun H H1 h _ hk => HW.keep h hk)) (lw_S q740 q741 q106 q742) hy_X1_right rfl ⟨Nat.le_of_ble_eq_true rfl, Nat.le_of_ble_eq_true rfl⟩ ⟨Nat.le_of_ble_eq_true rfl, Nat.le_of_ble_eq_true rfl⟩ rfl (Nat.le_of_ble_eq_true rfl) dX1_shortest_41 (fun _ _ _ h => h.1) (fun u9 q9 hx9 => absurd hx9 (by decide)) (fun u9 hy => ?_)
      have hwh : shOk wh := by first | exact shOk_b c33 | exact shOk_a c19
      obtain ⟨m, hm, hm1⟩ := (wIn_iR2 m9 (a := 1) (b := 4) (by decide) (by decide)).mp c9
      obtain ⟨hmL, rfl⟩ := iR_some hm
      obtain ⟨i, hi, hi2⟩ := hwh
      obtain ⟨hiL, rfl⟩ := iR_some hi
      have hIM : isShortest T (nI m) (nI i) = fun thr v => (thr = 0 ∧ (match firstG (fun l => shF T l allT) (m + 1) with | none => v = -1 | some (k, p) => if i = 0 then v = nI k else if i = 1 then isFst p.2 (tP T) v else if i - 10 < k then v = nI (p.1.getD (i - 10) 0) else v = -1)) := by
        funext thr v; unfold isShortest; simp only [hm, hi]; rw [if_pos ⟨hm1, hi2⟩]; rfl
      refine g_aload_n 0 dX1_shortest_44 rfl rfl ?_
      refine x_get_brief q456 dX1_shortest_45 ?_
      refine g_iload_n 1 dX1_shortest_48 rfl rfl ?_
      refine h_cUi (ctX5_findsB m hT hok hL (by omega)) (lw_U q1647 q1648 q1649 q1581 q113 q1582) rfl hyx_TwoSlips_Rows_finds__I_Z rfl ⟨Nat.le_of_ble_eq_true rfl, Nat.le_of_ble_eq_true rfl⟩ ⟨Nat.le_of_ble_eq_true rfl, Nat.le_of_ble_eq_true rfl⟩ rfl (Nat.le_of_ble_eq_true rfl) dX1_shortest_49 br_rec (fun r9 u9 hp9 => ?_)
      obtain ⟨⟨many2, xs2, ys2, heaps2, slips2, rows2⟩, n2, rw2⟩ := u9
      obtain ⟨hC2, hr9, hp2⟩ := hp9
      obtain rfl := hr9
      have hC2 : LdC T many2 xs2 ys2 slips2 rows2 := hC2
      have hm2 := hC2.mny
      have hP2 := tP_le hok
      refine g_if_ne_b (tgt := 57) dX1_shortest_52 (by decide) (fun c52 => ?_) (fun c52 => ?_)
      · skip
        obtain ⟨⟨n9, p9⟩, hq⟩ := Option.isSome_iff_exists.mp c52
        obtain ⟨e1, e2, e3, e4⟩ := hp2 n9 p9 hq
        have e1 : n2 = n9 := e1
        subst e1
        have e3 : ∀ i, i < n2 → rw2 i = p9.1.getD i 0 := e3
        have e4 : isRow (rows2 (148 + n2)) (fun w => decide (w < many2) && p9.2 w) := e4
        have hq : firstG (fun l9 => shF T l9 allT) (m + 1) = some (n2, p9) := hq
        refine g_iload_n 2 dX1_shortest_57 rfl rfl ?_
        refine g_if_ne_n (tgt := 69) dX1_shortest_58 (by decide) (by omega) (fun c58 => ?_) (fun c58 => ?_)
        · skip
          refine g_iload_n 2 dX1_shortest_69 rfl rfl ?_
          refine g_iconst (v := nI 1) dX1_shortest_70 (by decide +kernel) ?_
          refine g_icmp_ne_n (tgt := 104) dX1_shortest_71 (by decide) (by omega) (by omega) (fun c71 => ?_) (fun c71 => ?_)
          · skip
            have hi10 : 10 ≤ i := by omega
            refine g_iload_n 2 dX1_shortest_104 rfl rfl ?_
            refine g_bipush (v := nI 10) dX1_shortest_105 (by decide +kernel) ?_
            refine g_isub_n dX1_shortest_107 (by omega) ?_
            refine g_aload_n 0 dX1_shortest_108 rfl rfl ?_
            refine x_get_brief q456 dX1_shortest_109 ?_
            refine g_getfU (C := RX7) (T := TX7) (N := 7) 4 in_X7 rfl (by decide) q366 q367 dX1_shortest_112 ((hw_mem (co_tl (xo_tl List.mem_cons_self)))) rfl ?_
            refine g_icmp_ge_n (tgt := 133) dX1_shortest_115 (by decide) (by omega) (by omega) (fun c115 => ?_) (fun c115 => ?_)
            · skip
              refine g_iconst (v := -1) dX1_shortest_133 (by decide +kernel) ?_
              exact GG.ret (g_iret ((true, some (ta 0), many2, xs2, ys2, heaps2, slips2, rows2), some (ca 0), n2, rw2) dX1_shortest_134 (Nat.le_of_ble_eq_true rfl) (Nat.le_of_ble_eq_true rfl) (⟨by rw [hIM]; refine ⟨rfl, ?_⟩; simp only [hq]; rw [if_neg c58, if_neg c71, if_neg (by omega)]; try trivial, fun _ => ⟨rfl, hC2⟩⟩) (fun _ h => h))
            · skip
              refine g_aload_n 0 dX1_shortest_118 rfl rfl ?_
              refine x_get_brief q456 dX1_shortest_119 ?_
              refine g_getfU (C := RX7) (T := TX7) (N := 7) 1 in_X7 rfl (by decide) q354 q355 dX1_shortest_122 ((hw_mem (co_tl (xo_tl List.mem_cons_self)))) rfl ?_
              refine g_iload_n 2 dX1_shortest_125 rfl rfl ?_
              refine g_bipush (v := nI 10) dX1_shortest_126 (by decide +kernel) ?_
              refine g_isub_n dX1_shortest_128 (by omega) ?_
              refine br_ld_row (by omega) dX1_shortest_129 ?_
              refine g_goto (tgt := 134) dX1_shortest_130 (by decide) ?_
              exact GG.ret (g_iret ((true, some (ta 0), many2, xs2, ys2, heaps2, slips2, rows2), some (ca 0), n2, rw2) dX1_shortest_134 (Nat.le_of_ble_eq_true rfl) (Nat.le_of_ble_eq_true rfl) (⟨by rw [hIM]; refine ⟨rfl, ?_⟩; simp only [hq]; rw [if_neg c58, if_neg c71, if_pos (by omega), e3 (i - 10) (by omega)]; try trivial, fun _ => ⟨rfl, hC2⟩⟩) (fun _ h => h))
          · skip
            refine g_aload_n 0 dX1_shortest_74 rfl rfl ?_
            refine x_get_brief q456 dX1_shortest_75 ?_
            refine g_getfU (C := RX7) (T := TX7) (N := 7) 0 in_X7 rfl (by decide) q350 q347 dX1_shortest_78 ((hw_mem (co_tl (xo_tl List.mem_cons_self)))) rfl ?_
            refine g_aload_n 0 dX1_shortest_81 rfl rfl ?_
            refine x_get_brief q456 dX1_shortest_82 ?_
            refine g_getfU (C := RX7) (T := TX7) (N := 7) 4 in_X7 rfl (by decide) q366 q367 dX1_shortest_85 ((hw_mem (co_tl (xo_tl List.mem_cons_self)))) rfl ?_
            refine br_ld_sets (by omega) dX1_shortest_88 ?_
            refine g_iconst (v := nI 0) dX1_shortest_89 (by decide +kernel) ?_
            refine g_aload_n 0 dX1_shortest_90 rfl rfl ?_
            refine x_get_brief q456 dX1_shortest_91 ?_
            refine g_getfU (C := RX7) (T := TX7) (N := 7) 3 in_X7 rfl (by decide) q362 q360 dX1_shortest_94 ((hw_mem (co_tl (xo_tl List.mem_cons_self)))) rfl ?_
            refine co_get_manyN q276 dX1_shortest_97 ?_
            refine h_cSi (ctX1_at (nI 0) many2 (f := rows2 (148 + n2)) (hw_ix (CoL_row (r := 148 + n2) (by omega))) (by omega)) (lw_S q1447 q707 q106 q708) hy_X1_at rfl ⟨Nat.le_of_ble_eq_true rfl, Nat.le_of_ble_eq_true rfl⟩ ⟨Nat.le_of_ble_eq_true rfl, Nat.le_of_ble_eq_true rfl⟩ rfl (Nat.le_of_ble_eq_true rfl) dX1_shortest_100 (fun r u hat => ?_)
            exact GG.ret (g_iret ((true, some (ta 0), many2, xs2, ys2, heaps2, slips2, rows2), some (ca 0), n2, rw2) dX1_shortest_103 (Nat.le_of_ble_eq_true rfl) (Nat.le_of_ble_eq_true rfl) (⟨by rw [hIM]; refine ⟨rfl, ?_⟩; simp only [hq]; rw [if_neg c58, if_pos c71, ← hm2]; exact isFst_row e4 (by omega) hat; try trivial, fun _ => ⟨rfl, hC2⟩⟩) (fun _ h => h))
        · skip
          refine g_aload_n 0 dX1_shortest_61 rfl rfl ?_
          refine x_get_brief q456 dX1_shortest_62 ?_
          refine g_getfU (C := RX7) (T := TX7) (N := 7) 4 in_X7 rfl (by decide) q366 q367 dX1_shortest_65 ((hw_mem (co_tl (xo_tl List.mem_cons_self)))) rfl ?_
          exact GG.ret (g_iret ((true, some (ta 0), many2, xs2, ys2, heaps2, slips2, rows2), some (ca 0), n2, rw2) dX1_shortest_68 (Nat.le_of_ble_eq_true rfl) (Nat.le_of_ble_eq_true rfl) (⟨by rw [hIM]; refine ⟨rfl, ?_⟩; simp only [hq]; rw [if_pos c58]; try trivial, fun _ => ⟨rfl, hC2⟩⟩) (fun _ h => h))
      · skip
        refine g_iconst (v := -1) dX1_shortest_55 (by decide +kernel) ?_
        exact GG.ret (g_iret ((true, some (ta 0), many2, xs2, ys2, heaps2, slips2, rows2), some (ca 0), n2, rw2) dX1_shortest_56 (Nat.le_of_ble_eq_true rfl) (Nat.le_of_ble_eq_true rfl) (⟨by rw [hIM]; refine ⟨rfl, ?_⟩; rw [show firstG (fun l9 => shF T l9 allT) (m + 1) = none from Option.not_isSome_iff_eq_none.mp (by rw [show (firstG (fun l9 => shF T l9 allT) (m + 1)).isSome = false from c52]; decide)]; try trivial, fun _ => ⟨rfl, hC2⟩⟩) (fun _ h => h))
    · skip
      refine g_iload_n 2 dX1_shortest_22 rfl rfl ?_
      refine g_i2l dX1_shortest_23 rfl ?_
      refine g_ldc2 (v := lN 10) dX1_shortest_24 q1645 ?_
      refine g_ldc2 (v := lN 13) dX1_shortest_27 q1646 ?_
      refine h_cSi (ctX1_isIn _ _ _) (lw_S q737 q738 q106 q739) hy_X1_isIn rfl ⟨Nat.le_of_ble_eq_true rfl, Nat.le_of_ble_eq_true rfl⟩ ⟨Nat.le_of_ble_eq_true rfl, Nat.le_of_ble_eq_true rfl⟩ rfl (Nat.le_of_ble_eq_true rfl) dX1_shortest_30 (fun r u hp => ?_)
      obtain rfl := hp
      refine g_if_eq_b (tgt := 40) dX1_shortest_33 (by decide) (fun c33 => ?_) (fun c33 => ?_)
      · skip
        refine g_iconst (v := nI 0) dX1_shortest_40 (by decide +kernel) ?_
        refine x_cSv (ctX1_right false hl9 (fun H H1 h _ hk => HW.keep h hk)) (lw_S q740 q741 q106 q742) hy_X1_right rfl ⟨Nat.le_of_ble_eq_true rfl, Nat.le_of_ble_eq_true rfl⟩ ⟨Nat.le_of_ble_eq_true rfl, Nat.le_of_ble_eq_true rfl⟩ rfl (Nat.le_of_ble_eq_true rfl) dX1_shortest_41 (fun _ _ _ h => h.1) (fun u9 q9 hx9 => xg_out (1, (bL, tk, many, xs, ys, heaps, slips, rows)) (Nat.le_of_ble_eq_true rfl) (Nat.le_of_ble_eq_true rfl) (⟨⟨0, sh_bad (fun q => by first | exact shOk_n c19 c33 q.2 | (obtain ⟨m, h1, h2⟩ := q.1; rw [(wIn_iR2 m9 (a := 1) (b := 4) (by decide) (by decide)).mpr ⟨m, h1, h2⟩] at c9; cases c9))⟩, Nat.le_of_ble_eq_true rfl, hL⟩) rfl (fun _ h => h)) (fun u9 hy => ?_)
        exact absurd hy (by decide)
      · skip
        refine g_iconst (v := nI 1) dX1_shortest_36 (by decide +kernel) ?_
        refine g_goto (tgt := 41) dX1_shortest_37 (by decide) ?_
        refine x_cSv (ctX1_right true hl9 (fun H H1 h _ hk => HW.keep h hk)) (lw_S q740 q741 q106 q742) hy_X1_right rfl ⟨Nat.le_of_ble_eq_true rfl, Nat.le_of_ble_eq_true rfl⟩ ⟨Nat.le_of_ble_eq_true rfl, Nat.le_of_ble_eq_true rfl⟩ rfl (Nat.le_of_ble_eq_true rfl) dX1_shortest_41 (fun _ _ _ h => h.1) (fun u9 q9 hx9 => absurd hx9 (by decide)) (fun u9 hy => ?_)
        have hwh : shOk wh := by first | exact shOk_b c33 | exact shOk_a c19
        obtain ⟨m, hm, hm1⟩ := (wIn_iR2 m9 (a := 1) (b := 4) (by decide) (by decide)).mp c9
        obtain ⟨hmL, rfl⟩ := iR_some hm
        obtain ⟨i, hi, hi2⟩ := hwh
        obtain ⟨hiL, rfl⟩ := iR_some hi
        have hIM : isShortest T (nI m) (nI i) = fun thr v => (thr = 0 ∧ (match firstG (fun l => shF T l allT) (m + 1) with | none => v = -1 | some (k, p) => if i = 0 then v = nI k else if i = 1 then isFst p.2 (tP T) v else if i - 10 < k then v = nI (p.1.getD (i - 10) 0) else v = -1)) := by
          funext thr v; unfold isShortest; simp only [hm, hi]; rw [if_pos ⟨hm1, hi2⟩]; rfl
        refine g_aload_n 0 dX1_shortest_44 rfl rfl ?_
        refine x_get_brief q456 dX1_shortest_45 ?_
        refine g_iload_n 1 dX1_shortest_48 rfl rfl ?_
        refine h_cUi (ctX5_findsB m hT hok hL (by omega)) (lw_U q1647 q1648 q1649 q1581 q113 q1582) rfl hyx_TwoSlips_Rows_finds__I_Z rfl ⟨Nat.le_of_ble_eq_true rfl, Nat.le_of_ble_eq_true rfl⟩ ⟨Nat.le_of_ble_eq_true rfl, Nat.le_of_ble_eq_true rfl⟩ rfl (Nat.le_of_ble_eq_true rfl) dX1_shortest_49 br_rec (fun r9 u9 hp9 => ?_)
        obtain ⟨⟨many2, xs2, ys2, heaps2, slips2, rows2⟩, n2, rw2⟩ := u9
        obtain ⟨hC2, hr9, hp2⟩ := hp9
        obtain rfl := hr9
        have hC2 : LdC T many2 xs2 ys2 slips2 rows2 := hC2
        have hm2 := hC2.mny
        have hP2 := tP_le hok
        refine g_if_ne_b (tgt := 57) dX1_shortest_52 (by decide) (fun c52 => ?_) (fun c52 => ?_)
        · skip
          obtain ⟨⟨n9, p9⟩, hq⟩ := Option.isSome_iff_exists.mp c52
          obtain ⟨e1, e2, e3, e4⟩ := hp2 n9 p9 hq
          have e1 : n2 = n9 := e1
          subst e1
          have e3 : ∀ i, i < n2 → rw2 i = p9.1.getD i 0 := e3
          have e4 : isRow (rows2 (148 + n2)) (fun w => decide (w < many2) && p9.2 w) := e4
          have hq : firstG (fun l9 => shF T l9 allT) (m + 1) = some (n2, p9) := hq
          refine g_iload_n 2 dX1_shortest_57 rfl rfl ?_
          refine g_if_ne_n (tgt := 69) dX1_shortest_58 (by decide) (by omega) (fun c58 => ?_) (fun c58 => ?_)
          · skip
            refine g_iload_n 2 dX1_shortest_69 rfl rfl ?_
            refine g_iconst (v := nI 1) dX1_shortest_70 (by decide +kernel) ?_
            refine g_icmp_ne_n (tgt := 104) dX1_shortest_71 (by decide) (by omega) (by omega) (fun c71 => ?_) (fun c71 => ?_)
            · skip
              have hi10 : 10 ≤ i := by omega
              refine g_iload_n 2 dX1_shortest_104 rfl rfl ?_
              refine g_bipush (v := nI 10) dX1_shortest_105 (by decide +kernel) ?_
              refine g_isub_n dX1_shortest_107 (by omega) ?_
              refine g_aload_n 0 dX1_shortest_108 rfl rfl ?_
              refine x_get_brief q456 dX1_shortest_109 ?_
              refine g_getfU (C := RX7) (T := TX7) (N := 7) 4 in_X7 rfl (by decide) q366 q367 dX1_shortest_112 ((hw_mem (co_tl (xo_tl List.mem_cons_self)))) rfl ?_
              refine g_icmp_ge_n (tgt := 133) dX1_shortest_115 (by decide) (by omega) (by omega) (fun c115 => ?_) (fun c115 => ?_)
              · skip
                refine g_iconst (v := -1) dX1_shortest_133 (by decide +kernel) ?_
                exact GG.ret (g_iret ((true, some (ta 0), many2, xs2, ys2, heaps2, slips2, rows2), some (ca 0), n2, rw2) dX1_shortest_134 (Nat.le_of_ble_eq_true rfl) (Nat.le_of_ble_eq_true rfl) (⟨by rw [hIM]; refine ⟨rfl, ?_⟩; simp only [hq]; rw [if_neg c58, if_neg c71, if_neg (by omega)]; try trivial, fun _ => ⟨rfl, hC2⟩⟩) (fun _ h => h))
              · skip
                refine g_aload_n 0 dX1_shortest_118 rfl rfl ?_
                refine x_get_brief q456 dX1_shortest_119 ?_
                refine g_getfU (C := RX7) (T := TX7) (N := 7) 1 in_X7 rfl (by decide) q354 q355 dX1_shortest_122 ((hw_mem (co_tl (xo_tl List.mem_cons_self)))) rfl ?_
                refine g_iload_n 2 dX1_shortest_125 rfl rfl ?_
                refine g_bipush (v := nI 10) dX1_shortest_126 (by decide +kernel) ?_
                refine g_isub_n dX1_shortest_128 (by omega) ?_
                refine br_ld_row (by omega) dX1_shortest_129 ?_
                refine g_goto (tgt := 134) dX1_shortest_130 (by decide) ?_
                exact GG.ret (g_iret ((true, some (ta 0), many2, xs2, ys2, heaps2, slips2, rows2), some (ca 0), n2, rw2) dX1_shortest_134 (Nat.le_of_ble_eq_true rfl) (Nat.le_of_ble_eq_true rfl) (⟨by rw [hIM]; refine ⟨rfl, ?_⟩; simp only [hq]; rw [if_neg c58, if_neg c71, if_pos (by omega), e3 (i - 10) (by omega)]; try trivial, fun _ => ⟨rfl, hC2⟩⟩) (fun _ h => h))
            · skip
              refine g_aload_n 0 dX1_shortest_74 rfl rfl ?_
              refine x_get_brief q456 dX1_shortest_75 ?_
              refine g_getfU (C := RX7) (T := TX7) (N := 7) 0 in_X7 rfl (by decide) q350 q347 dX1_shortest_78 ((hw_mem (co_tl (xo_tl List.mem_cons_self)))) rfl ?_
              refine g_aload_n 0 dX1_shortest_81 rfl rfl ?_
              refine x_get_brief q456 dX1_shortest_82 ?_
              refine g_getfU (C := RX7) (T := TX7) (N := 7) 4 in_X7 rfl (by decide) q366 q367 dX1_shortest_85 ((hw_mem (co_tl (xo_tl List.mem_cons_self)))) rfl ?_
              refine br_ld_sets (by omega) dX1_shortest_88 ?_
              refine g_iconst (v := nI 0) dX1_shortest_89 (by decide +kernel) ?_
              refine g_aload_n 0 dX1_shortest_90 rfl rfl ?_
              refine x_get_brief q456 dX1_shortest_91 ?_
              refine g_getfU (C := RX7) (T := TX7) (N := 7) 3 in_X7 rfl (by decide) q362 q360 dX1_shortest_94 ((hw_mem (co_tl (xo_tl List.mem_cons_self)))) rfl ?_
              refine co_get_manyN q276 dX1_shortest_97 ?_
              refine h_cSi (ctX1_at (nI 0) many2 (f := rows2 (148 + n2)) (hw_ix (CoL_row (r := 148 + n2) (by omega))) (by omega)) (lw_S q1447 q707 q106 q708) hy_X1_at rfl ⟨Nat.le_of_ble_eq_true rfl, Nat.le_of_ble_eq_true rfl⟩ ⟨Nat.le_of_ble_eq_true rfl, Nat.le_of_ble_eq_true rfl⟩ rfl (Nat.le_of_ble_eq_true rfl) dX1_shortest_100 (fun r u hat => ?_)
              exact GG.ret (g_iret ((true, some (ta 0), many2, xs2, ys2, heaps2, slips2, rows2), some (ca 0), n2, rw2) dX1_shortest_103 (Nat.le_of_ble_eq_true rfl) (Nat.le_of_ble_eq_true rfl) (⟨by rw [hIM]; refine ⟨rfl, ?_⟩; simp only [hq]; rw [if_neg c58, if_pos c71, ← hm2]; exact isFst_row e4 (by omega) hat; try trivial, fun _ => ⟨rfl, hC2⟩⟩) (fun _ h => h))
          · skip
            refine g_aload_n 0 dX1_shortest_61 rfl rfl ?_
            refine x_get_brief q456 dX1_shortest_62 ?_
            refine g_getfU (C := RX7) (T := TX7) (N := 7) 4 in_X7 rfl (by decide) q366 q367 dX1_shortest_65 ((hw_mem (co_tl (xo_tl List.mem_cons_self)))) rfl ?_
            exact GG.ret (g_iret ((true, some (ta 0), many2, xs2, ys2, heaps2, slips2, rows2), some (ca 0), n2, rw2) dX1_shortest_68 (Nat.le_of_ble_eq_true rfl) (Nat.le_of_ble_eq_true rfl) (⟨by rw [hIM]; refine ⟨rfl, ?_⟩; simp only [hq]; rw [if_pos c58]; try trivial, fun _ => ⟨rfl, hC2⟩⟩) (fun _ h => h))
        · skip
          refine g_iconst (v := -1) dX1_shortest_55 (by decide +kernel) ?_
          exact GG.ret (g_iret ((true, some (ta 0), many2, xs2, ys2, heaps2, slips2, rows2), some (ca 0), n2, rw2) dX1_shortest_56 (Nat.le_of_ble_eq_true rfl) (Nat.le_of_ble_eq_true rfl) (⟨by rw [hIM]; refine ⟨rfl, ?_⟩; rw [show firstG (fun l9 => shF T l9 allT) (m + 1) = none from Option.not_isSome_iff_eq_none.mp (by rw [show (firstG (fun l9 => shF T l9 allT) (m + 1)).isSome = false from c52]; decide)]; try trivial, fun _ => ⟨rfl, hC2⟩⟩) (fun _ h => h))
end
