/-! TWOSLIPS, 4: the course that is tried -/
set_option maxRecDepth 100000
def LdT (T : Talk) (b many : Nat) (xs ys : Nat → Nat) (slips : Nat → Nat → Nat) (rows : Nat → Nat → Int64) : Prop := CoWd T b many xs ys slips rows ∧ CoLf T b many rows (tNT T)
abbrev XT : Type := Option Nat × Nat × (Nat → Nat) × (Nat → Nat) × (Nat → Nat) × (Nat → Nat → Nat) × (Nat → Nat → Int64)
def keepT (rows rows2 : Nat → Nat → Int64) : Prop := ∀ r, ¬ (70 ≤ r ∧ r < 140) → rows2 r = rows r
theorem keepT.tr {rows rows2 rows3 : Nat → Nat → Int64} (h : keepT rows rows2) (h2 : keepT rows2 rows3) : keepT rows rows3 := fun r hr => (h2 r hr).trans (h r hr)
theorem CoWd.fin {T : Talk} {b many : Nat} {xs ys : Nat → Nat} {slips : Nat → Nat → Nat} {rows rows2 : Nat → Nat → Int64} (h : CoWd T b many xs ys slips rows) (hl : CoLf T b many rows2 (tNT T)) (ha : rows2 (b + 69) = rows (b + 69)) : LdT T b many xs ys slips rows2 :=
  ⟨⟨h.1, h.2.1, h.2.2.1, by rw [ha]; exact h.2.2.2.1, fun w hw => (hl 0 (Nat.zero_le _) w hw).trans (by show (_ && leftT T 0 w) = _; rw [leftT_0, Bool.and_true])⟩, hl⟩
theorem LdT.num {T : Talk} {b many : Nat} {xs ys : Nat → Nat} {slips : Nat → Nat → Nat} {rows : Nat → Nat → Int64} (h : LdT T b many xs ys slips rows) (hok : TOK T) : cnt (lbt (rows (b + tNT T))) 1856 = leftN T (tNT T) := by
  have h2 := tP_le hok
  rw [row_cnt (h.2 _ (Nat.le_refl _)) (by rw [h.1.1]; omega), h.1.1]; rfl
theorem SibH {T : Talk} (hok : TOK T) (a b : Nat) : Sib T (tLH T a b) (-1) (-1) (-1) := (show Sib T T (-1) (-1) (-1) from SibI hok)
theorem SibL {T : Talk} (hok : TOK T) {s : Nat} (hs : s < tNS T) : Sib T (tLi T s) (-1) (-1) (nI s) := by
  have h6 := hok.2.2.2.2.2.1
  refine ⟨rfl, rfl, rfl, rfl, rfl, fun i hi => ?_, (SibI hok).2.2.2.2.2.2⟩
  unfold liF
  rw [if_neg (nI_m1 (by omega))]
  show decide (i = s) = decide (nI s = nI i)
  by_cases e : i = s
  · rw [e, decide_eq_true rfl, decide_eq_true rfl]
  · rw [decide_eq_false e, decide_eq_false (fun q => e ((nI_eq (by omega) (by omega)).mp q).symm)]
theorem TOK.li {T : Talk} (h : TOK T) (s : Nat) : TOK (tLi T s) := h
theorem in60 {a0 : Int32} (h : wIn a0.toInt64 (lN 1) (lN 60) = true) : ∃ x, a0 = nI x ∧ 1 ≤ x ∧ x ≤ 60 := by
  have h1 := of_decide_eq_true h
  rw [i2l_int, lN_toInt (by decide), lN_toInt (by decide)] at h1
  obtain ⟨hx, ex⟩ := iR_some (show iR a0 61 = some a0.toNatClampNeg by unfold iR; rw [if_pos ⟨by omega, by omega⟩])
  refine ⟨a0.toNatClampNeg, ex, ?_, by omega⟩
  rw [ex, nI_toInt (by omega)] at h1
  omega
theorem in60b {x : Nat} {b0 : Int32} (hx : x ≤ 60) (h : wIn b0.toInt64 (lN x) (lN 60) = true) : ∃ y, b0 = nI y ∧ x ≤ y ∧ y ≤ 60 := by
  have h1 := of_decide_eq_true h
  rw [i2l_int, lN_toInt (by omega), lN_toInt (by decide)] at h1
  obtain ⟨hy, ey⟩ := iR_some (show iR b0 61 = some b0.toNatClampNeg by unfold iR; rw [if_pos ⟨by omega, by omega⟩])
  refine ⟨b0.toNatClampNeg, ey, ?_, by omega⟩
  rw [ey, nI_toInt (by omega)] at h1
  omega
theorem ends_1 {T : Talk} {a0 b0 : Int32} (h : wIn a0.toInt64 (lN 1) (lN 60) = false) : aEnds T a0 b0 = (1, 0) := by
  have h1 := of_decide_eq_false h
  rw [i2l_int, lN_toInt (by decide), lN_toInt (by decide)] at h1
  unfold aEnds
  rw [if_neg (fun q => h1 ⟨q.1, q.2.1⟩)]
theorem ends_2 {T : Talk} {x : Nat} {b0 : Int32} (hx : x ≤ 60) (h : wIn b0.toInt64 (lN x) (lN 60) = false) : aEnds T (nI x) b0 = (1, 0) := by
  have h1 := of_decide_eq_false h
  rw [i2l_int, lN_toInt (by omega), lN_toInt (by decide)] at h1
  unfold aEnds
  rw [nI_toInt (by omega), if_neg (fun q => h1 ⟨by omega, by omega⟩)]
theorem ends_0 {T : Talk} {x y : Nat} (h1 : 1 ≤ x) (h2 : x ≤ y) (h3 : y ≤ 60) : aEnds T (nI x) (nI y) = (0, nI (leftN (tLH T x y) (tNT T))) := by
  unfold aEnds
  rw [nI_toInt (by omega), nI_toInt (by omega), if_pos ⟨by omega, by omega, by omega, by omega⟩, nI_clamp (by omega), nI_clamp (by omega)]

theorem hy_X1_fresh : yX1_fresh.cls ≠ "java/lang/invoke/MethodHandle" ∧ yX1_fresh.cls ≠ "java/lang/invoke/VarHandle" ∧ (parseMethodDescriptor yX1_fresh.desc).map (fun d => d.parameters.length) = some 0 := by decide +kernel
theorem hy_X1_reaching : yX1_reaching.cls ≠ "java/lang/invoke/MethodHandle" ∧ yX1_reaching.cls ≠ "java/lang/invoke/VarHandle" ∧ (parseMethodDescriptor yX1_reaching.desc).map (fun d => d.parameters.length) = some 2 := by decide +kernel
theorem hy_X1_lying : yX1_lying.cls ≠ "java/lang/invoke/MethodHandle" ∧ yX1_lying.cls ≠ "java/lang/invoke/VarHandle" ∧ (parseMethodDescriptor yX1_lying.desc).map (fun d => d.parameters.length) = some 1 := by decide +kernel
section
variable {l : Launch} {D : va_G} {Y : Nat → ClassId} {A : Nat → Prop}
set_option maxHeartbeats 4000000 in
/-- a speaker, or it throws -/
theorem ctX1_mustSpeakerT {xa ca cb ra ta : Nat → Nat} {T : Talk} {bL : Bool} {tk : Option Nat} {many : Nat} {xs ys heaps : Nat → Nat} {slips : Nat → Nat → Nat} {rows : Nat → Nat → Int64} {taped fk : Nat} {fa : Int32} {an nx : Nat} {images : Nat → Option Nat} {tape : Nat → Int32} {W : va_W} (w0 : Int32) (hl9 : l.stackTraces = false) (hT : TalkL Y T ta W) (hok : TOK T) : CTB l D clX (tyX Y) yX1_mustSpeaker cX1_mustSpeaker 2 none ({ frames := 7, cells := 1, slots := 6, locals := 110 } : Room) [.ref (xa 0), .int w0] (HW D clX A (CoL Y cb ra 70 tk many 0 (-1) xs ys heaps slips rows (XoL Y xa ca cb ra (ta 0) bL taped fk fa an nx images tape W))) (Qv (fun (u : Unit) => (iR w0 (tNS T)).isSome = true) (fun (u : Unit) => HW D clX A (CoL Y cb ra 70 tk many 0 (-1) xs ys heaps slips rows (XoL Y xa ca cb ra (ta 0) bL taped fk fa an nx images tape W))) A) (fun (u : Unit) => iR w0 (tNS T) = none) (fun _ => "java/util/NoSuchElementException") (fun (u : Unit) (_ : Nat) => HW D clX A (CoL Y cb ra 70 tk many 0 (-1) xs ys heaps slips rows (XoL Y xa ca cb ra (ta 0) bL taped fk fa an nx images tape W))) A := by
  obtain ⟨ea1, na1, mc1, hL1⟩ := hT.2.1
  have hn := hok.2.2.2.2.2.1
  refine CTB.of (L := [(0, .ref (xa 0)), (1, .int w0)]) rfl (by decide +kernel) rfl (Nat.le_of_ble_eq_true rfl) ?_
  refine g_iload_n 1 dX1_mustSpeaker_0 rfl rfl ?_
  refine g_i2l dX1_mustSpeaker_1 rfl ?_
  refine g_lconst (v := lN 0) dX1_mustSpeaker_2 (by decide +kernel) ?_
  refine g_aload_n 0 dX1_mustSpeaker_3 rfl rfl ?_
  refine x_get_talk q444 dX1_mustSpeaker_4 ?_
  refine g_getfN (C := RX2) (T := TX2) (N := 7) 0 in_X2 rfl (by decide) q207 rfl dX1_mustSpeaker_7 (co_has _ (xo_tl hT.1)) rfl ?_
  refine h_cVi (ctJ2_size (co_has _ (xo_tl hL1.1))) (lw_V q714 q522 q523 q110 q524) ⟨rfl, hy_J2_size⟩ rfl ⟨Nat.le_of_ble_eq_true rfl, Nat.le_of_ble_eq_true rfl⟩ ⟨Nat.le_of_ble_eq_true rfl, Nat.le_of_ble_eq_true rfl⟩ rfl (Nat.le_of_ble_eq_true rfl) dX1_mustSpeaker_10 (fun s H hK hP => va_recv hK (co_has _ (xo_tl hL1.1) H hP) (ci := 33) rfl (q0 := 0) rfl) (fun r u hp => ?_)
  obtain rfl := hp
  refine g_iconst (v := nI 1) dX1_mustSpeaker_13 (by decide +kernel) ?_
  refine g_isub dX1_mustSpeaker_14 ?_
  refine g_i2l dX1_mustSpeaker_15 rfl ?_
  refine h_cSi (ctX1_isIn _ _ _) (lw_S q737 q738 q106 q739) hy_X1_isIn rfl ⟨Nat.le_of_ble_eq_true rfl, Nat.le_of_ble_eq_true rfl⟩ ⟨Nat.le_of_ble_eq_true rfl, Nat.le_of_ble_eq_true rfl⟩ rfl (Nat.le_of_ble_eq_true rfl) dX1_mustSpeaker_16 (fun r u hp => ?_)
  obtain rfl := hp
  rw [wIn_iR w0 (show tNS T < 2 ^ 31 by omega)]
  refine x_cSv (ctX1_there _ hl9 (fun H H1 h _ hk => HW.keep h hk)) (lw_S q1374 q1375 q106 q1376) hy_X1_there rfl ⟨Nat.le_of_ble_eq_true rfl, Nat.le_of_ble_eq_true rfl⟩ ⟨Nat.le_of_ble_eq_true rfl, Nat.le_of_ble_eq_true rfl⟩ rfl (Nat.le_of_ble_eq_true rfl) dX1_mustSpeaker_19 (fun _ _ _ h => h.1) (fun u9 q9 hx9 => xg_out () (Nat.le_of_ble_eq_true rfl) (Nat.le_of_ble_eq_true rfl) (by cases h : iR w0 (tNS T) with | none => rfl | some j => rw [h] at hx9; exact absurd (show true = false from hx9) (by decide)) rfl (fun _ h => h)) (fun u9 hy => ?_)
  exact GG.ret (g_vret () dX1_mustSpeaker_22 (Nat.le_of_ble_eq_true rfl) (Nat.le_of_ble_eq_true rfl) (hy) (fun _ h => h))
set_option maxHeartbeats 4000000 in
/-- the worlds of the talk, nothing said -/
theorem ctX1_fresh {xa ca cb ra ta : Nat → Nat} {T : Talk} {bL : Bool} {tk : Option Nat} {many : Nat} {xs ys heaps : Nat → Nat} {slips : Nat → Nat → Nat} {rows : Nat → Nat → Int64} {taped fk : Nat} {fa : Int32} {an nx : Nat} {images : Nat → Option Nat} {tape : Nat → Int32} {W : va_W}  (hT : TalkL Y T ta W) (hok : TOK T) : CT l D clX (tyX Y) yX1_fresh cX1_fresh 1 (Option.some (Jvm.ClassFile.FieldType.object "TwoSlips$Course")) ({ frames := 7, cells := 0, slots := 0, locals := 226 } : Room) [.ref (xa 0)] (HW D clX A (CoL Y cb ra 70 tk many 0 (-1) xs ys heaps slips rows (XoL Y xa ca cb ra (ta 0) bL taped fk fa an nx images tape W))) (Qo (fun (u : Nat × (Nat → Nat) × (Nat → Nat) × (Nat → Nat) × (Nat → Nat → Nat) × (Nat → Nat → Int64)) => CoWd T 70 u.1 u.2.1 u.2.2.1 u.2.2.2.2.1 u.2.2.2.2.2 ∧ keepT rows u.2.2.2.2.2) (fun (u : Nat × (Nat → Nat) × (Nat → Nat) × (Nat → Nat) × (Nat → Nat → Nat) × (Nat → Nat → Int64)) => HW D clX A (CoL Y cb ra 70 (some (ta 0)) u.1 0 (-1) u.2.1 u.2.2.1 u.2.2.2.1 u.2.2.2.2.1 u.2.2.2.2.2 (XoL Y xa ca cb ra (ta 0) bL taped fk fa an nx images tape W))) (fun (u : Nat × (Nat → Nat) × (Nat → Nat) × (Nat → Nat) × (Nat → Nat → Nat) × (Nat → Nat → Int64)) => cb 0) A) A := by
  refine CT.of (L := [(0, .ref (xa 0))]) rfl (by decide +kernel) rfl (Nat.le_of_ble_eq_true rfl) ?_
  refine g_aload_n 0 dX1_fresh_0 rfl rfl ?_
  refine x_get_tried q447 dX1_fresh_1 ?_
  refine g_iconst (v := -1) dX1_fresh_4 (by decide +kernel) ?_
  refine co_put_liarN q279 dX1_fresh_5 ?_
  refine g_aload_n 0 dX1_fresh_8 rfl rfl ?_
  refine x_get_tried q447 dX1_fresh_9 ?_
  refine g_aload_n 0 dX1_fresh_12 rfl rfl ?_
  refine x_get_talk q444 dX1_fresh_13 ?_
  refine g_aload_n 0 dX1_fresh_16 rfl rfl ?_
  refine x_get_talk q444 dX1_fresh_17 ?_
  refine g_getfN (C := RX2) (T := TX2) (N := 7) 2 in_X2 rfl (by decide) q214 rfl dX1_fresh_20 (co_has _ (xo_tl hT.1)) rfl ?_
  refine g_aload_n 0 dX1_fresh_23 rfl rfl ?_
  refine x_get_talk q444 dX1_fresh_24 ?_
  refine g_getfN (C := RX2) (T := TX2) (N := 7) 3 in_X2 rfl (by decide) q217 rfl dX1_fresh_27 (co_has _ (xo_tl hT.1)) rfl ?_
  refine h_cVv (ctX3_worlds (tLow T) (tHigh T) (xo_up hT) hok (by decide) hok.1 hok.2.1 hok.2.2.1) (lw_V q514 q515 q516 q111 q517) ⟨rfl, hy_X3_worlds⟩ rfl ⟨Nat.le_of_ble_eq_true rfl, Nat.le_of_ble_eq_true rfl⟩ ⟨Nat.le_of_ble_eq_true rfl, Nat.le_of_ble_eq_true rfl⟩ rfl (Nat.le_of_ble_eq_true rfl) dX1_fresh_30 co_rec (fun u9 hp9 => ?_)
  obtain ⟨many1, xs1, ys1, slips1, rows1⟩ := u9
  obtain ⟨hW1, hr1⟩ := hp9
  have hW1 : CoWd T 70 many1 xs1 ys1 slips1 rows1 := hW1
  have hk1 : keepT rows rows1 := fun r hr => hr1 r (by omega) (by omega)
  refine g_aload_n 0 dX1_fresh_33 rfl rfl ?_
  refine x_get_tried q447 dX1_fresh_34 ?_
  exact g_areto (many1, xs1, ys1, heaps, slips1, rows1) dX1_fresh_37 (Or.inl ⟨_, rfl⟩) (Nat.le_refl _) (Nat.le_refl _) (⟨hW1, hk1⟩) rfl (fun _ h => h)
set_option maxHeartbeats 4000000 in
/-- with other numbers -/
theorem ctX1_reaching {xa ca cb ra ta : Nat → Nat} {T : Talk} {bL : Bool} {tk : Option Nat} {many : Nat} {xs ys heaps : Nat → Nat} {slips : Nat → Nat → Nat} {rows : Nat → Nat → Int64} {taped fk : Nat} {fa : Int32} {an nx : Nat} {images : Nat → Option Nat} {tape : Nat → Int32} {W : va_W} (lo hi : Nat) (hT : TalkL Y T ta W) (hok : TOK T) (h1 : 1 ≤ lo) (h2 : lo ≤ 60) (h3 : hi ≤ 60) : CT l D clX (tyX Y) yX1_reaching cX1_reaching 3 (Option.some (Jvm.ClassFile.FieldType.object "TwoSlips$Course")) ({ frames := 1815, cells := 0, slots := 0, locals := 54523 } : Room) [.ref (xa 0), .int (nI lo), .int (nI hi)] (HW D clX A (CoL Y cb ra 70 tk many 0 (-1) xs ys heaps slips rows (XoL Y xa ca cb ra (ta 0) bL taped fk fa an nx images tape W))) (Qo (fun (u : Nat × (Nat → Nat) × (Nat → Nat) × (Nat → Nat) × (Nat → Nat → Nat) × (Nat → Nat → Int64)) => LdT (tLH T lo hi) 70 u.1 u.2.1 u.2.2.1 u.2.2.2.2.1 u.2.2.2.2.2 ∧ keepT rows u.2.2.2.2.2) (fun (u : Nat × (Nat → Nat) × (Nat → Nat) × (Nat → Nat) × (Nat → Nat → Nat) × (Nat → Nat → Int64)) => HW D clX A (CoL Y cb ra 70 (some (ta 0)) u.1 0 (-1) u.2.1 u.2.2.1 u.2.2.2.1 u.2.2.2.2.1 u.2.2.2.2.2 (XoL Y xa ca cb ra (ta 0) bL taped fk fa an nx images tape W))) (fun (u : Nat × (Nat → Nat) × (Nat → Nat) × (Nat → Nat) × (Nat → Nat → Nat) × (Nat → Nat → Int64)) => cb 0) A) A := by
  refine CT.of (L := [(0, .ref (xa 0)), (1, .int (nI lo)), (2, .int (nI hi))]) rfl (by decide +kernel) rfl (Nat.le_of_ble_eq_true rfl) ?_
  refine g_aload_n 0 dX1_reaching_0 rfl rfl ?_
  refine x_get_tried q447 dX1_reaching_1 ?_
  refine g_iconst (v := -1) dX1_reaching_4 (by decide +kernel) ?_
  refine co_put_liarN q279 dX1_reaching_5 ?_
  refine g_aload_n 0 dX1_reaching_8 rfl rfl ?_
  refine x_get_tried q447 dX1_reaching_9 ?_
  refine g_aload_n 0 dX1_reaching_12 rfl rfl ?_
  refine x_get_talk q444 dX1_reaching_13 ?_
  refine g_iload_n 1 dX1_reaching_16 rfl rfl ?_
  refine g_iload_n 2 dX1_reaching_17 rfl rfl ?_
  refine h_cVv (ctX3_worlds lo hi (xo_up hT) hok (by decide) h1 h2 h3) (lw_V q514 q515 q516 q111 q517) ⟨rfl, hy_X3_worlds⟩ rfl ⟨Nat.le_of_ble_eq_true rfl, Nat.le_of_ble_eq_true rfl⟩ ⟨Nat.le_of_ble_eq_true rfl, Nat.le_of_ble_eq_true rfl⟩ rfl (Nat.le_of_ble_eq_true rfl) dX1_reaching_18 co_rec (fun u9 hp9 => ?_)
  obtain ⟨many1, xs1, ys1, slips1, rows1⟩ := u9
  obtain ⟨hW1, hr1⟩ := hp9
  have hW1 : CoWd (tLH T lo hi) 70 many1 xs1 ys1 slips1 rows1 := hW1
  have hk1 : keepT rows rows1 := fun r hr => hr1 r (by omega) (by omega)
  refine g_aload_n 0 dX1_reaching_21 rfl rfl ?_
  refine x_get_tried q447 dX1_reaching_22 ?_
  refine g_iconst (v := -1) dX1_reaching_25 (by decide +kernel) ?_
  refine g_iconst (v := -1) dX1_reaching_26 (by decide +kernel) ?_
  refine h_cVo (ctX3_goes (xo_up hT) (SibH hok lo hi) (hok.lh h1 h2 h3) hW1 (by decide) (by decide) (Or.inl rfl)) (lw_V q580 q581 q582 q111 q583) ⟨rfl, hy_X3_goes⟩ rfl ⟨Nat.le_of_ble_eq_true rfl, Nat.le_of_ble_eq_true rfl⟩ ⟨Nat.le_of_ble_eq_true rfl, Nat.le_of_ble_eq_true rfl⟩ rfl (Nat.le_of_ble_eq_true rfl) dX1_reaching_27 co_rec (fun u9 hp9 => ?_)
  obtain ⟨heaps2, rows2⟩ := u9
  obtain ⟨hg2, hga2, hgk2⟩ := hp9
  have hF2 : LdT (tLH T lo hi) 70 many1 xs1 ys1 slips1 rows2 := CoWd.fin hW1 hg2 hga2
  have hk2 : keepT rows rows2 := hk1.tr (fun r hr => hgk2 r (by omega))
  exact g_areto (many1, xs1, ys1, heaps2, slips1, rows2) dX1_reaching_30 (Or.inl ⟨_, rfl⟩) (Nat.le_refl _) (Nat.le_refl _) (⟨hF2, hk2⟩) rfl (fun _ h => h)
set_option maxHeartbeats 4000000 in
/-- with one liar alone -/
theorem ctX1_lying {xa ca cb ra ta : Nat → Nat} {T : Talk} {bL : Bool} {tk : Option Nat} {many : Nat} {xs ys heaps : Nat → Nat} {slips : Nat → Nat → Nat} {rows : Nat → Nat → Int64} {taped fk : Nat} {fa : Int32} {an nx : Nat} {images : Nat → Option Nat} {tape : Nat → Int32} {W : va_W} (s0 : Nat) (hT : TalkL Y T ta W) (hok : TOK T) (hs : s0 < tNS T) : CT l D clX (tyX Y) yX1_lying cX1_lying 2 (Option.some (Jvm.ClassFile.FieldType.object "TwoSlips$Course")) ({ frames := 1815, cells := 0, slots := 0, locals := 54523 } : Room) [.ref (xa 0), .int (nI s0)] (HW D clX A (CoL Y cb ra 70 tk many 0 (-1) xs ys heaps slips rows (XoL Y xa ca cb ra (ta 0) bL taped fk fa an nx images tape W))) (Qo (fun (u : Nat × (Nat → Nat) × (Nat → Nat) × (Nat → Nat) × (Nat → Nat → Nat) × (Nat → Nat → Int64)) => LdT (tLi T s0) 70 u.1 u.2.1 u.2.2.1 u.2.2.2.2.1 u.2.2.2.2.2 ∧ keepT rows u.2.2.2.2.2) (fun (u : Nat × (Nat → Nat) × (Nat → Nat) × (Nat → Nat) × (Nat → Nat → Nat) × (Nat → Nat → Int64)) => HW D clX A (CoL Y cb ra 70 (some (ta 0)) u.1 0 (-1) u.2.1 u.2.2.1 u.2.2.2.1 u.2.2.2.2.1 u.2.2.2.2.2 (XoL Y xa ca cb ra (ta 0) bL taped fk fa an nx images tape W))) (fun (u : Nat × (Nat → Nat) × (Nat → Nat) × (Nat → Nat) × (Nat → Nat → Nat) × (Nat → Nat → Int64)) => cb 0) A) A := by
  have h6 := hok.2.2.2.2.2.1
  refine CT.of (L := [(0, .ref (xa 0)), (1, .int (nI s0))]) rfl (by decide +kernel) rfl (Nat.le_of_ble_eq_true rfl) ?_
  refine g_aload_n 0 dX1_lying_0 rfl rfl ?_
  refine h_cVo (ctX1_fresh hT hok) (lw_V q719 q721 qs6 q106 q722) ⟨rfl, hy_X1_fresh⟩ rfl ⟨Nat.le_of_ble_eq_true rfl, Nat.le_of_ble_eq_true rfl⟩ ⟨Nat.le_of_ble_eq_true rfl, Nat.le_of_ble_eq_true rfl⟩ rfl (Nat.le_of_ble_eq_true rfl) dX1_lying_1 x_rec (fun u9 hp9 => ?_)
  obtain ⟨many1, xs1, ys1, heaps1, slips1, rows1⟩ := u9
  obtain ⟨hW1, hk1⟩ := hp9
  have hW1 : CoWd (tLi T s0) 70 many1 xs1 ys1 slips1 rows1 := hW1
  refine g_iload_n 1 dX1_lying_4 rfl rfl ?_
  refine co_put_liarN q279 dX1_lying_5 ?_
  refine g_aload_n 0 dX1_lying_8 rfl rfl ?_
  refine x_get_tried q447 dX1_lying_9 ?_
  refine g_iconst (v := -1) dX1_lying_12 (by decide +kernel) ?_
  refine g_iconst (v := -1) dX1_lying_13 (by decide +kernel) ?_
  refine h_cVo (ctX3_goes (xo_up hT) (SibL hok hs) (hok.li s0) hW1 (by decide) (by decide) (Or.inr ⟨s0, by omega, rfl⟩)) (lw_V q580 q581 q582 q111 q583) ⟨rfl, hy_X3_goes⟩ rfl ⟨Nat.le_of_ble_eq_true rfl, Nat.le_of_ble_eq_true rfl⟩ ⟨Nat.le_of_ble_eq_true rfl, Nat.le_of_ble_eq_true rfl⟩ rfl (Nat.le_of_ble_eq_true rfl) dX1_lying_14 co_rec (fun u9 hp9 => ?_)
  obtain ⟨heaps2, rows2⟩ := u9
  obtain ⟨hg2, hga2, hgk2⟩ := hp9
  have hF2 : LdT (tLi T s0) 70 many1 xs1 ys1 slips1 rows2 := CoWd.fin hW1 hg2 hga2
  have hk2 : keepT rows rows2 := hk1.tr (fun r hr => hgk2 r (by omega))
  refine g_pop dX1_lying_17 rfl ?_
  refine g_aload_n 0 dX1_lying_18 rfl rfl ?_
  refine x_get_tried q447 dX1_lying_19 ?_
  refine g_iconst (v := -1) dX1_lying_22 (by decide +kernel) ?_
  refine co_put_liarN q279 dX1_lying_23 ?_
  refine g_aload_n 0 dX1_lying_26 rfl rfl ?_
  refine x_get_tried q447 dX1_lying_27 ?_
  exact g_areto (many1, xs1, ys1, heaps2, slips1, rows2) dX1_lying_30 (Or.inl ⟨_, rfl⟩) (Nat.le_refl _) (Nat.le_refl _) (⟨hF2, hk2⟩) rfl (fun _ h => h)
set_option maxHeartbeats 4000000 in
theorem ctX1_ends {xa ca cb ra ta : Nat → Nat} {T : Talk} {bL : Bool} {tk : Option Nat} {many : Nat} {xs ys heaps : Nat → Nat} {slips : Nat → Nat → Nat} {rows : Nat → Nat → Int64} {taped fk : Nat} {fa : Int32} {an nx : Nat} {images : Nat → Option Nat} {tape : Nat → Int32} {W : va_W} (a0 b0 : Int32) (hl9 : l.stackTraces = false) (hT : TalkL Y T ta W) (hok : TOK T) : CTB l D clX (tyX Y) yX1_ends cX1_ends 3 (some .int) ({ frames := 1816, cells := 1, slots := 6, locals := 54545 } : Room) [.ref (xa 0), .int a0, .int b0] (HW D clX A (CoL Y cb ra 70 tk many 0 (-1) xs ys heaps slips rows (XoL Y xa ca cb ra (ta 0) bL taped fk fa an nx images tape W))) (Qi (fun (v : Int32) (u : XT) => ans (aEnds T a0 b0) 0 v ∧ keepT rows u.2.2.2.2.2.2) (fun (u : XT) => HW D clX A (CoL Y cb ra 70 u.1 u.2.1 0 (-1) u.2.2.1 u.2.2.2.1 u.2.2.2.2.1 u.2.2.2.2.2.1 u.2.2.2.2.2.2 (XoL Y xa ca cb ra (ta 0) bL taped fk fa an nx images tape W))) A) (fun (u : Nat) => (∃ v9, ans (aEnds T a0 b0) u v9) ∧ 0 < u) (fun u => exL ["java/lang/IllegalArgumentException"] u) (fun (u : Nat) (_ : Nat) => HW D clX A (CoL Y cb ra 70 tk many 0 (-1) xs ys heaps slips rows (XoL Y xa ca cb ra (ta 0) bL taped fk fa an nx images tape W))) A := by
  refine CTB.of (L := [(0, .ref (xa 0)), (1, .int a0), (2, .int b0)]) rfl (by decide +kernel) rfl (Nat.le_of_ble_eq_true rfl) ?_
  refine g_iload_n 1 dX1_ends_0 rfl rfl ?_
  refine g_i2l dX1_ends_1 rfl ?_
  refine g_lconst (v := lN 1) dX1_ends_2 (by decide +kernel) ?_
  refine g_ldc2 (v := lN 60) dX1_ends_3 q1521 ?_
  refine h_cSi (ctX1_isIn _ _ _) (lw_S q737 q738 q106 q739) hy_X1_isIn rfl ⟨Nat.le_of_ble_eq_true rfl, Nat.le_of_ble_eq_true rfl⟩ ⟨Nat.le_of_ble_eq_true rfl, Nat.le_of_ble_eq_true rfl⟩ rfl (Nat.le_of_ble_eq_true rfl) dX1_ends_6 (fun r u hp => ?_)
  obtain rfl := hp
  refine g_if_eq_b (tgt := 29) dX1_ends_9 (by decide) (fun c9 => ?_) (fun c9 => ?_)
  · skip
    refine g_iconst (v := nI 0) dX1_ends_29 (by decide +kernel) ?_
    refine x_cSv (ctX1_right false hl9 (fun H H1 h _ hk => HW.keep h hk)) (lw_S q740 q741 q106 q742) hy_X1_right rfl ⟨Nat.le_of_ble_eq_true rfl, Nat.le_of_ble_eq_true rfl⟩ ⟨Nat.le_of_ble_eq_true rfl, Nat.le_of_ble_eq_true rfl⟩ rfl (Nat.le_of_ble_eq_true rfl) dX1_ends_30 (fun _ _ _ h => h.1) (fun u9 q9 hx9 => xg_out 1 (Nat.le_of_ble_eq_true rfl) (Nat.le_of_ble_eq_true rfl) (⟨ansE (ends_1 c9), Nat.le_of_ble_eq_true rfl⟩) rfl (fun _ h => h)) (fun u9 hy => ?_)
    exact absurd hy (by decide)
  · skip
    obtain ⟨x, rfl, hx1, hx2⟩ := in60 c9
    refine g_iload_n 2 dX1_ends_12 rfl rfl ?_
    refine g_i2l dX1_ends_13 rfl ?_
    refine g_iload_n 1 dX1_ends_14 rfl rfl ?_
    refine g_i2l_n dX1_ends_15 (by omega) ?_
    refine g_ldc2 (v := lN 60) dX1_ends_16 q1521 ?_
    refine h_cSi (ctX1_isIn _ _ _) (lw_S q737 q738 q106 q739) hy_X1_isIn rfl ⟨Nat.le_of_ble_eq_true rfl, Nat.le_of_ble_eq_true rfl⟩ ⟨Nat.le_of_ble_eq_true rfl, Nat.le_of_ble_eq_true rfl⟩ rfl (Nat.le_of_ble_eq_true rfl) dX1_ends_19 (fun r u hp => ?_)
    obtain rfl := hp
    refine g_if_eq_b (tgt := 29) dX1_ends_22 (by decide) (fun c22 => ?_) (fun c22 => ?_)
    · skip
      refine g_iconst (v := nI 0) dX1_ends_29 (by decide +kernel) ?_
      refine x_cSv (ctX1_right false hl9 (fun H H1 h _ hk => HW.keep h hk)) (lw_S q740 q741 q106 q742) hy_X1_right rfl ⟨Nat.le_of_ble_eq_true rfl, Nat.le_of_ble_eq_true rfl⟩ ⟨Nat.le_of_ble_eq_true rfl, Nat.le_of_ble_eq_true rfl⟩ rfl (Nat.le_of_ble_eq_true rfl) dX1_ends_30 (fun _ _ _ h => h.1) (fun u9 q9 hx9 => xg_out 1 (Nat.le_of_ble_eq_true rfl) (Nat.le_of_ble_eq_true rfl) (⟨ansE (ends_2 hx2 c22), Nat.le_of_ble_eq_true rfl⟩) rfl (fun _ h => h)) (fun u9 hy => ?_)
      exact absurd hy (by decide)
    · skip
      obtain ⟨y, rfl, hy1, hy2⟩ := in60b hx2 c22
      refine g_iconst (v := nI 1) dX1_ends_25 (by decide +kernel) ?_
      refine g_goto (tgt := 30) dX1_ends_26 (by decide) ?_
      refine x_cSv (ctX1_right true hl9 (fun H H1 h _ hk => HW.keep h hk)) (lw_S q740 q741 q106 q742) hy_X1_right rfl ⟨Nat.le_of_ble_eq_true rfl, Nat.le_of_ble_eq_true rfl⟩ ⟨Nat.le_of_ble_eq_true rfl, Nat.le_of_ble_eq_true rfl⟩ rfl (Nat.le_of_ble_eq_true rfl) dX1_ends_30 (fun _ _ _ h => h.1) (fun u9 q9 hx9 => absurd hx9 (by decide)) (fun u9 hy => ?_)
      refine g_aload_n 0 dX1_ends_33 rfl rfl ?_
      refine g_iload_n 1 dX1_ends_34 rfl rfl ?_
      refine g_iload_n 2 dX1_ends_35 rfl rfl ?_
      refine h_cVo (ctX1_reaching x y hT hok hx1 hx2 hy2) (lw_V q1522 q1524 qs38 q106 q1525) ⟨rfl, hy_X1_reaching⟩ rfl ⟨Nat.le_of_ble_eq_true rfl, Nat.le_of_ble_eq_true rfl⟩ ⟨Nat.le_of_ble_eq_true rfl, Nat.le_of_ble_eq_true rfl⟩ rfl (Nat.le_of_ble_eq_true rfl) dX1_ends_36 x_rec (fun u9 hp9 => ?_)
      obtain ⟨many1, xs1, ys1, heaps1, slips1, rows1⟩ := u9
      obtain ⟨hF1, hk1⟩ := hp9
      have hF1 : LdT (tLH T x y) 70 many1 xs1 ys1 slips1 rows1 := hF1
      have hn1 := hF1.num (hok.lh hx1 hx2 hy2)
      refine h_cVi (ctX3_end (xo_up hT) (by decide) hok.2.2.2.2.2.2.1) (lw_V q723 q694 q695 q111 q696) ⟨rfl, hy_X3_end⟩ rfl ⟨Nat.le_of_ble_eq_true rfl, Nat.le_of_ble_eq_true rfl⟩ ⟨Nat.le_of_ble_eq_true rfl, Nat.le_of_ble_eq_true rfl⟩ rfl (Nat.le_of_ble_eq_true rfl) dX1_ends_39 co_rec (fun r u9 hp9 => ?_)
      obtain rfl := hp9
      rw [show cnt (lbt (rows1 (70 + tNT T))) 1856 = leftN (tLH T x y) (tNT T) from hn1]
      exact GG.ret (g_iret (some (ta 0), many1, xs1, ys1, heaps1, slips1, rows1) dX1_ends_42 (Nat.le_of_ble_eq_true rfl) (Nat.le_of_ble_eq_true rfl) (⟨ansT (ends_0 hx1 hy1 hy2) rfl, hk1⟩) (fun _ h => h))
set_option maxHeartbeats 4000000 in
theorem ctX1_liar {xa ca cb ra ta : Nat → Nat} {T : Talk} {bL : Bool} {tk : Option Nat} {many : Nat} {xs ys heaps : Nat → Nat} {slips : Nat → Nat → Nat} {rows : Nat → Nat → Int64} {taped fk : Nat} {fa : Int32} {an nx : Nat} {images : Nat → Option Nat} {tape : Nat → Int32} {W : va_W} (s0 : Int32) (hl9 : l.stackTraces = false) (hT : TalkL Y T ta W) (hok : TOK T) : CTB l D clX (tyX Y) yX1_liar cX1_liar 2 (some .int) ({ frames := 1816, cells := 1, slots := 6, locals := 54544 } : Room) [.ref (xa 0), .int s0] (HW D clX A (CoL Y cb ra 70 tk many 0 (-1) xs ys heaps slips rows (XoL Y xa ca cb ra (ta 0) bL taped fk fa an nx images tape W))) (Qi (fun (v : Int32) (u : XT) => ans (aLiar T s0) 0 v ∧ keepT rows u.2.2.2.2.2.2) (fun (u : XT) => HW D clX A (CoL Y cb ra 70 u.1 u.2.1 0 (-1) u.2.2.1 u.2.2.2.1 u.2.2.2.2.1 u.2.2.2.2.2.1 u.2.2.2.2.2.2 (XoL Y xa ca cb ra (ta 0) bL taped fk fa an nx images tape W))) A) (fun (u : Nat) => (∃ v9, ans (aLiar T s0) u v9) ∧ 0 < u) (fun u => exL ["java/util/NoSuchElementException"] u) (fun (u : Nat) (_ : Nat) => HW D clX A (CoL Y cb ra 70 tk many 0 (-1) xs ys heaps slips rows (XoL Y xa ca cb ra (ta 0) bL taped fk fa an nx images tape W))) A := by
  refine CTB.of (L := [(0, .ref (xa 0)), (1, .int s0)]) rfl (by decide +kernel) rfl (Nat.le_of_ble_eq_true rfl) ?_
  refine g_aload_n 0 dX1_liar_0 rfl rfl ?_
  refine g_iload_n 1 dX1_liar_1 rfl rfl ?_
  refine x_cVv (ctX1_mustSpeakerT _ hl9 hT hok) (lw_V q1399 q1401 qs34 q106 q1402) ⟨rfl, hy_X1_mustSpeaker⟩ rfl ⟨Nat.le_of_ble_eq_true rfl, Nat.le_of_ble_eq_true rfl⟩ ⟨Nat.le_of_ble_eq_true rfl, Nat.le_of_ble_eq_true rfl⟩ rfl (Nat.le_of_ble_eq_true rfl) dX1_liar_2 (fun _ _ _ h => h.1) x_rec (fun u9 q9 hx9 => xg_out 1 (Nat.le_of_ble_eq_true rfl) (Nat.le_of_ble_eq_true rfl) (⟨ansE (by unfold aLiar; simp only [hx9]), Nat.le_of_ble_eq_true rfl⟩) rfl (fun _ h => h)) (fun u9 hy9 => ?_)
  obtain ⟨s, hs⟩ := Option.isSome_iff_exists.mp hy9
  obtain ⟨hsL, rfl⟩ := iR_some hs
  refine g_aload_n 0 dX1_liar_5 rfl rfl ?_
  refine g_iload_n 1 dX1_liar_6 rfl rfl ?_
  refine h_cVo (ctX1_lying s hT hok hsL) (lw_V q715 q717 qs5 q106 q718) ⟨rfl, hy_X1_lying⟩ rfl ⟨Nat.le_of_ble_eq_true rfl, Nat.le_of_ble_eq_true rfl⟩ ⟨Nat.le_of_ble_eq_true rfl, Nat.le_of_ble_eq_true rfl⟩ rfl (Nat.le_of_ble_eq_true rfl) dX1_liar_7 x_rec (fun u9 hp9 => ?_)
  obtain ⟨many1, xs1, ys1, heaps1, slips1, rows1⟩ := u9
  obtain ⟨hF1, hk1⟩ := hp9
  have hF1 : LdT (tLi T s) 70 many1 xs1 ys1 slips1 rows1 := hF1
  have hk1 : keepT rows rows1 := hk1
  have hn1 := hF1.num (hok.li s)
  refine h_cVi (ctX3_end (xo_up hT) (by decide) hok.2.2.2.2.2.2.1) (lw_V q723 q694 q695 q111 q696) ⟨rfl, hy_X3_end⟩ rfl ⟨Nat.le_of_ble_eq_true rfl, Nat.le_of_ble_eq_true rfl⟩ ⟨Nat.le_of_ble_eq_true rfl, Nat.le_of_ble_eq_true rfl⟩ rfl (Nat.le_of_ble_eq_true rfl) dX1_liar_10 co_rec (fun r u9 hp9 => ?_)
  obtain rfl := hp9
  rw [show cnt (lbt (rows1 (70 + tNT T))) 1856 = leftN (tLi T s) (tNT T) from hn1]
  exact GG.ret (g_iret (some (ta 0), many1, xs1, ys1, heaps1, slips1, rows1) dX1_liar_13 (Nat.le_of_ble_eq_true rfl) (Nat.le_of_ble_eq_true rfl) (⟨ansT (x := nI (leftN (tLi T s) (tNT T))) (by unfold aLiar; simp only [hs]) (rfl), hk1⟩) (fun _ h => h))
set_option maxHeartbeats 4000000 in
/-- who might be the only liar -/
theorem ctX1_which {xa ca cb ra ta : Nat → Nat} {T : Talk} {bL : Bool} {tk : Option Nat} {many : Nat} {xs ys heaps : Nat → Nat} {slips : Nat → Nat → Nat} {rows : Nat → Nat → Int64} {taped fk : Nat} {fa : Int32} {an nx : Nat} {images : Nat → Option Nat} {tape : Nat → Int32} {W : va_W}  (hT : TalkL Y T ta W) (hok : TOK T) : CT l D clX (tyX Y) yX1_which cX1_which 3 (some .int) ({ frames := 1816, cells := 0, slots := 0, locals := 54544 } : Room) [.ref (xa 0)] (HW D clX A (CoL Y cb ra 70 tk many 0 (-1) xs ys heaps slips rows (XoL Y xa ca cb ra (ta 0) bL taped fk fa an nx images tape W))) (Qi (fun (v : Int32) (u : XT) => v = whF T (tNS T) ∧ keepT rows u.2.2.2.2.2.2) (fun (u : XT) => HW D clX A (CoL Y cb ra 70 u.1 u.2.1 0 (-1) u.2.2.1 u.2.2.2.1 u.2.2.2.2.1 u.2.2.2.2.2.1 u.2.2.2.2.2.2 (XoL Y xa ca cb ra (ta 0) bL taped fk fa an nx images tape W))) A) A := by
  obtain ⟨ea1, na1, mc1, hL1⟩ := hT.2.1
  have h6 := hok.2.2.2.2.2.1
  refine CT.of (L := [(0, .ref (xa 0))]) rfl (by decide +kernel) rfl (Nat.le_of_ble_eq_true rfl) ?_
  refine g_iconst (v := nI 0) dX1_which_0 (by decide +kernel) ?_
  refine g_istore_n (L' := [(0, _), (1, _)]) 1 dX1_which_1 rfl (by decide) rfl rfl ?_
  refine g_iconst (v := nI 0) dX1_which_2 (by decide +kernel) ?_
  refine g_istore_n (L' := [(0, _), (1, _), (2, _)]) 2 dX1_which_3 rfl (by decide) rfl rfl ?_
  have loop4 : ∀ (q4 : Nat) (s : Nat) (tkL : Option Nat) (manyL : Nat) (xsL ysL heapsL : Nat → Nat) (slipsL : Nat → Nat → Nat) (rowsL : Nat → Nat → Int64), tNS T - s < q4 → (s ≤ tNS T) → (keepT rows rowsL) → GG l D clX (tyX Y) cX1_which 3 (some .int) RX1 ({ frames := 1816, cells := 0, slots := 0, locals := 54544 } : Room) A MT (QM (Qi (fun (v : Int32) (u : XT) => v = whF T (tNS T) ∧ keepT rows u.2.2.2.2.2.2) (fun (u : XT) => HW D clX A (CoL Y cb ra 70 u.1 u.2.1 0 (-1) u.2.2.1 u.2.2.2.1 u.2.2.2.2.1 u.2.2.2.2.2.1 u.2.2.2.2.2.2 (XoL Y xa ca cb ra (ta 0) bL taped fk fa an nx images tape W))) A) 0 0 A) (HW D clX A (CoL Y cb ra 70 tkL manyL 0 (-1) xsL ysL heapsL slipsL rowsL (XoL Y xa ca cb ra (ta 0) bL taped fk fa an nx images tape W))) 0 0 4 [(0, .ref (xa 0)), (1, .int (whF T s)), (2, .int (nI s))] [] := by
    intro q4
    induction q4 with
    | zero => intro s tkL manyL xsL ysL heapsL slipsL rowsL hq4; exact absurd hq4 (Nat.not_lt_zero _)
    | succ q4 ih4 =>
      intro s tkL manyL xsL ysL heapsL slipsL rowsL hq4 hs hkL
      refine g_iload_n 2 dX1_which_4 rfl rfl ?_
      refine g_aload_n 0 dX1_which_5 rfl rfl ?_
      refine x_get_talk q444 dX1_which_6 ?_
      refine g_getfN (C := RX2) (T := TX2) (N := 7) 0 in_X2 rfl (by decide) q207 rfl dX1_which_9 (co_has _ (xo_tl hT.1)) rfl ?_
      refine h_cVi (ctJ2_size (co_has _ (xo_tl hL1.1))) (lw_V q714 q522 q523 q110 q524) ⟨rfl, hy_J2_size⟩ rfl ⟨Nat.le_of_ble_eq_true rfl, Nat.le_of_ble_eq_true rfl⟩ ⟨Nat.le_of_ble_eq_true rfl, Nat.le_of_ble_eq_true rfl⟩ rfl (Nat.le_of_ble_eq_true rfl) dX1_which_12 (fun s H hK hP => va_recv hK (co_has _ (xo_tl hL1.1) H hP) (ci := 33) rfl (q0 := 0) rfl) (fun r u hp => ?_)
      obtain rfl := hp
      refine g_icmp_ge_n (tgt := 46) dX1_which_15 (by decide) (by omega) (by omega) (fun c15 => ?_) (fun c15 => ?_)
      · skip
        refine g_iload_n 1 dX1_which_46 rfl rfl ?_
        exact g_iret (tkL, manyL, xsL, ysL, heapsL, slipsL, rowsL) dX1_which_47 (Nat.le_refl _) (Nat.le_refl _) (⟨by rw [show s = tNS T by omega], hkL⟩) (fun _ h => h)
      · skip
        refine g_iload_n 1 dX1_which_18 rfl rfl ?_
        refine g_aload_n 0 dX1_which_19 rfl rfl ?_
        refine g_iload_n 2 dX1_which_20 rfl rfl ?_
        refine h_cVo (ctX1_lying s hT hok c15) (lw_V q715 q717 qs5 q106 q718) ⟨rfl, hy_X1_lying⟩ rfl ⟨Nat.le_of_ble_eq_true rfl, Nat.le_of_ble_eq_true rfl⟩ ⟨Nat.le_of_ble_eq_true rfl, Nat.le_of_ble_eq_true rfl⟩ rfl (Nat.le_of_ble_eq_true rfl) dX1_which_21 x_rec (fun u9 hp9 => ?_)
        obtain ⟨many1, xs1, ys1, heaps1, slips1, rows1⟩ := u9
        obtain ⟨hF1, hk1⟩ := hp9
        have hF1 : LdT (tLi T s) 70 many1 xs1 ys1 slips1 rows1 := hF1
        have hk1 : keepT rowsL rows1 := hk1
        have hn1 := hF1.num (hok.li s)
        refine h_cVi (ctX3_end (xo_up hT) (by decide) hok.2.2.2.2.2.2.1) (lw_V q723 q694 q695 q111 q696) ⟨rfl, hy_X3_end⟩ rfl ⟨Nat.le_of_ble_eq_true rfl, Nat.le_of_ble_eq_true rfl⟩ ⟨Nat.le_of_ble_eq_true rfl, Nat.le_of_ble_eq_true rfl⟩ rfl (Nat.le_of_ble_eq_true rfl) dX1_which_24 co_rec (fun r u9 hp9 => ?_)
        obtain rfl := hp9
        rw [show cnt (lbt (rows1 (70 + tNT T))) 1856 = leftN (tLi T s) (tNT T) from hn1]
        refine g_iconst (v := nI 1) dX1_which_27 (by decide +kernel) ?_
        refine g_icmp_ne_n (tgt := 37) dX1_which_28 (by decide) (by have h9 := leftN_le (tLi T s) (tNT T); have h8 := tP_le (hok.li s); omega) (by omega) (fun c28 => ?_) (fun c28 => ?_)
        · skip
          refine g_iconst (v := nI 0) dX1_which_37 (by decide +kernel) ?_
          refine g_ior dX1_which_38 ?_
          refine g_istore_n (L' := [(0, _), (1, _), (2, _)]) 1 dX1_which_39 rfl (by decide) rfl rfl ?_
          refine g_iinc_n (b := 1) (L' := [(0, _), (1, _), (2, _)]) dX1_which_40 rfl rfl (by decide) rfl rfl ?_
          refine g_goto (tgt := 4) dX1_which_43 (by decide) ?_
          have e9 : whF T (s + 1) = whF T s ||| (if leftN (tLi T s) (tNT T) = 1 then nI 1 <<< (nI s &&& 31) else nI 0) := rfl
          first | rw [if_pos c28] at e9 | rw [if_neg c28] at e9
          rw [← e9]
          exact ih4 (s + 1) (some (ta 0)) many1 xs1 ys1 heaps1 slips1 rows1 (by omega) (by omega) (hkL.tr hk1)
        · skip
          refine g_iconst (v := nI 1) dX1_which_31 (by decide +kernel) ?_
          refine g_iload_n 2 dX1_which_32 rfl rfl ?_
          refine g_ishl dX1_which_33 ?_
          refine g_goto (tgt := 38) dX1_which_34 (by decide) ?_
          refine g_ior dX1_which_38 ?_
          refine g_istore_n (L' := [(0, _), (1, _), (2, _)]) 1 dX1_which_39 rfl (by decide) rfl rfl ?_
          refine g_iinc_n (b := 1) (L' := [(0, _), (1, _), (2, _)]) dX1_which_40 rfl rfl (by decide) rfl rfl ?_
          refine g_goto (tgt := 4) dX1_which_43 (by decide) ?_
          have e9 : whF T (s + 1) = whF T s ||| (if leftN (tLi T s) (tNT T) = 1 then nI 1 <<< (nI s &&& 31) else nI 0) := rfl
          first | rw [if_pos c28] at e9 | rw [if_neg c28] at e9
          rw [← e9]
          exact ih4 (s + 1) (some (ta 0)) many1 xs1 ys1 heaps1 slips1 rows1 (by omega) (by omega) (hkL.tr hk1)
  exact loop4 (tNS T + 1) 0 tk many xs ys heaps slips rows (by omega) (by omega) (fun _ _ => rfl)
end
