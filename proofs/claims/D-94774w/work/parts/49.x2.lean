/-! TWOSLIPS, 2: mustSpeaker, mustTurns, turnOf; questions -/
set_option maxRecDepth 100000
theorem ansE {a : Nat × Int32} {k : Nat} (h : a = (k + 1, 0)) : ∃ v, ans a (k + 1) v := ⟨0, by subst h; exact ⟨rfl, fun e => absurd e (Nat.succ_ne_zero k)⟩⟩
theorem SibI {T : Talk} (hok : TOK T) : Sib T T (-1) (-1) (-1) := ⟨rfl, rfl, rfl, rfl, rfl, fun s hs => (if_pos rfl).symm, fun t ht => ⟨if_neg (fun e => nI_m1 (by have := hok.2.2.2.2.2.2.1; omega) e), hok.2.2.2.2.2.2.2.2.1 t ht⟩⟩
theorem row_cnt {f : Nat → Int64} {g : Nat → Bool} {m : Nat} (h : isRow f (fun w => decide (w < m) && g w)) (hm : m ≤ 1856) : cnt (lbt f) 1856 = cnt g m := by
  rw [cnt_congr (f := lbt f) (g := fun w => decide (w < m) && g w) (fun w hw => h w hw), show 1856 = m + (1856 - m) by omega, cnt_add, cnt_congr (n := m) (f := fun w => decide (w < m) && g w) (g := g) (fun w hw => by rw [decide_eq_true hw, Bool.true_and]), cnt_congr (n := 1856 - m) (g := fun _ => false) (fun w _ => by rw [decide_eq_false (show ¬ m + w < m by omega), Bool.false_and])]
  have h0 : ∀ n, cnt (fun _ => false) n = 0 := fun n => by
    induction n with
    | zero => rfl
    | succ n ih => show cnt (fun _ => false) n + _ = 0; rw [ih]; rfl
  rw [h0]; rfl
section
variable {T : Talk} {many : Nat} {xs ys : Nat → Nat} {slips : Nat → Nat → Nat} {rows : Nat → Nat → Int64}
theorem LdC.env {t : Nat} (h : LdC T many xs ys slips rows) (hok : TOK T) (ht : t ≤ tNT T) : EnvC T 0 many xs ys slips rows (tE T (leftT T)) t := CoWd.env (SibI hok) hok h.1 (by have := hok.2.2.2.2.2.2.1; omega) (fun t' ht' => h.2 t' (by omega))
theorem LdC.ok (h : LdC T many xs ys slips rows) (hok : TOK T) : slOK (tNS T) many slips := (h.env hok (Nat.zero_le _)).1
theorem LdC.mny (h : LdC T many xs ys slips rows) : many = tP T := h.1.1
theorem LdC.sl (h : LdC T many xs ys slips rows) {s w : Nat} (hs : s < tNS T) (hw : w < many) : slips s w = tSl T s w := h.1.2.2.1 s w hs hw
theorem LdC.bit (h : LdC T many xs ys slips rows) {t w : Nat} (ht : t ≤ tNT T) (hw : w < 1856) : lbt (rows (0 + t)) w = (decide (w < many) && leftT T t w) := h.2 t ht w hw
theorem LdC.lft (h : LdC T many xs ys slips rows) (hok : TOK T) {t w : Nat} (ht : t ≤ tNT T) (hw : w < many) : lbt (rows (0 + t)) w = leftT T t w := by
  have h1 := h.mny; have h2 := tP_le hok
  rw [h.bit ht (by omega), decide_eq_true hw, Bool.true_and]
theorem LdC.num (h : LdC T many xs ys slips rows) (hok : TOK T) {t : Nat} (ht : t ≤ tNT T) : cnt (lbt (rows (0 + t))) 1856 = leftN T t := by
  have h1 := h.mny; have h2 := tP_le hok
  rw [row_cnt (h.2 t ht) (by omega), h1]; rfl
theorem LdC.keep (h : LdC T many xs ys slips rows) (hok : TOK T) {rows2 : Nat → Nat → Int64} (hk : ∀ r, r ≤ 20 ∨ r = 69 → rows2 r = rows r) : LdC T many xs ys slips rows2 := by
  have hn := hok.2.2.2.2.2.2.1
  refine ⟨⟨h.1.1, h.1.2.1, h.1.2.2.1, by rw [hk _ (Or.inr rfl)]; exact h.1.2.2.2.1, by rw [hk _ (Or.inl (by decide))]; exact h.1.2.2.2.2⟩, fun t ht => by rw [hk _ (Or.inl (by omega))]; exact h.2 t ht⟩
theorem FD.ldc {rows2 : Nat → Nat → Int64} {g : Nat → Bool} {m : Nat} (hF : FD rows rows2 0 0 1 m g) (h : LdC T many xs ys slips rows) (hok : TOK T) : LdC T many xs ys slips rows2 := h.keep hok (fun r hr => hF.2 r (by omega) (by omega))
theorem FD.bit {rows2 : Nat → Nat → Int64} {g : Nat → Bool} {m w : Nat} (hF : FD rows rows2 0 0 1 m g) (hw : w < m) (hm : m ≤ 1856) : lbt (rows2 (0 + 21 + 0)) w = g w := by
  have h := hF.1 w (by omega)
  rw [h]; show (decide (w < m) && g w) = g w; rw [decide_eq_true hw, Bool.true_and]
theorem mayG_L {t w : Nat} : mayG T (-1) (tWho T t) (tSem T t) (tE T (leftT T)) t w = mayL T t w := by
  unfold mayG liF
  rw [if_pos rfl]; rfl
theorem isFst_0 {f : Nat → Bool} {n : Nat} {v : Int32} (hn : n < 2 ^ 31) (h : isFst (fun w => f w && decide (nI 0 = nI (cnt f w))) n v) : isFst f n v := by
  have key : ∀ w, cnt f w = 0 → ∀ u, u < w → f u = false := by
    intro w
    induction w with
    | zero => intro _ u hu; exact absurd hu (Nat.not_lt_zero _)
    | succ w ih =>
      intro h0 u hu
      have h1 : cnt f (w + 1) = cnt f w + (if f w = true then 1 else 0) := rfl
      rw [h1] at h0
      by_cases e : u = w
      · subst e
        cases hf : f u with
        | false => rfl
        | true => rw [if_pos hf] at h0; exact absurd h0 (Nat.succ_ne_zero _)
      · exact ih (by omega) u (by omega)
  rcases h with ⟨w, h1, h2, h3, h4⟩ | ⟨h1, h2⟩
  · rw [Bool.and_eq_true] at h2
    have h5 : cnt f w = 0 := ((nI_eq (by decide) (by have := cnt_le f w; omega)).mp (of_decide_eq_true h2.2)).symm
    exact Or.inl ⟨w, h1, h2.1, key w h5, h4⟩
  · refine Or.inr ⟨fun w => ?_, h2⟩
    have hall : ∀ m, m ≤ n → cnt f m = 0 := by
      intro m
      induction m with
      | zero => intro _; rfl
      | succ m ih =>
        intro hm
        have h5 := ih (by omega)
        have h6 : (f m && decide (nI 0 = nI (cnt f m))) = false := h1 m (by omega)
        rw [h5, decide_eq_true (rfl : nI 0 = nI 0), Bool.and_true] at h6
        show cnt f m + (if f m = true then 1 else 0) = 0
        rw [h5, if_neg (by rw [h6]; decide)]
    exact fun hw => key n (hall n (Nat.le_refl _)) w hw
theorem LdC.kn (h : LdC T many xs ys slips rows) (hok : TOK T) {s t w : Nat} (hs : s < tNS T) (ht : t ≤ tNT T) (hw : w < many) : knowF many (slips s) (lbt (rows (0 + tHear T s t))) w = knowT T s t w := by
  have h3 := tHear_le T s t
  rw [knowF_congr hw (fun v hv => h.sl hs hv) (fun v hv => h.lft hok (t := tHear T s t) (by omega) hv), h.mny]; rfl
end

theorem hy_X1_right : yX1_right.cls ≠ "java/lang/invoke/MethodHandle" ∧ yX1_right.cls ≠ "java/lang/invoke/VarHandle" ∧ (parseMethodDescriptor yX1_right.desc).map (fun d => d.parameters.length) = some 1 := by decide +kernel
theorem hy_X1_mustWorld : yX1_mustWorld.cls ≠ "java/lang/invoke/MethodHandle" ∧ yX1_mustWorld.cls ≠ "java/lang/invoke/VarHandle" ∧ (parseMethodDescriptor yX1_mustWorld.desc).map (fun d => d.parameters.length) = some 1 := by decide +kernel
theorem hy_X1_mustSpeaker : yX1_mustSpeaker.cls ≠ "java/lang/invoke/MethodHandle" ∧ yX1_mustSpeaker.cls ≠ "java/lang/invoke/VarHandle" ∧ (parseMethodDescriptor yX1_mustSpeaker.desc).map (fun d => d.parameters.length) = some 1 := by decide +kernel
theorem hy_X1_turnsOf : yX1_turnsOf.cls ≠ "java/lang/invoke/MethodHandle" ∧ yX1_turnsOf.cls ≠ "java/lang/invoke/VarHandle" ∧ (parseMethodDescriptor yX1_turnsOf.desc).map (fun d => d.parameters.length) = some 1 := by decide +kernel
theorem hy_X1_turnOf : yX1_turnOf.cls ≠ "java/lang/invoke/MethodHandle" ∧ yX1_turnOf.cls ≠ "java/lang/invoke/VarHandle" ∧ (parseMethodDescriptor yX1_turnOf.desc).map (fun d => d.parameters.length) = some 1 := by decide +kernel
theorem hy_X1_mustTurns : yX1_mustTurns.cls ≠ "java/lang/invoke/MethodHandle" ∧ yX1_mustTurns.cls ≠ "java/lang/invoke/VarHandle" ∧ (parseMethodDescriptor yX1_mustTurns.desc).map (fun d => d.parameters.length) = some 1 := by decide +kernel
theorem hy_X3_only : yX3_only.cls ≠ "java/lang/invoke/MethodHandle" ∧ yX3_only.cls ≠ "java/lang/invoke/VarHandle" ∧ (parseMethodDescriptor yX3_only.desc).map (fun d => d.parameters.length) = some 0 := by decide +kernel
theorem hy_X3_knowsIn : yX3_knowsIn.cls ≠ "java/lang/invoke/MethodHandle" ∧ yX3_knowsIn.cls ≠ "java/lang/invoke/VarHandle" ∧ (parseMethodDescriptor yX3_knowsIn.desc).map (fun d => d.parameters.length) = some 3 := by decide +kernel
section
variable {l : Launch} {D : va_G} {Y : Nat → ClassId} {A : Nat → Prop}
set_option maxHeartbeats 4000000 in
/-- a speaker, or it throws -/
theorem ctX1_mustSpeaker {xa ca cb ra ta : Nat → Nat} {T : Talk} {bL : Bool} {tk : Option Nat} {many : Nat} {xs ys heaps : Nat → Nat} {slips : Nat → Nat → Nat} {rows : Nat → Nat → Int64} {taped fk : Nat} {fa : Int32} {an nx : Nat} {images : Nat → Option Nat} {tape : Nat → Int32} {W : va_W} (w0 : Int32) (hl9 : l.stackTraces = false) (hT : TalkL Y T ta W) (hok : TOK T) : CTB l D clX (tyX Y) yX1_mustSpeaker cX1_mustSpeaker 2 none ({ frames := 7, cells := 1, slots := 6, locals := 110 } : Room) [.ref (xa 0), .int w0] (HW D clX A (CoL Y ca ra 0 tk many 0 (-1) xs ys heaps slips rows (XoL Y xa ca cb ra (ta 0) bL taped fk fa an nx images tape W))) (Qv (fun (u : Unit) => (iR w0 (tNS T)).isSome = true) (fun (u : Unit) => HW D clX A (CoL Y ca ra 0 tk many 0 (-1) xs ys heaps slips rows (XoL Y xa ca cb ra (ta 0) bL taped fk fa an nx images tape W))) A) (fun (u : Unit) => iR w0 (tNS T) = none) (fun _ => "java/util/NoSuchElementException") (fun (u : Unit) (_ : Nat) => HW D clX A (CoL Y ca ra 0 tk many 0 (-1) xs ys heaps slips rows (XoL Y xa ca cb ra (ta 0) bL taped fk fa an nx images tape W))) A := by
  obtain ⟨ea1, na1, mc1, hL1⟩ := hT.2.1
  have hn := hok.2.2.2.2.2.1
  refine CTB.of (L := [(0, .ref (xa 0)), (1, .int w0)]) rfl (by decide +kernel) rfl (Nat.le_of_ble_eq_true rfl) ?_
  refine g_iload_n 1 dX1_mustSpeaker_0 rfl rfl ?_
  refine g_i2l dX1_mustSpeaker_1 rfl ?_
  refine g_lconst (v := lN 0) dX1_mustSpeaker_2 (by decide +kernel) ?_
  refine g_aload_n 0 dX1_mustSpeaker_3 rfl rfl ?_
  refine x_get_talk q444 dX1_mustSpeaker_4 ?_
  refine g_getfN (C := RX2) (T := TX2) (N := 7) 0 in_X2 rfl (by decide) q207 rfl dX1_mustSpeaker_7 (co_has _ (xo_tl hT.1)) rfl ?_
  refine h_cVi (ctJ2_size (co_has _ (xo_tl hL1.1))) (lw_V q714 q522 q523 q110 q524) ⟨rfl, hy_J2_size⟩ rfl ⟨Nat.le_of_ble_eq_true rfl, Nat.le_of_ble_eq_true rfl⟩ ⟨Nat.le_of_ble_eq_true rfl, Nat.le_of_ble_eq_true rfl⟩ rfl (Nat.le_of_ble_eq_true rfl) dX1_mustSpeaker_10 (fun s H hK hP => va_recv hK (co_has _ (xo_tl hL1.1) H hP) (ci := 33) rfl (q0 := 0) rfl) (fun r u hp => ?_)
  obtain rfl := hp
  refine g_iconst (v := nI 1) dX1_mustSpeaker_13 (by decide +kernel) ?_
  refine g_isub dX1_mustSpeaker_14 ?_
  refine g_i2l dX1_mustSpeaker_15 rfl ?_
  refine h_cSi (ctX1_isIn _ _ _) (lw_S q737 q738 q106 q739) hy_X1_isIn rfl ⟨Nat.le_of_ble_eq_true rfl, Nat.le_of_ble_eq_true rfl⟩ ⟨Nat.le_of_ble_eq_true rfl, Nat.le_of_ble_eq_true rfl⟩ rfl (Nat.le_of_ble_eq_true rfl) dX1_mustSpeaker_16 (fun r u hp => ?_)
  obtain rfl := hp
  rw [wIn_iR w0 (show tNS T < 2 ^ 31 by omega)]
  refine x_cSv (ctX1_there _ hl9 (fun H H1 h _ hk => HW.keep h hk)) (lw_S q1374 q1375 q106 q1376) hy_X1_there rfl ⟨Nat.le_of_ble_eq_true rfl, Nat.le_of_ble_eq_true rfl⟩ ⟨Nat.le_of_ble_eq_true rfl, Nat.le_of_ble_eq_true rfl⟩ rfl (Nat.le_of_ble_eq_true rfl) dX1_mustSpeaker_19 (fun _ _ _ h => h.1) (fun u9 q9 hx9 => xg_out () (Nat.le_of_ble_eq_true rfl) (Nat.le_of_ble_eq_true rfl) (by cases h : iR w0 (tNS T) with | none => rfl | some j => rw [h] at hx9; exact absurd (show true = false from hx9) (by decide)) rfl (fun _ h => h)) (fun u9 hy => ?_)
  exact GG.ret (g_vret () dX1_mustSpeaker_22 (Nat.le_of_ble_eq_true rfl) (Nat.le_of_ble_eq_true rfl) (hy) (fun _ h => h))
set_option maxHeartbeats 4000000 in
/-- turns behind, or it throws -/
theorem ctX1_mustTurns {xa ca cb ra ta : Nat → Nat} {T : Talk} {bL : Bool} {tk : Option Nat} {many : Nat} {xs ys heaps : Nat → Nat} {slips : Nat → Nat → Nat} {rows : Nat → Nat → Int64} {taped fk : Nat} {fa : Int32} {an nx : Nat} {images : Nat → Option Nat} {tape : Nat → Int32} {W : va_W} (w0 : Int32) (hl9 : l.stackTraces = false) (hT : TalkL Y T ta W) (hok : TOK T) : CTB l D clX (tyX Y) yX1_mustTurns cX1_mustTurns 2 none ({ frames := 7, cells := 1, slots := 6, locals := 110 } : Room) [.ref (xa 0), .int w0] (HW D clX A (CoL Y ca ra 0 tk many 0 (-1) xs ys heaps slips rows (XoL Y xa ca cb ra (ta 0) bL taped fk fa an nx images tape W))) (Qv (fun (u : Unit) => (iR w0 (tNT T + 1)).isSome = true) (fun (u : Unit) => HW D clX A (CoL Y ca ra 0 tk many 0 (-1) xs ys heaps slips rows (XoL Y xa ca cb ra (ta 0) bL taped fk fa an nx images tape W))) A) (fun (u : Unit) => iR w0 (tNT T + 1) = none) (fun _ => "java/lang/IllegalArgumentException") (fun (u : Unit) (_ : Nat) => HW D clX A (CoL Y ca ra 0 tk many 0 (-1) xs ys heaps slips rows (XoL Y xa ca cb ra (ta 0) bL taped fk fa an nx images tape W))) A := by
  obtain ⟨ea2, na2, mc2, hL2⟩ := hT.2.2.1
  have hn := hok.2.2.2.2.2.2.1
  refine CTB.of (L := [(0, .ref (xa 0)), (1, .int w0)]) rfl (by decide +kernel) rfl (Nat.le_of_ble_eq_true rfl) ?_
  refine g_iload_n 1 dX1_mustTurns_0 rfl rfl ?_
  refine g_i2l dX1_mustTurns_1 rfl ?_
  refine g_lconst (v := lN 0) dX1_mustTurns_2 (by decide +kernel) ?_
  refine g_aload_n 0 dX1_mustTurns_3 rfl rfl ?_
  refine x_get_talk q444 dX1_mustTurns_4 ?_
  refine g_getfN (C := RX2) (T := TX2) (N := 7) 1 in_X2 rfl (by decide) q212 rfl dX1_mustTurns_7 (co_has _ (xo_tl hT.1)) rfl ?_
  refine h_cVi (ctJ2_size (co_has _ (xo_tl hL2.1))) (lw_V q714 q522 q523 q110 q524) ⟨rfl, hy_J2_size⟩ rfl ⟨Nat.le_of_ble_eq_true rfl, Nat.le_of_ble_eq_true rfl⟩ ⟨Nat.le_of_ble_eq_true rfl, Nat.le_of_ble_eq_true rfl⟩ rfl (Nat.le_of_ble_eq_true rfl) dX1_mustTurns_10 (fun s H hK hP => va_recv hK (co_has _ (xo_tl hL2.1) H hP) (ci := 33) rfl (q0 := 0) rfl) (fun r u hp => ?_)
  obtain rfl := hp
  refine g_i2l_n dX1_mustTurns_13 (by omega) ?_
  refine h_cSi (ctX1_isIn _ _ _) (lw_S q737 q738 q106 q739) hy_X1_isIn rfl ⟨Nat.le_of_ble_eq_true rfl, Nat.le_of_ble_eq_true rfl⟩ ⟨Nat.le_of_ble_eq_true rfl, Nat.le_of_ble_eq_true rfl⟩ rfl (Nat.le_of_ble_eq_true rfl) dX1_mustTurns_14 (fun r u hp => ?_)
  obtain rfl := hp
  rw [wIn_iR1 w0 (show tNT T < 2 ^ 31 by omega)]
  refine x_cSv (ctX1_right _ hl9 (fun H H1 h _ hk => HW.keep h hk)) (lw_S q740 q741 q106 q742) hy_X1_right rfl ⟨Nat.le_of_ble_eq_true rfl, Nat.le_of_ble_eq_true rfl⟩ ⟨Nat.le_of_ble_eq_true rfl, Nat.le_of_ble_eq_true rfl⟩ rfl (Nat.le_of_ble_eq_true rfl) dX1_mustTurns_17 (fun _ _ _ h => h.1) (fun u9 q9 hx9 => xg_out () (Nat.le_of_ble_eq_true rfl) (Nat.le_of_ble_eq_true rfl) (by cases h : iR w0 (tNT T + 1) with | none => rfl | some j => rw [h] at hx9; exact absurd (show true = false from hx9) (by decide)) rfl (fun _ h => h)) (fun u9 hy => ?_)
  exact GG.ret (g_vret () dX1_mustTurns_20 (Nat.le_of_ble_eq_true rfl) (Nat.le_of_ble_eq_true rfl) (hy) (fun _ h => h))
set_option maxHeartbeats 4000000 in
/-- a turn, or it throws -/
theorem ctX1_turnOf {xa ca cb ra ta : Nat → Nat} {T : Talk} {bL : Bool} {tk : Option Nat} {many : Nat} {xs ys heaps : Nat → Nat} {slips : Nat → Nat → Nat} {rows : Nat → Nat → Int64} {taped fk : Nat} {fa : Int32} {an nx : Nat} {images : Nat → Option Nat} {tape : Nat → Int32} {W : va_W} (w0 : Int32) (hl9 : l.stackTraces = false) (hT : TalkL Y T ta W) (hok : TOK T) : CTB l D clX (tyX Y) yX1_turnOf cX1_turnOf 2 (Option.some (Jvm.ClassFile.FieldType.object "TwoSlips$Turn")) ({ frames := 7, cells := 1, slots := 6, locals := 110 } : Room) [.ref (xa 0), .int w0] (HW D clX A (CoL Y ca ra 0 tk many 0 (-1) xs ys heaps slips rows (XoL Y xa ca cb ra (ta 0) bL taped fk fa an nx images tape W))) (Qo (fun (u : Nat) => iR w0 (tNT T) = some u) (fun (u : Nat) => HW D clX A (CoL Y ca ra 0 tk many 0 (-1) xs ys heaps slips rows (XoL Y xa ca cb ra (ta 0) bL taped fk fa an nx images tape W))) (fun (u : Nat) => ta (30 + u)) A) (fun (u : Unit) => iR w0 (tNT T) = none) (fun _ => "java/util/NoSuchElementException") (fun (u : Unit) (_ : Nat) => HW D clX A (CoL Y ca ra 0 tk many 0 (-1) xs ys heaps slips rows (XoL Y xa ca cb ra (ta 0) bL taped fk fa an nx images tape W))) A := by
  obtain ⟨ea2, na2, mc2, hL2⟩ := hT.2.2.1
  have hn := hok.2.2.2.2.2.2.1
  refine CTB.of (L := [(0, .ref (xa 0)), (1, .int w0)]) rfl (by decide +kernel) rfl (Nat.le_of_ble_eq_true rfl) ?_
  refine g_iload_n 1 dX1_turnOf_0 rfl rfl ?_
  refine g_i2l dX1_turnOf_1 rfl ?_
  refine g_lconst (v := lN 0) dX1_turnOf_2 (by decide +kernel) ?_
  refine g_aload_n 0 dX1_turnOf_3 rfl rfl ?_
  refine x_get_talk q444 dX1_turnOf_4 ?_
  refine g_getfN (C := RX2) (T := TX2) (N := 7) 1 in_X2 rfl (by decide) q212 rfl dX1_turnOf_7 (co_has _ (xo_tl hT.1)) rfl ?_
  refine h_cVi (ctJ2_size (co_has _ (xo_tl hL2.1))) (lw_V q714 q522 q523 q110 q524) ⟨rfl, hy_J2_size⟩ rfl ⟨Nat.le_of_ble_eq_true rfl, Nat.le_of_ble_eq_true rfl⟩ ⟨Nat.le_of_ble_eq_true rfl, Nat.le_of_ble_eq_true rfl⟩ rfl (Nat.le_of_ble_eq_true rfl) dX1_turnOf_10 (fun s H hK hP => va_recv hK (co_has _ (xo_tl hL2.1) H hP) (ci := 33) rfl (q0 := 0) rfl) (fun r u hp => ?_)
  obtain rfl := hp
  refine g_iconst (v := nI 1) dX1_turnOf_13 (by decide +kernel) ?_
  refine g_isub dX1_turnOf_14 ?_
  refine g_i2l dX1_turnOf_15 rfl ?_
  refine h_cSi (ctX1_isIn _ _ _) (lw_S q737 q738 q106 q739) hy_X1_isIn rfl ⟨Nat.le_of_ble_eq_true rfl, Nat.le_of_ble_eq_true rfl⟩ ⟨Nat.le_of_ble_eq_true rfl, Nat.le_of_ble_eq_true rfl⟩ rfl (Nat.le_of_ble_eq_true rfl) dX1_turnOf_16 (fun r u hp => ?_)
  obtain rfl := hp
  rw [wIn_iR w0 (show tNT T < 2 ^ 31 by omega)]
  refine x_cSv (ctX1_there _ hl9 (fun H H1 h _ hk => HW.keep h hk)) (lw_S q1374 q1375 q106 q1376) hy_X1_there rfl ⟨Nat.le_of_ble_eq_true rfl, Nat.le_of_ble_eq_true rfl⟩ ⟨Nat.le_of_ble_eq_true rfl, Nat.le_of_ble_eq_true rfl⟩ rfl (Nat.le_of_ble_eq_true rfl) dX1_turnOf_19 (fun _ _ _ h => h.1) (fun u9 q9 hx9 => xg_out () (Nat.le_of_ble_eq_true rfl) (Nat.le_of_ble_eq_true rfl) (by cases h : iR w0 (tNT T) with | none => rfl | some j => rw [h] at hx9; exact absurd (show true = false from hx9) (by decide)) rfl (fun _ h => h)) (fun u9 hy => ?_)
  obtain ⟨t, ht⟩ := Option.isSome_iff_exists.mp hy
  obtain ⟨htL, rfl⟩ := iR_some ht
  obtain ⟨g9, hg1, hg2, hg3, hg4⟩ := hL2.2 (by omega)
  refine g_aload_n 0 dX1_turnOf_22 rfl rfl ?_
  refine x_get_talk q444 dX1_turnOf_23 ?_
  refine g_getfN (C := RX2) (T := TX2) (N := 7) 1 in_X2 rfl (by decide) q212 rfl dX1_turnOf_26 (co_has _ (xo_tl hT.1)) rfl ?_
  refine g_iload_n 1 dX1_turnOf_29 rfl rfl ?_
  refine h_cVo (ctJ2_get t _ (co_has _ (xo_tl hL2.1)) (co_has _ (xo_tl hg1)) hg3 hg2 htL (congrArg va_rf (hg4 _ htL))) (lw_V q1415 q530 q531 q110 q532) ⟨rfl, hy_J2_get⟩ rfl ⟨Nat.le_of_ble_eq_true rfl, Nat.le_of_ble_eq_true rfl⟩ ⟨Nat.le_of_ble_eq_true rfl, Nat.le_of_ble_eq_true rfl⟩ rfl (Nat.le_of_ble_eq_true rfl) dX1_turnOf_30 (fun s H hK hP => va_recv hK (co_has _ (xo_tl hL2.1) H hP) (ci := 33) rfl (q0 := 0) rfl) (fun u hp => ?_)
  refine g_castS (r := (RX22, TX22, 2)) q1416 rfl dX1_turnOf_33 (co_has _ (xo_tl (hT.2.2.2.2 t htL).1)) ?_
  exact GG.ret (g_areto t dX1_turnOf_36 (Or.inl ⟨_, rfl⟩) (Nat.le_of_ble_eq_true rfl) (Nat.le_of_ble_eq_true rfl) (ht) rfl (fun _ h => h))
set_option maxHeartbeats 4000000 in
theorem ctX1_world {xa ca cb ra ta : Nat → Nat} {T : Talk} {bL : Bool} {tk : Option Nat} {many : Nat} {xs ys heaps : Nat → Nat} {slips : Nat → Nat → Nat} {rows : Nat → Nat → Int64} {taped fk : Nat} {fa : Int32} {an nx : Nat} {images : Nat → Option Nat} {tape : Nat → Int32} {W : va_W} (w0 wh : Int32) (hl9 : l.stackTraces = false) (hT : TalkL Y T ta W) (hok : TOK T) (hL : bL = true → tk = some (ta 0) ∧ LdC T many xs ys slips rows) : CTB l D clX (tyX Y) yX1_world cX1_world 3 (some .int) ({ frames := 1817, cells := 2, slots := 12, locals := 54564 } : Room) [.ref (xa 0), .int w0, .int wh] (HW D clX A (CoL Y ca ra 0 tk many 0 (-1) xs ys heaps slips rows (XoL Y xa ca cb ra (ta 0) bL taped fk fa an nx images tape W))) (Qi (fun (v : Int32) (u : XS) => ans (aWorld T w0 wh) 0 v ∧ LdX T (ta 0) u) (fun (u : XS) => HW D clX A (CoL Y ca ra 0 u.2.1 u.2.2.1 0 (-1) u.2.2.2.1 u.2.2.2.2.1 u.2.2.2.2.2.1 u.2.2.2.2.2.2.1 u.2.2.2.2.2.2.2 (XoL Y xa ca cb ra (ta 0) u.1 taped fk fa an nx images tape W))) A) (fun (u : Nat × XS) => (∃ v9, ans (aWorld T w0 wh) u.1 v9) ∧ 0 < u.1 ∧ LdX T (ta 0) u.2) (fun u => exL ["java/util/NoSuchElementException", "java/lang/IllegalArgumentException"] u.1) (fun (u : Nat × XS) (_ : Nat) => HW D clX A (CoL Y ca ra 0 u.2.2.1 u.2.2.2.1 0 (-1) u.2.2.2.2.1 u.2.2.2.2.2.1 u.2.2.2.2.2.2.1 u.2.2.2.2.2.2.2.1 u.2.2.2.2.2.2.2.2 (XoL Y xa ca cb ra (ta 0) u.2.1 taped fk fa an nx images tape W))) A := by
  refine CTB.of (L := [(0, .ref (xa 0)), (1, .int w0), (2, .int wh)]) rfl (by decide +kernel) rfl (Nat.le_of_ble_eq_true rfl) ?_
  refine g_aload_n 0 dX1_world_0 rfl rfl ?_
  refine g_iload_n 1 dX1_world_1 rfl rfl ?_
  refine x_cVv (ctX1_mustWorld _ hl9 hT hok hL) (lw_V q1370 q1372 qs33 q106 q1373) ⟨rfl, hy_X1_mustWorld⟩ rfl ⟨Nat.le_of_ble_eq_true rfl, Nat.le_of_ble_eq_true rfl⟩ ⟨Nat.le_of_ble_eq_true rfl, Nat.le_of_ble_eq_true rfl⟩ rfl (Nat.le_of_ble_eq_true rfl) dX1_world_2 (fun _ _ _ h => h.1) x_rec (fun u9 q9 hx9 => xg_out (1, (true, some (ta 0), u9.1, u9.2.1, u9.2.2.1, u9.2.2.2.1, u9.2.2.2.2.1, u9.2.2.2.2.2)) (Nat.le_of_ble_eq_true rfl) (Nat.le_of_ble_eq_true rfl) (⟨ansE (by unfold aWorld; simp only [hx9.1]), Nat.le_of_ble_eq_true rfl, fun _ => ⟨rfl, hx9.2⟩⟩) rfl (fun _ h => h)) (fun u9 hy9 => ?_)
  obtain ⟨many1, xs1, ys1, heaps1, slips1, rows1⟩ := u9
  obtain ⟨hs9, hC1⟩ := hy9
  have hC1 : LdC T many1 xs1 ys1 slips1 rows1 := hC1
  have hP1 := hC1.mny
  have hP2 := tP_le hok
  obtain ⟨w, hw⟩ := Option.isSome_iff_exists.mp hs9
  obtain ⟨hwL, rfl⟩ := iR_some hw
  refine g_iload_n 2 dX1_world_5 rfl rfl ?_
  refine g_if_eq (tgt := 14) dX1_world_6 (by decide) (fun c6 => ?_) (fun c6 => ?_)
  · skip
    refine g_iconst (v := nI 1) dX1_world_14 (by decide +kernel) ?_
    refine g_goto (tgt := 19) dX1_world_15 (by decide) ?_
    refine x_cSv (ctX1_right true hl9 (fun H H1 h _ hk => HW.keep h hk)) (lw_S q740 q741 q106 q742) hy_X1_right rfl ⟨Nat.le_of_ble_eq_true rfl, Nat.le_of_ble_eq_true rfl⟩ ⟨Nat.le_of_ble_eq_true rfl, Nat.le_of_ble_eq_true rfl⟩ rfl (Nat.le_of_ble_eq_true rfl) dX1_world_19 (fun _ _ _ h => h.1) (fun u9 q9 hx9 => absurd hx9 (by decide)) (fun u9 hy => ?_)
    refine g_iload_n 2 dX1_world_22 rfl rfl ?_
    refine g_if_ne (tgt := 38) dX1_world_23 (by decide) (fun c23 => ?_) (fun c23 => ?_)
    · skip
      exact absurd c6 c23
    · skip
      refine g_aload_n 0 dX1_world_26 rfl rfl ?_
      refine x_get_course q445 dX1_world_27 ?_
      refine co_get_xN q255 dX1_world_30 ?_
      refine g_iload_n 1 dX1_world_33 rfl rfl ?_
      refine co_ld_xs (by omega) dX1_world_34 ?_
      refine g_goto (tgt := 47) dX1_world_35 (by decide) ?_
      exact GG.ret (g_iret (true, some (ta 0), many1, xs1, ys1, heaps1, slips1, rows1) dX1_world_47 (Nat.le_of_ble_eq_true rfl) (Nat.le_of_ble_eq_true rfl) (⟨ansT (x := nI (tX T w)) (by unfold aWorld; simp only [hw, if_pos c6]) (congrArg nI (hC1.1.2.1 w (by omega)).1), fun _ => ⟨rfl, hC1⟩⟩) (fun _ h => h))
  · skip
    refine g_iload_n 2 dX1_world_9 rfl rfl ?_
    refine g_iconst (v := nI 1) dX1_world_10 (by decide +kernel) ?_
    refine g_icmp_ne (tgt := 18) dX1_world_11 (by decide) (fun c11 => ?_) (fun c11 => ?_)
    · skip
      refine g_iconst (v := nI 0) dX1_world_18 (by decide +kernel) ?_
      refine x_cSv (ctX1_right false hl9 (fun H H1 h _ hk => HW.keep h hk)) (lw_S q740 q741 q106 q742) hy_X1_right rfl ⟨Nat.le_of_ble_eq_true rfl, Nat.le_of_ble_eq_true rfl⟩ ⟨Nat.le_of_ble_eq_true rfl, Nat.le_of_ble_eq_true rfl⟩ rfl (Nat.le_of_ble_eq_true rfl) dX1_world_19 (fun _ _ _ h => h.1) (fun u9 q9 hx9 => xg_out (2, (true, some (ta 0), many1, xs1, ys1, heaps1, slips1, rows1)) (Nat.le_of_ble_eq_true rfl) (Nat.le_of_ble_eq_true rfl) (⟨ansE (by unfold aWorld; simp only [hw, if_neg c6, if_neg (show ¬ wh = 1 from c11)]), Nat.le_of_ble_eq_true rfl, fun _ => ⟨rfl, hC1⟩⟩) rfl (fun _ h => h)) (fun u9 hy => ?_)
      exact absurd hy (by decide)
    · skip
      refine g_iconst (v := nI 1) dX1_world_14 (by decide +kernel) ?_
      refine g_goto (tgt := 19) dX1_world_15 (by decide) ?_
      refine x_cSv (ctX1_right true hl9 (fun H H1 h _ hk => HW.keep h hk)) (lw_S q740 q741 q106 q742) hy_X1_right rfl ⟨Nat.le_of_ble_eq_true rfl, Nat.le_of_ble_eq_true rfl⟩ ⟨Nat.le_of_ble_eq_true rfl, Nat.le_of_ble_eq_true rfl⟩ rfl (Nat.le_of_ble_eq_true rfl) dX1_world_19 (fun _ _ _ h => h.1) (fun u9 q9 hx9 => absurd hx9 (by decide)) (fun u9 hy => ?_)
      refine g_iload_n 2 dX1_world_22 rfl rfl ?_
      refine g_if_ne (tgt := 38) dX1_world_23 (by decide) (fun c23 => ?_) (fun c23 => ?_)
      · skip
        refine g_aload_n 0 dX1_world_38 rfl rfl ?_
        refine x_get_course q445 dX1_world_39 ?_
        refine co_get_yN q258 dX1_world_42 ?_
        refine g_iload_n 1 dX1_world_45 rfl rfl ?_
        refine co_ld_ys (by omega) dX1_world_46 ?_
        exact GG.ret (g_iret (true, some (ta 0), many1, xs1, ys1, heaps1, slips1, rows1) dX1_world_47 (Nat.le_of_ble_eq_true rfl) (Nat.le_of_ble_eq_true rfl) (⟨ansT (x := nI (tY T w)) (by unfold aWorld; simp only [hw, if_neg c6, if_pos (show wh = 1 from c11)]) (congrArg nI (hC1.1.2.1 w (by omega)).2), fun _ => ⟨rfl, hC1⟩⟩) (fun _ h => h))
      · skip
        exact absurd c23 c6
set_option maxHeartbeats 4000000 in
/-- the world of two numbers -/
theorem ctX1_pair {xa ca cb ra ta : Nat → Nat} {T : Talk} {bL : Bool} {tk : Option Nat} {many : Nat} {xs ys heaps : Nat → Nat} {slips : Nat → Nat → Nat} {rows : Nat → Nat → Int64} {taped fk : Nat} {fa : Int32} {an nx : Nat} {images : Nat → Option Nat} {tape : Nat → Int32} {W : va_W} (a0 b0 : Int32) (hT : TalkL Y T ta W) (hok : TOK T) (hL : bL = true → tk = some (ta 0) ∧ LdC T many xs ys slips rows) : CT l D clX (tyX Y) yX1_pair cX1_pair 5 (some .int) ({ frames := 1816, cells := 0, slots := 0, locals := 54543 } : Room) [.ref (xa 0), .int a0, .int b0] (HW D clX A (CoL Y ca ra 0 tk many 0 (-1) xs ys heaps slips rows (XoL Y xa ca cb ra (ta 0) bL taped fk fa an nx images tape W))) (Qi (fun (v : Int32) (u : Nat × (Nat → Nat) × (Nat → Nat) × (Nat → Nat) × (Nat → Nat → Nat) × (Nat → Nat → Int64)) => isFst (fun w => decide (nI (tX T w) = (if b0 < a0 then b0 else a0)) && decide (nI (tY T w) = (if a0 < b0 then b0 else a0))) (tP T) v ∧ LdC T u.1 u.2.1 u.2.2.1 u.2.2.2.2.1 u.2.2.2.2.2) (fun (u : Nat × (Nat → Nat) × (Nat → Nat) × (Nat → Nat) × (Nat → Nat → Nat) × (Nat → Nat → Int64)) => HW D clX A (CoL Y ca ra 0 (some (ta 0)) u.1 0 (-1) u.2.1 u.2.2.1 u.2.2.2.1 u.2.2.2.2.1 u.2.2.2.2.2 (XoL Y xa ca cb ra (ta 0) true taped fk fa an nx images tape W))) A) A := by
  refine CT.of (L := [(0, .ref (xa 0)), (1, .int a0), (2, .int b0)]) rfl (by decide +kernel) rfl (Nat.le_of_ble_eq_true rfl) ?_
  refine g_aload_n 0 dX1_pair_0 rfl rfl ?_
  refine h_cVo (ctX1_laid hT hok hL) (lw_V q510 q512 qs1 q106 q513) ⟨rfl, hy_X1_laid⟩ rfl ⟨Nat.le_of_ble_eq_true rfl, Nat.le_of_ble_eq_true rfl⟩ ⟨Nat.le_of_ble_eq_true rfl, Nat.le_of_ble_eq_true rfl⟩ rfl (Nat.le_of_ble_eq_true rfl) dX1_pair_1 x_rec (fun u9 hC1 => ?_)
  obtain ⟨many1, xs1, ys1, heaps1, slips1, rows1⟩ := u9
  have hC1 : LdC T many1 xs1 ys1 slips1 rows1 := hC1
  have hP1 := hC1.mny
  have hP2 := tP_le hok
  refine g_astore_n (L' := [(0, _), (1, _), (2, _), (3, _)]) 3 dX1_pair_4 rfl (by decide) rfl rfl ?_
  refine g_iconst (v := nI 0) dX1_pair_5 (by decide +kernel) ?_
  refine g_istore (L' := [(0, _), (1, _), (2, _), (3, _), (4, _)]) dX1_pair_6 (by decide) rfl rfl ?_
  have loop8 : ∀ (q8 : Nat) (w : Nat), many1 - w < q8 → (w ≤ many1) → (∀ v, v < w → (fun w => decide (nI (tX T w) = (if b0 < a0 then b0 else a0)) && decide (nI (tY T w) = (if a0 < b0 then b0 else a0))) v = false) → GG l D clX (tyX Y) cX1_pair 5 (some .int) RX1 ({ frames := 1816, cells := 0, slots := 0, locals := 54543 } : Room) A MT (QM (Qi (fun (v : Int32) (u : Nat × (Nat → Nat) × (Nat → Nat) × (Nat → Nat) × (Nat → Nat → Nat) × (Nat → Nat → Int64)) => isFst (fun w => decide (nI (tX T w) = (if b0 < a0 then b0 else a0)) && decide (nI (tY T w) = (if a0 < b0 then b0 else a0))) (tP T) v ∧ LdC T u.1 u.2.1 u.2.2.1 u.2.2.2.2.1 u.2.2.2.2.2) (fun (u : Nat × (Nat → Nat) × (Nat → Nat) × (Nat → Nat) × (Nat → Nat → Nat) × (Nat → Nat → Int64)) => HW D clX A (CoL Y ca ra 0 (some (ta 0)) u.1 0 (-1) u.2.1 u.2.2.1 u.2.2.2.1 u.2.2.2.2.1 u.2.2.2.2.2 (XoL Y xa ca cb ra (ta 0) true taped fk fa an nx images tape W))) A) 0 0 A) (HW D clX A (CoL Y ca ra 0 (some (ta 0)) many1 0 (-1) xs1 ys1 heaps1 slips1 rows1 (XoL Y xa ca cb ra (ta 0) true taped fk fa an nx images tape W))) 0 0 8 [(0, .ref (xa 0)), (1, .int a0), (2, .int b0), (3, .ref (ca 0)), (4, .int (nI w))] [] := by
    intro q8
    induction q8 with
    | zero => intro w hq8; exact absurd hq8 (Nat.not_lt_zero _)
    | succ q8 ih8 =>
      intro w hq8 hw hno
      refine g_iload dX1_pair_8 rfl ?_
      refine g_aload_n 3 dX1_pair_10 rfl rfl ?_
      refine co_get_manyN q276 dX1_pair_11 ?_
      refine g_icmp_ge_n (tgt := 56) dX1_pair_14 (by decide) (by omega) (by omega) (fun c14 => ?_) (fun c14 => ?_)
      · skip
        refine g_iconst (v := -1) dX1_pair_56 (by decide +kernel) ?_
        exact g_iret (many1, xs1, ys1, heaps1, slips1, rows1) dX1_pair_57 (Nat.le_refl _) (Nat.le_refl _) (⟨Or.inr ⟨fun v hv => hno v (by omega), rfl⟩, hC1⟩) (fun _ h => h)
      · skip
        refine g_aload_n 3 dX1_pair_17 rfl rfl ?_
        refine co_get_xN q255 dX1_pair_18 ?_
        refine g_iload dX1_pair_21 rfl ?_
        refine co_ld_xs (by omega) dX1_pair_23 ?_
        refine g_iload_n 1 dX1_pair_24 rfl rfl ?_
        refine g_iload_n 2 dX1_pair_25 rfl rfl ?_
        refine g_min q681 q662 q129 q663 (Nat.le_of_ble_eq_true rfl) (Nat.le_of_ble_eq_true rfl) (Nat.zero_le _) (Nat.zero_le _) dX1_pair_26 ?_
        refine g_icmp_ne (tgt := 50) dX1_pair_29 (by decide) (fun c29 => ?_) (fun c29 => ?_)
        · skip
          refine g_iinc_n (b := 1) (L' := [(0, _), (1, _), (2, _), (3, _), (4, _)]) dX1_pair_50 rfl rfl (by decide) rfl rfl ?_
          refine g_goto (tgt := 8) dX1_pair_53 (by decide) ?_
          exact ih8 (w + 1) (by omega) (by omega) (fun v hv => by
            rcases Nat.lt_or_ge v w with q | q
            · exact hno v q
            · rw [show v = w by omega]; exact (show (decide (nI (tX T w) = _) && decide (nI (tY T w) = _)) = false by rw [← (hC1.1.2.1 w (by omega)).1, ← (hC1.1.2.1 w (by omega)).2]; rw [decide_eq_false c29]; rfl))
        · skip
          refine g_aload_n 3 dX1_pair_32 rfl rfl ?_
          refine co_get_yN q258 dX1_pair_33 ?_
          refine g_iload dX1_pair_36 rfl ?_
          refine co_ld_ys (by omega) dX1_pair_38 ?_
          refine g_iload_n 1 dX1_pair_39 rfl rfl ?_
          refine g_iload_n 2 dX1_pair_40 rfl rfl ?_
          refine g_max q682 q683 q129 q684 (Nat.le_of_ble_eq_true rfl) (Nat.le_of_ble_eq_true rfl) (Nat.zero_le _) (Nat.zero_le _) dX1_pair_41 ?_
          refine g_icmp_ne (tgt := 50) dX1_pair_44 (by decide) (fun c44 => ?_) (fun c44 => ?_)
          · skip
            refine g_iinc_n (b := 1) (L' := [(0, _), (1, _), (2, _), (3, _), (4, _)]) dX1_pair_50 rfl rfl (by decide) rfl rfl ?_
            refine g_goto (tgt := 8) dX1_pair_53 (by decide) ?_
            exact ih8 (w + 1) (by omega) (by omega) (fun v hv => by
              rcases Nat.lt_or_ge v w with q | q
              · exact hno v q
              · rw [show v = w by omega]; exact (show (decide (nI (tX T w) = _) && decide (nI (tY T w) = _)) = false by rw [← (hC1.1.2.1 w (by omega)).1, ← (hC1.1.2.1 w (by omega)).2]; rw [decide_eq_false c44, Bool.and_false]))
          · skip
            refine g_iload dX1_pair_47 rfl ?_
            exact g_iret (many1, xs1, ys1, heaps1, slips1, rows1) dX1_pair_49 (Nat.le_refl _) (Nat.le_refl _) (⟨Or.inl ⟨w, by omega, (show (decide (nI (tX T w) = _) && decide (nI (tY T w) = _)) = true by rw [← (hC1.1.2.1 w (by omega)).1, ← (hC1.1.2.1 w (by omega)).2]; rw [decide_eq_true c29, decide_eq_true c44]; rfl), hno, rfl⟩, hC1⟩) (fun _ h => h)
  exact loop8 (many1 + 1) 0 (by omega) (by omega) (fun v hv => absurd hv (Nat.not_lt_zero _))
set_option maxHeartbeats 4000000 in
theorem ctX1_told {xa ca cb ra ta : Nat → Nat} {T : Talk} {bL : Bool} {tk : Option Nat} {many : Nat} {xs ys heaps : Nat → Nat} {slips : Nat → Nat → Nat} {rows : Nat → Nat → Int64} {taped fk : Nat} {fa : Int32} {an nx : Nat} {images : Nat → Option Nat} {tape : Nat → Int32} {W : va_W} (s0 w0 : Int32) (hl9 : l.stackTraces = false) (hT : TalkL Y T ta W) (hok : TOK T) (hL : bL = true → tk = some (ta 0) ∧ LdC T many xs ys slips rows) : CTB l D clX (tyX Y) yX1_told cX1_told 3 (some .int) ({ frames := 1817, cells := 2, slots := 12, locals := 54564 } : Room) [.ref (xa 0), .int s0, .int w0] (HW D clX A (CoL Y ca ra 0 tk many 0 (-1) xs ys heaps slips rows (XoL Y xa ca cb ra (ta 0) bL taped fk fa an nx images tape W))) (Qi (fun (v : Int32) (u : XS) => ans (aTold T s0 w0) 0 v ∧ LdX T (ta 0) u) (fun (u : XS) => HW D clX A (CoL Y ca ra 0 u.2.1 u.2.2.1 0 (-1) u.2.2.2.1 u.2.2.2.2.1 u.2.2.2.2.2.1 u.2.2.2.2.2.2.1 u.2.2.2.2.2.2.2 (XoL Y xa ca cb ra (ta 0) u.1 taped fk fa an nx images tape W))) A) (fun (u : Nat × XS) => (∃ v9, ans (aTold T s0 w0) u.1 v9) ∧ 0 < u.1 ∧ LdX T (ta 0) u.2) (fun u => exL ["java/util/NoSuchElementException"] u.1) (fun (u : Nat × XS) (_ : Nat) => HW D clX A (CoL Y ca ra 0 u.2.2.1 u.2.2.2.1 0 (-1) u.2.2.2.2.1 u.2.2.2.2.2.1 u.2.2.2.2.2.2.1 u.2.2.2.2.2.2.2.1 u.2.2.2.2.2.2.2.2 (XoL Y xa ca cb ra (ta 0) u.2.1 taped fk fa an nx images tape W))) A := by
  refine CTB.of (L := [(0, .ref (xa 0)), (1, .int s0), (2, .int w0)]) rfl (by decide +kernel) rfl (Nat.le_of_ble_eq_true rfl) ?_
  refine g_aload_n 0 dX1_told_0 rfl rfl ?_
  refine g_iload_n 1 dX1_told_1 rfl rfl ?_
  refine x_cVv (ctX1_mustSpeaker _ hl9 hT hok) (lw_V q1399 q1401 qs34 q106 q1402) ⟨rfl, hy_X1_mustSpeaker⟩ rfl ⟨Nat.le_of_ble_eq_true rfl, Nat.le_of_ble_eq_true rfl⟩ ⟨Nat.le_of_ble_eq_true rfl, Nat.le_of_ble_eq_true rfl⟩ rfl (Nat.le_of_ble_eq_true rfl) dX1_told_2 (fun _ _ _ h => h.1) x_rec (fun u9 q9 hx9 => xg_out (1, (bL, tk, many, xs, ys, heaps, slips, rows)) (Nat.le_of_ble_eq_true rfl) (Nat.le_of_ble_eq_true rfl) (⟨ansE (by unfold aTold; simp only [hx9]), Nat.le_of_ble_eq_true rfl, hL⟩) rfl (fun _ h => h)) (fun u9 hy9 => ?_)
  obtain ⟨s, hs⟩ := Option.isSome_iff_exists.mp hy9
  obtain ⟨hsL, rfl⟩ := iR_some hs
  refine g_aload_n 0 dX1_told_5 rfl rfl ?_
  refine g_iload_n 2 dX1_told_6 rfl rfl ?_
  refine x_cVv (ctX1_mustWorld _ hl9 hT hok hL) (lw_V q1370 q1372 qs33 q106 q1373) ⟨rfl, hy_X1_mustWorld⟩ rfl ⟨Nat.le_of_ble_eq_true rfl, Nat.le_of_ble_eq_true rfl⟩ ⟨Nat.le_of_ble_eq_true rfl, Nat.le_of_ble_eq_true rfl⟩ rfl (Nat.le_of_ble_eq_true rfl) dX1_told_7 (fun _ _ _ h => h.1) x_rec (fun u9 q9 hx9 => xg_out (1, (true, some (ta 0), u9.1, u9.2.1, u9.2.2.1, u9.2.2.2.1, u9.2.2.2.2.1, u9.2.2.2.2.2)) (Nat.le_of_ble_eq_true rfl) (Nat.le_of_ble_eq_true rfl) (⟨ansE (by unfold aTold; simp only [hs, hx9.1]), Nat.le_of_ble_eq_true rfl, fun _ => ⟨rfl, hx9.2⟩⟩) rfl (fun _ h => h)) (fun u9 hy9 => ?_)
  obtain ⟨many1, xs1, ys1, heaps1, slips1, rows1⟩ := u9
  obtain ⟨hs9, hC1⟩ := hy9
  have hC1 : LdC T many1 xs1 ys1 slips1 rows1 := hC1
  have hP1 := hC1.mny
  have hP2 := tP_le hok
  obtain ⟨w, hw⟩ := Option.isSome_iff_exists.mp hs9
  obtain ⟨hwL, rfl⟩ := iR_some hw
  have hn6 := hok.2.2.2.2.2.1
  refine g_aload_n 0 dX1_told_10 rfl rfl ?_
  refine x_get_course q445 dX1_told_11 ?_
  refine co_get_slipsN q262 dX1_told_14 ?_
  refine g_iload_n 1 dX1_told_17 rfl rfl ?_
  refine co_ld_slips (by omega) dX1_told_18 ?_
  refine g_iload_n 2 dX1_told_19 rfl rfl ?_
  refine co_ld_slip (by omega) (by omega) dX1_told_20 ?_
  exact GG.ret (g_iret (true, some (ta 0), many1, xs1, ys1, heaps1, slips1, rows1) dX1_told_21 (Nat.le_of_ble_eq_true rfl) (Nat.le_of_ble_eq_true rfl) (⟨ansT (x := nI (tSl T s w)) (by unfold aTold; simp only [hs, hw]) (congrArg nI (hC1.sl hsL (by omega))), fun _ => ⟨rfl, hC1⟩⟩) (fun _ h => h))
set_option maxHeartbeats 4000000 in
/-- how many turns one has -/
theorem ctX1_turnsOf {xa ca cb ra ta : Nat → Nat} {T : Talk} {bL : Bool} {tk : Option Nat} {many : Nat} {xs ys heaps : Nat → Nat} {slips : Nat → Nat → Nat} {rows : Nat → Nat → Int64} {taped fk : Nat} {fa : Int32} {an nx : Nat} {images : Nat → Option Nat} {tape : Nat → Int32} {W : va_W} (s0 : Nat) (hT : TalkL Y T ta W) (hok : TOK T) (hs : s0 < tNS T) : CT l D clX (tyX Y) yX1_turnsOf cX1_turnsOf 4 (some .int) ({ frames := 3, cells := 0, slots := 0, locals := 64 } : Room) [.ref (xa 0), .int (nI s0)] (HW D clX A (CoL Y ca ra 0 tk many 0 (-1) xs ys heaps slips rows (XoL Y xa ca cb ra (ta 0) bL taped fk fa an nx images tape W))) (Qi (fun (v : Int32) (u : Unit) => v = nI (cnt (fun t => decide (tWho T t = s0)) (tNT T))) (fun (u : Unit) => HW D clX A (CoL Y ca ra 0 tk many 0 (-1) xs ys heaps slips rows (XoL Y xa ca cb ra (ta 0) bL taped fk fa an nx images tape W))) A) A := by
  obtain ⟨ea2, na2, mc2, hL2⟩ := hT.2.2.1
  have hn := hok.2.2.2.2.2.2.1
  have hn6 := hok.2.2.2.2.2.1
  refine CT.of (L := [(0, .ref (xa 0)), (1, .int (nI s0))]) rfl (by decide +kernel) rfl (Nat.le_of_ble_eq_true rfl) ?_
  refine g_iconst (v := nI 0) dX1_turnsOf_0 (by decide +kernel) ?_
  refine g_istore_n (L' := [(0, _), (1, _), (2, _)]) 2 dX1_turnsOf_1 rfl (by decide) rfl rfl ?_
  refine g_iconst (v := nI 0) dX1_turnsOf_2 (by decide +kernel) ?_
  refine g_istore_n (L' := [(0, _), (1, _), (2, _), (3, _)]) 3 dX1_turnsOf_3 rfl (by decide) rfl rfl ?_
  have loop4 : ∀ (q4 : Nat) (t : Nat), tNT T - t < q4 → (t ≤ tNT T) → GG l D clX (tyX Y) cX1_turnsOf 4 (some .int) RX1 ({ frames := 3, cells := 0, slots := 0, locals := 64 } : Room) A MT (QM (Qi (fun (v : Int32) (u : Unit) => v = nI (cnt (fun t => decide (tWho T t = s0)) (tNT T))) (fun (u : Unit) => HW D clX A (CoL Y ca ra 0 tk many 0 (-1) xs ys heaps slips rows (XoL Y xa ca cb ra (ta 0) bL taped fk fa an nx images tape W))) A) 0 0 A) (HW D clX A (CoL Y ca ra 0 tk many 0 (-1) xs ys heaps slips rows (XoL Y xa ca cb ra (ta 0) bL taped fk fa an nx images tape W))) 0 0 4 [(0, .ref (xa 0)), (1, .int (nI s0)), (2, .int (nI (cnt (fun t => decide (tWho T t = s0)) t))), (3, .int (nI t))] [] := by
    intro q4
    induction q4 with
    | zero => intro t hq4; exact absurd hq4 (Nat.not_lt_zero _)
    | succ q4 ih4 =>
      intro t hq4 ht
      refine g_iload_n 3 dX1_turnsOf_4 rfl rfl ?_
      refine g_aload_n 0 dX1_turnsOf_5 rfl rfl ?_
      refine x_get_talk q444 dX1_turnsOf_6 ?_
      refine g_getfN (C := RX2) (T := TX2) (N := 7) 1 in_X2 rfl (by decide) q212 rfl dX1_turnsOf_9 (co_has _ (xo_tl hT.1)) rfl ?_
      refine h_cVi (ctJ2_size (co_has _ (xo_tl hL2.1))) (lw_V q714 q522 q523 q110 q524) ⟨rfl, hy_J2_size⟩ rfl ⟨Nat.le_of_ble_eq_true rfl, Nat.le_of_ble_eq_true rfl⟩ ⟨Nat.le_of_ble_eq_true rfl, Nat.le_of_ble_eq_true rfl⟩ rfl (Nat.le_of_ble_eq_true rfl) dX1_turnsOf_12 (fun s H hK hP => va_recv hK (co_has _ (xo_tl hL2.1) H hP) (ci := 33) rfl (q0 := 0) rfl) (fun r u hp => ?_)
      obtain rfl := hp
      refine g_icmp_ge_n (tgt := 53) dX1_turnsOf_15 (by decide) (by omega) (by omega) (fun c15 => ?_) (fun c15 => ?_)
      · skip
        refine g_iload_n 2 dX1_turnsOf_53 rfl rfl ?_
        exact g_iret () dX1_turnsOf_54 (Nat.le_refl _) (Nat.le_refl _) (by rw [show t = tNT T by omega]) (fun _ h => h)
      · skip
        obtain ⟨g9, hg1, hg2, hg3, hg4⟩ := hL2.2 (by omega)
        refine g_iload_n 2 dX1_turnsOf_18 rfl rfl ?_
        refine g_aload_n 0 dX1_turnsOf_19 rfl rfl ?_
        refine x_get_talk q444 dX1_turnsOf_20 ?_
        refine g_getfN (C := RX2) (T := TX2) (N := 7) 1 in_X2 rfl (by decide) q212 rfl dX1_turnsOf_23 (co_has _ (xo_tl hT.1)) rfl ?_
        refine g_iload_n 3 dX1_turnsOf_26 rfl rfl ?_
        refine h_cVo (ctJ2_get t _ (co_has _ (xo_tl hL2.1)) (co_has _ (xo_tl hg1)) hg3 hg2 c15 (congrArg va_rf (hg4 _ c15))) (lw_V q1415 q530 q531 q110 q532) ⟨rfl, hy_J2_get⟩ rfl ⟨Nat.le_of_ble_eq_true rfl, Nat.le_of_ble_eq_true rfl⟩ ⟨Nat.le_of_ble_eq_true rfl, Nat.le_of_ble_eq_true rfl⟩ rfl (Nat.le_of_ble_eq_true rfl) dX1_turnsOf_27 (fun s H hK hP => va_recv hK (co_has _ (xo_tl hL2.1) H hP) (ci := 33) rfl (q0 := 0) rfl) (fun u hp => ?_)
        refine g_castS (r := (RX22, TX22, 2)) q1416 rfl dX1_turnsOf_30 (co_has _ (xo_tl (hT.2.2.2.2 t c15).1)) ?_
        refine g_getfN (C := RX22) (T := TX22) (N := 2) 0 in_X22 rfl (by decide) q1346 rfl dX1_turnsOf_33 (co_has _ (xo_tl (hT.2.2.2.2 t c15).1)) rfl ?_
        refine g_iload_n 1 dX1_turnsOf_36 rfl rfl ?_
        refine g_icmp_ne_n (tgt := 44) dX1_turnsOf_37 (by decide) (by have := hok.2.2.2.2.2.2.2.2.1 t c15; omega) (by omega) (fun c37 => ?_) (fun c37 => ?_)
        · skip
          refine g_iconst (v := nI 0) dX1_turnsOf_44 (by decide +kernel) ?_
          refine g_iadd_n dX1_turnsOf_45 ?_
          refine g_istore_n (L' := [(0, _), (1, _), (2, _), (3, _)]) 2 dX1_turnsOf_46 rfl (by decide) rfl rfl ?_
          refine g_iinc_n (b := 1) (L' := [(0, _), (1, _), (2, _), (3, _)]) dX1_turnsOf_47 rfl rfl (by decide) rfl rfl ?_
          refine g_goto (tgt := 4) dX1_turnsOf_50 (by decide) ?_
          rw [cntI_n (f := (fun t => decide (tWho T t = s0))) (w := t) (decide_eq_false c37)]
          exact ih4 (t + 1) (by omega) (by omega)
        · skip
          refine g_iconst (v := nI 1) dX1_turnsOf_40 (by decide +kernel) ?_
          refine g_goto (tgt := 45) dX1_turnsOf_41 (by decide) ?_
          refine g_iadd_n dX1_turnsOf_45 ?_
          refine g_istore_n (L' := [(0, _), (1, _), (2, _), (3, _)]) 2 dX1_turnsOf_46 rfl (by decide) rfl rfl ?_
          refine g_iinc_n (b := 1) (L' := [(0, _), (1, _), (2, _), (3, _)]) dX1_turnsOf_47 rfl rfl (by decide) rfl rfl ?_
          refine g_goto (tgt := 4) dX1_turnsOf_50 (by decide) ?_
          rw [cntI_y (f := (fun t => decide (tWho T t = s0))) (w := t) (decide_eq_true c37)]
          exact ih4 (t + 1) (by omega) (by omega)
  exact loop4 (tNT T + 1) 0 (by omega) (by omega)
set_option maxHeartbeats 4000000 in
theorem ctX1_speaker {xa ca cb ra ta : Nat → Nat} {T : Talk} {bL : Bool} {tk : Option Nat} {many : Nat} {xs ys heaps : Nat → Nat} {slips : Nat → Nat → Nat} {rows : Nat → Nat → Int64} {taped fk : Nat} {fa : Int32} {an nx : Nat} {images : Nat → Option Nat} {tape : Nat → Int32} {W : va_W} (s0 wh : Int32) (hl9 : l.stackTraces = false) (hT : TalkL Y T ta W) (hok : TOK T) (hL : bL = true → tk = some (ta 0) ∧ LdC T many xs ys slips rows) : CTB l D clX (tyX Y) yX1_speaker cX1_speaker 3 (some .int) ({ frames := 8, cells := 2, slots := 12, locals := 131 } : Room) [.ref (xa 0), .int s0, .int wh] (HW D clX A (CoL Y ca ra 0 tk many 0 (-1) xs ys heaps slips rows (XoL Y xa ca cb ra (ta 0) bL taped fk fa an nx images tape W))) (Qi (fun (v : Int32) (u : XS) => ans (aSpeaker T s0 wh) 0 v ∧ LdX T (ta 0) u) (fun (u : XS) => HW D clX A (CoL Y ca ra 0 u.2.1 u.2.2.1 0 (-1) u.2.2.2.1 u.2.2.2.2.1 u.2.2.2.2.2.1 u.2.2.2.2.2.2.1 u.2.2.2.2.2.2.2 (XoL Y xa ca cb ra (ta 0) u.1 taped fk fa an nx images tape W))) A) (fun (u : Nat × XS) => (∃ v9, ans (aSpeaker T s0 wh) u.1 v9) ∧ 0 < u.1 ∧ LdX T (ta 0) u.2) (fun u => exL ["java/util/NoSuchElementException", "java/lang/IllegalArgumentException"] u.1) (fun (u : Nat × XS) (_ : Nat) => HW D clX A (CoL Y ca ra 0 u.2.2.1 u.2.2.2.1 0 (-1) u.2.2.2.2.1 u.2.2.2.2.2.1 u.2.2.2.2.2.2.1 u.2.2.2.2.2.2.2.1 u.2.2.2.2.2.2.2.2 (XoL Y xa ca cb ra (ta 0) u.2.1 taped fk fa an nx images tape W))) A := by
  refine CTB.of (L := [(0, .ref (xa 0)), (1, .int s0), (2, .int wh)]) rfl (by decide +kernel) rfl (Nat.le_of_ble_eq_true rfl) ?_
  refine g_aload_n 0 dX1_speaker_0 rfl rfl ?_
  refine g_iload_n 1 dX1_speaker_1 rfl rfl ?_
  refine x_cVv (ctX1_mustSpeaker _ hl9 hT hok) (lw_V q1399 q1401 qs34 q106 q1402) ⟨rfl, hy_X1_mustSpeaker⟩ rfl ⟨Nat.le_of_ble_eq_true rfl, Nat.le_of_ble_eq_true rfl⟩ ⟨Nat.le_of_ble_eq_true rfl, Nat.le_of_ble_eq_true rfl⟩ rfl (Nat.le_of_ble_eq_true rfl) dX1_speaker_2 (fun _ _ _ h => h.1) x_rec (fun u9 q9 hx9 => xg_out (1, (bL, tk, many, xs, ys, heaps, slips, rows)) (Nat.le_of_ble_eq_true rfl) (Nat.le_of_ble_eq_true rfl) (⟨ansE (by unfold aSpeaker; simp only [hx9]), Nat.le_of_ble_eq_true rfl, hL⟩) rfl (fun _ h => h)) (fun u9 hy9 => ?_)
  obtain ⟨s, hs⟩ := Option.isSome_iff_exists.mp hy9
  obtain ⟨hsL, rfl⟩ := iR_some hs
  refine g_iload_n 2 dX1_speaker_5 rfl rfl ?_
  rcases iR4 wh with rfl | rfl | rfl | rfl | ⟨z0, z1, z2, z3, z9⟩
  · skip
    refine g_table_n (a := 0) (tgt := 36) dX1_speaker_6 (by decide) (by decide) (by decide) rfl (by decide) ?_
    refine g_aload_n 0 dX1_speaker_36 rfl rfl ?_
    refine x_get_talk q444 dX1_speaker_37 ?_
    refine g_iload_n 1 dX1_speaker_40 rfl rfl ?_
    refine h_cVo (ctX2_speaker s (xo_up hT) co_has hsL) (lw_V q1410 q526 q527 q107 q528) ⟨rfl, hy_X2_speaker⟩ rfl ⟨Nat.le_of_ble_eq_true rfl, Nat.le_of_ble_eq_true rfl⟩ ⟨Nat.le_of_ble_eq_true rfl, Nat.le_of_ble_eq_true rfl⟩ rfl (Nat.le_of_ble_eq_true rfl) dX1_speaker_41 (fun s H hK hP => va_recv hK (co_has _ (xo_tl hT.1) H hP) (ci := 2) rfl (q0 := 0) rfl) (fun u hp => ?_)
    refine g_getfN (C := RX13) (T := TX13) (N := 4) 0 in_X13 rfl (by decide) q1106 rfl dX1_speaker_44 (co_has _ (xo_tl (hT.2.2.2.1 s hsL).1)) rfl ?_
    exact GG.ret (g_iret (bL, tk, many, xs, ys, heaps, slips, rows) dX1_speaker_47 (Nat.le_of_ble_eq_true rfl) (Nat.le_of_ble_eq_true rfl) (⟨ansT (x := nI (tKind T s)) (by unfold aSpeaker; simp only [hs, if_pos (show nI 0 = 0 from rfl)]) (rfl), hL⟩) (fun _ h => h))
  · skip
    refine g_table_n (a := 1) (tgt := 48) dX1_speaker_6 (by decide) (by decide) (by decide) rfl (by decide) ?_
    refine g_aload_n 0 dX1_speaker_48 rfl rfl ?_
    refine x_get_talk q444 dX1_speaker_49 ?_
    refine g_iload_n 1 dX1_speaker_52 rfl rfl ?_
    refine h_cVo (ctX2_speaker s (xo_up hT) co_has hsL) (lw_V q1410 q526 q527 q107 q528) ⟨rfl, hy_X2_speaker⟩ rfl ⟨Nat.le_of_ble_eq_true rfl, Nat.le_of_ble_eq_true rfl⟩ ⟨Nat.le_of_ble_eq_true rfl, Nat.le_of_ble_eq_true rfl⟩ rfl (Nat.le_of_ble_eq_true rfl) dX1_speaker_53 (fun s H hK hP => va_recv hK (co_has _ (xo_tl hT.1) H hP) (ci := 2) rfl (q0 := 0) rfl) (fun u hp => ?_)
    refine g_getfN (C := RX13) (T := TX13) (N := 4) 2 in_X13 rfl (by decide) q1111 rfl dX1_speaker_56 (co_has _ (xo_tl (hT.2.2.2.1 s hsL).1)) rfl ?_
    refine g_if_eq_b (tgt := 66) dX1_speaker_59 (by decide) (fun c59 => ?_) (fun c59 => ?_)
    · skip
      refine g_iconst (v := nI 0) dX1_speaker_66 (by decide +kernel) ?_
      exact GG.ret (g_iret (bL, tk, many, xs, ys, heaps, slips, rows) dX1_speaker_67 (Nat.le_of_ble_eq_true rfl) (Nat.le_of_ble_eq_true rfl) (⟨ansT (x := bI (tLiar T s)) (by unfold aSpeaker; simp only [hs, if_neg (show ¬ nI 1 = 0 by decide), if_pos (show nI 1 = 1 from rfl)]) (by rw [c59]; rfl), hL⟩) (fun _ h => h))
    · skip
      refine g_iconst (v := nI 1) dX1_speaker_62 (by decide +kernel) ?_
      refine g_goto (tgt := 67) dX1_speaker_63 (by decide) ?_
      exact GG.ret (g_iret (bL, tk, many, xs, ys, heaps, slips, rows) dX1_speaker_67 (Nat.le_of_ble_eq_true rfl) (Nat.le_of_ble_eq_true rfl) (⟨ansT (x := bI (tLiar T s)) (by unfold aSpeaker; simp only [hs, if_neg (show ¬ nI 1 = 0 by decide), if_pos (show nI 1 = 1 from rfl)]) (by rw [c59]; rfl), hL⟩) (fun _ h => h))
  · skip
    refine g_table_n (a := 2) (tgt := 68) dX1_speaker_6 (by decide) (by decide) (by decide) rfl (by decide) ?_
    refine g_aload_n 0 dX1_speaker_68 rfl rfl ?_
    refine x_get_talk q444 dX1_speaker_69 ?_
    refine g_iload_n 1 dX1_speaker_72 rfl rfl ?_
    refine h_cVo (ctX2_speaker s (xo_up hT) co_has hsL) (lw_V q1410 q526 q527 q107 q528) ⟨rfl, hy_X2_speaker⟩ rfl ⟨Nat.le_of_ble_eq_true rfl, Nat.le_of_ble_eq_true rfl⟩ ⟨Nat.le_of_ble_eq_true rfl, Nat.le_of_ble_eq_true rfl⟩ rfl (Nat.le_of_ble_eq_true rfl) dX1_speaker_73 (fun s H hK hP => va_recv hK (co_has _ (xo_tl hT.1) H hP) (ci := 2) rfl (q0 := 0) rfl) (fun u hp => ?_)
    refine g_getfN (C := RX13) (T := TX13) (N := 4) 3 in_X13 rfl (by decide) q1114 rfl dX1_speaker_76 (co_has _ (xo_tl (hT.2.2.2.1 s hsL).1)) rfl ?_
    refine g_if_eq_b (tgt := 86) dX1_speaker_79 (by decide) (fun c79 => ?_) (fun c79 => ?_)
    · skip
      refine g_iconst (v := nI 0) dX1_speaker_86 (by decide +kernel) ?_
      exact GG.ret (g_iret (bL, tk, many, xs, ys, heaps, slips, rows) dX1_speaker_87 (Nat.le_of_ble_eq_true rfl) (Nat.le_of_ble_eq_true rfl) (⟨ansT (x := bI (tDeaf T s)) (by unfold aSpeaker; simp only [hs, if_neg (show ¬ nI 2 = 0 by decide), if_neg (show ¬ nI 2 = 1 by decide), if_pos (show nI 2 = 2 from rfl)]) (by rw [c79]; rfl), hL⟩) (fun _ h => h))
    · skip
      refine g_iconst (v := nI 1) dX1_speaker_82 (by decide +kernel) ?_
      refine g_goto (tgt := 87) dX1_speaker_83 (by decide) ?_
      exact GG.ret (g_iret (bL, tk, many, xs, ys, heaps, slips, rows) dX1_speaker_87 (Nat.le_of_ble_eq_true rfl) (Nat.le_of_ble_eq_true rfl) (⟨ansT (x := bI (tDeaf T s)) (by unfold aSpeaker; simp only [hs, if_neg (show ¬ nI 2 = 0 by decide), if_neg (show ¬ nI 2 = 1 by decide), if_pos (show nI 2 = 2 from rfl)]) (by rw [c79]; rfl), hL⟩) (fun _ h => h))
  · skip
    refine g_table_n (a := 3) (tgt := 88) dX1_speaker_6 (by decide) (by decide) (by decide) rfl (by decide) ?_
    refine g_aload_n 0 dX1_speaker_88 rfl rfl ?_
    refine g_iload_n 1 dX1_speaker_89 rfl rfl ?_
    refine h_cVi (ctX1_turnsOf s hT hok hsL) (lw_V q1411 q1413 qs35 q106 q1414) ⟨rfl, hy_X1_turnsOf⟩ rfl ⟨Nat.le_of_ble_eq_true rfl, Nat.le_of_ble_eq_true rfl⟩ ⟨Nat.le_of_ble_eq_true rfl, Nat.le_of_ble_eq_true rfl⟩ rfl (Nat.le_of_ble_eq_true rfl) dX1_speaker_90 x_rec (fun r u hp => ?_)
    obtain rfl := hp
    exact GG.ret (g_iret (bL, tk, many, xs, ys, heaps, slips, rows) dX1_speaker_93 (Nat.le_of_ble_eq_true rfl) (Nat.le_of_ble_eq_true rfl) (⟨ansT (x := nI (cnt (fun t => decide (tWho T t = s)) (tNT T))) (by unfold aSpeaker; simp only [hs, if_neg (show ¬ nI 3 = 0 by decide), if_neg (show ¬ nI 3 = 1 by decide), if_neg (show ¬ nI 3 = 2 by decide), if_pos (show nI 3 = 3 from rfl)]) (rfl), hL⟩) (fun _ h => h))
  · skip
    refine g_tableOut (tgt := 94) dX1_speaker_6 (by have := iR_none z9; omega) (by decide) ?_
    exact g_throw0 (names := ["java/lang/RuntimeException", "java/lang/Exception"]) hl9 (by decide +kernel) (by decide +kernel) (lw_all_tbl q743) (lw_all_tbl q122) vw_at_IAE_3 vw_ok_IAE_3 dX1_speaker_94 dX1_speaker_97 dX1_speaker_98 dX1_speaker_101 (fun _ _ _ h x hx => (h.2 x hx).elim) (Nat.le_of_ble_eq_true rfl) (Nat.le_of_ble_eq_true rfl) (Nat.le_of_ble_eq_true rfl) (Nat.le_of_ble_eq_true rfl) (2, (bL, tk, many, xs, ys, heaps, slips, rows)) (⟨ansE (by unfold aSpeaker; simp only [hs, if_neg z0, if_neg (show ¬ wh = 1 from z1), if_neg (show ¬ wh = 2 from z2), if_neg (show ¬ wh = 3 from z3)]), Nat.le_of_ble_eq_true rfl, hL⟩) rfl (fun H H1 _ h _ hk => HW.keep h hk) (Nat.le_of_ble_eq_true rfl) (Nat.le_of_ble_eq_true rfl)
set_option maxHeartbeats 4000000 in
theorem ctX1_turn {xa ca cb ra ta : Nat → Nat} {T : Talk} {bL : Bool} {tk : Option Nat} {many : Nat} {xs ys heaps : Nat → Nat} {slips : Nat → Nat → Nat} {rows : Nat → Nat → Int64} {taped fk : Nat} {fa : Int32} {an nx : Nat} {images : Nat → Option Nat} {tape : Nat → Int32} {W : va_W} (t0 : Int32) (hl9 : l.stackTraces = false) (hT : TalkL Y T ta W) (hok : TOK T) (hL : bL = true → tk = some (ta 0) ∧ LdC T many xs ys slips rows) : CTB l D clX (tyX Y) yX1_turn cX1_turn 2 (some .int) ({ frames := 8, cells := 1, slots := 6, locals := 131 } : Room) [.ref (xa 0), .int t0] (HW D clX A (CoL Y ca ra 0 tk many 0 (-1) xs ys heaps slips rows (XoL Y xa ca cb ra (ta 0) bL taped fk fa an nx images tape W))) (Qi (fun (v : Int32) (u : XS) => ans (aTurn T t0) 0 v ∧ LdX T (ta 0) u) (fun (u : XS) => HW D clX A (CoL Y ca ra 0 u.2.1 u.2.2.1 0 (-1) u.2.2.2.1 u.2.2.2.2.1 u.2.2.2.2.2.1 u.2.2.2.2.2.2.1 u.2.2.2.2.2.2.2 (XoL Y xa ca cb ra (ta 0) u.1 taped fk fa an nx images tape W))) A) (fun (u : Nat × XS) => (∃ v9, ans (aTurn T t0) u.1 v9) ∧ 0 < u.1 ∧ LdX T (ta 0) u.2) (fun u => exL ["java/util/NoSuchElementException"] u.1) (fun (u : Nat × XS) (_ : Nat) => HW D clX A (CoL Y ca ra 0 u.2.2.1 u.2.2.2.1 0 (-1) u.2.2.2.2.1 u.2.2.2.2.2.1 u.2.2.2.2.2.2.1 u.2.2.2.2.2.2.2.1 u.2.2.2.2.2.2.2.2 (XoL Y xa ca cb ra (ta 0) u.2.1 taped fk fa an nx images tape W))) A := by
  refine CTB.of (L := [(0, .ref (xa 0)), (1, .int t0)]) rfl (by decide +kernel) rfl (Nat.le_of_ble_eq_true rfl) ?_
  refine g_aload_n 0 dX1_turn_0 rfl rfl ?_
  refine g_iload_n 1 dX1_turn_1 rfl rfl ?_
  refine x_cVo (ctX1_turnOf _ hl9 hT hok) (lw_V q1424 q1426 qs36 q106 q1427) ⟨rfl, hy_X1_turnOf⟩ rfl ⟨Nat.le_of_ble_eq_true rfl, Nat.le_of_ble_eq_true rfl⟩ ⟨Nat.le_of_ble_eq_true rfl, Nat.le_of_ble_eq_true rfl⟩ rfl (Nat.le_of_ble_eq_true rfl) dX1_turn_2 (fun _ _ _ h => h.1) x_rec (fun u9 q9 hx9 => xg_out (1, (bL, tk, many, xs, ys, heaps, slips, rows)) (Nat.le_of_ble_eq_true rfl) (Nat.le_of_ble_eq_true rfl) (⟨ansE (by unfold aTurn; simp only [hx9]), Nat.le_of_ble_eq_true rfl, hL⟩) rfl (fun _ h => h)) (fun t ht => ?_)
  obtain ⟨htL, rfl⟩ := iR_some ht
  refine g_getfN (C := RX22) (T := TX22) (N := 2) 0 in_X22 rfl (by decide) q1346 rfl dX1_turn_5 (co_has _ (xo_tl (hT.2.2.2.2 t htL).1)) rfl ?_
  exact GG.ret (g_iret (bL, tk, many, xs, ys, heaps, slips, rows) dX1_turn_8 (Nat.le_of_ble_eq_true rfl) (Nat.le_of_ble_eq_true rfl) (⟨ansT (x := nI (tWho T t)) (by unfold aTurn; simp only [ht]) (rfl), hL⟩) (fun _ h => h))
set_option maxHeartbeats 4000000 in
theorem ctX1_left {xa ca cb ra ta : Nat → Nat} {T : Talk} {bL : Bool} {tk : Option Nat} {many : Nat} {xs ys heaps : Nat → Nat} {slips : Nat → Nat → Nat} {rows : Nat → Nat → Int64} {taped fk : Nat} {fa : Int32} {an nx : Nat} {images : Nat → Option Nat} {tape : Nat → Int32} {W : va_W} (t0 : Int32) (hl9 : l.stackTraces = false) (hT : TalkL Y T ta W) (hok : TOK T) (hL : bL = true → tk = some (ta 0) ∧ LdC T many xs ys slips rows) : CTB l D clX (tyX Y) yX1_left cX1_left 2 (some .int) ({ frames := 1816, cells := 1, slots := 6, locals := 54543 } : Room) [.ref (xa 0), .int t0] (HW D clX A (CoL Y ca ra 0 tk many 0 (-1) xs ys heaps slips rows (XoL Y xa ca cb ra (ta 0) bL taped fk fa an nx images tape W))) (Qi (fun (v : Int32) (u : XS) => ans (aLeft T t0) 0 v ∧ LdX T (ta 0) u) (fun (u : XS) => HW D clX A (CoL Y ca ra 0 u.2.1 u.2.2.1 0 (-1) u.2.2.2.1 u.2.2.2.2.1 u.2.2.2.2.2.1 u.2.2.2.2.2.2.1 u.2.2.2.2.2.2.2 (XoL Y xa ca cb ra (ta 0) u.1 taped fk fa an nx images tape W))) A) (fun (u : Nat × XS) => (∃ v9, ans (aLeft T t0) u.1 v9) ∧ 0 < u.1 ∧ LdX T (ta 0) u.2) (fun u => exL ["java/lang/IllegalArgumentException"] u.1) (fun (u : Nat × XS) (_ : Nat) => HW D clX A (CoL Y ca ra 0 u.2.2.1 u.2.2.2.1 0 (-1) u.2.2.2.2.1 u.2.2.2.2.2.1 u.2.2.2.2.2.2.1 u.2.2.2.2.2.2.2.1 u.2.2.2.2.2.2.2.2 (XoL Y xa ca cb ra (ta 0) u.2.1 taped fk fa an nx images tape W))) A := by
  refine CTB.of (L := [(0, .ref (xa 0)), (1, .int t0)]) rfl (by decide +kernel) rfl (Nat.le_of_ble_eq_true rfl) ?_
  refine g_aload_n 0 dX1_left_0 rfl rfl ?_
  refine g_iload_n 1 dX1_left_1 rfl rfl ?_
  refine x_cVv (ctX1_mustTurns _ hl9 hT hok) (lw_V q1435 q1437 qs37 q106 q1438) ⟨rfl, hy_X1_mustTurns⟩ rfl ⟨Nat.le_of_ble_eq_true rfl, Nat.le_of_ble_eq_true rfl⟩ ⟨Nat.le_of_ble_eq_true rfl, Nat.le_of_ble_eq_true rfl⟩ rfl (Nat.le_of_ble_eq_true rfl) dX1_left_2 (fun _ _ _ h => h.1) x_rec (fun u9 q9 hx9 => xg_out (1, (bL, tk, many, xs, ys, heaps, slips, rows)) (Nat.le_of_ble_eq_true rfl) (Nat.le_of_ble_eq_true rfl) (⟨ansE (by unfold aLeft; simp only [hx9]), Nat.le_of_ble_eq_true rfl, hL⟩) rfl (fun _ h => h)) (fun u9 hy9 => ?_)
  obtain ⟨t, ht⟩ := Option.isSome_iff_exists.mp hy9
  obtain ⟨htL, rfl⟩ := iR_some ht
  have hn20 := hok.2.2.2.2.2.2.1
  refine g_aload_n 0 dX1_left_5 rfl rfl ?_
  refine h_cVo (ctX1_laid hT hok hL) (lw_V q510 q512 qs1 q106 q513) ⟨rfl, hy_X1_laid⟩ rfl ⟨Nat.le_of_ble_eq_true rfl, Nat.le_of_ble_eq_true rfl⟩ ⟨Nat.le_of_ble_eq_true rfl, Nat.le_of_ble_eq_true rfl⟩ rfl (Nat.le_of_ble_eq_true rfl) dX1_left_6 x_rec (fun u9 hC1 => ?_)
  obtain ⟨many1, xs1, ys1, heaps1, slips1, rows1⟩ := u9
  have hC1 : LdC T many1 xs1 ys1 slips1 rows1 := hC1
  have hP1 := hC1.mny
  have hP2 := tP_le hok
  refine co_get_leftN q270 dX1_left_9 ?_
  refine g_iload_n 1 dX1_left_12 rfl rfl ?_
  refine co_ld_left (by omega) dX1_left_13 ?_
  refine h_cSi (ctX1_count (f := rows1 (0 + t)) (hw_ix (CoL_row (r := 0 + t) (by omega)))) (lw_S q1439 q698 q106 q699) hy_X1_count rfl ⟨Nat.le_of_ble_eq_true rfl, Nat.le_of_ble_eq_true rfl⟩ ⟨Nat.le_of_ble_eq_true rfl, Nat.le_of_ble_eq_true rfl⟩ rfl (Nat.le_of_ble_eq_true rfl) dX1_left_14 (fun r u hp => ?_)
  obtain rfl := hp
  exact GG.ret (g_iret (true, some (ta 0), many1, xs1, ys1, heaps1, slips1, rows1) dX1_left_17 (Nat.le_of_ble_eq_true rfl) (Nat.le_of_ble_eq_true rfl) (⟨ansT (x := nI (leftN T t)) (by unfold aLeft; simp only [ht]) (congrArg nI (hC1.num hok (by omega))), fun _ => ⟨rfl, hC1⟩⟩) (fun _ h => h))
set_option maxHeartbeats 4000000 in
theorem ctX1_leftAt {xa ca cb ra ta : Nat → Nat} {T : Talk} {bL : Bool} {tk : Option Nat} {many : Nat} {xs ys heaps : Nat → Nat} {slips : Nat → Nat → Nat} {rows : Nat → Nat → Int64} {taped fk : Nat} {fa : Int32} {an nx : Nat} {images : Nat → Option Nat} {tape : Nat → Int32} {W : va_W} (t0 k0 : Int32) (hl9 : l.stackTraces = false) (hT : TalkL Y T ta W) (hok : TOK T) (hL : bL = true → tk = some (ta 0) ∧ LdC T many xs ys slips rows) : CTB l D clX (tyX Y) yX1_leftAt cX1_leftAt 3 (some .int) ({ frames := 1816, cells := 1, slots := 6, locals := 54543 } : Room) [.ref (xa 0), .int t0, .int k0] (HW D clX A (CoL Y ca ra 0 tk many 0 (-1) xs ys heaps slips rows (XoL Y xa ca cb ra (ta 0) bL taped fk fa an nx images tape W))) (Qi (fun (v : Int32) (u : XS) => aLeftAt T t0 k0 0 v ∧ LdX T (ta 0) u) (fun (u : XS) => HW D clX A (CoL Y ca ra 0 u.2.1 u.2.2.1 0 (-1) u.2.2.2.1 u.2.2.2.2.1 u.2.2.2.2.2.1 u.2.2.2.2.2.2.1 u.2.2.2.2.2.2.2 (XoL Y xa ca cb ra (ta 0) u.1 taped fk fa an nx images tape W))) A) (fun (u : Nat × XS) => (∃ v9, aLeftAt T t0 k0 u.1 v9) ∧ 0 < u.1 ∧ LdX T (ta 0) u.2) (fun u => exL ["java/lang/IllegalArgumentException"] u.1) (fun (u : Nat × XS) (_ : Nat) => HW D clX A (CoL Y ca ra 0 u.2.2.1 u.2.2.2.1 0 (-1) u.2.2.2.2.1 u.2.2.2.2.2.1 u.2.2.2.2.2.2.1 u.2.2.2.2.2.2.2.1 u.2.2.2.2.2.2.2.2 (XoL Y xa ca cb ra (ta 0) u.2.1 taped fk fa an nx images tape W))) A := by
  refine CTB.of (L := [(0, .ref (xa 0)), (1, .int t0), (2, .int k0)]) rfl (by decide +kernel) rfl (Nat.le_of_ble_eq_true rfl) ?_
  refine g_aload_n 0 dX1_leftAt_0 rfl rfl ?_
  refine g_iload_n 1 dX1_leftAt_1 rfl rfl ?_
  refine x_cVv (ctX1_mustTurns _ hl9 hT hok) (lw_V q1435 q1437 qs37 q106 q1438) ⟨rfl, hy_X1_mustTurns⟩ rfl ⟨Nat.le_of_ble_eq_true rfl, Nat.le_of_ble_eq_true rfl⟩ ⟨Nat.le_of_ble_eq_true rfl, Nat.le_of_ble_eq_true rfl⟩ rfl (Nat.le_of_ble_eq_true rfl) dX1_leftAt_2 (fun _ _ _ h => h.1) x_rec (fun u9 q9 hx9 => xg_out (1, (bL, tk, many, xs, ys, heaps, slips, rows)) (Nat.le_of_ble_eq_true rfl) (Nat.le_of_ble_eq_true rfl) (⟨⟨0, by unfold aLeftAt; simp only [hx9]⟩, Nat.le_of_ble_eq_true rfl, hL⟩) rfl (fun _ h => h)) (fun u9 hy9 => ?_)
  obtain ⟨t, ht⟩ := Option.isSome_iff_exists.mp hy9
  obtain ⟨htL, rfl⟩ := iR_some ht
  have hn20 := hok.2.2.2.2.2.2.1
  refine g_aload_n 0 dX1_leftAt_5 rfl rfl ?_
  refine h_cVo (ctX1_laid hT hok hL) (lw_V q510 q512 qs1 q106 q513) ⟨rfl, hy_X1_laid⟩ rfl ⟨Nat.le_of_ble_eq_true rfl, Nat.le_of_ble_eq_true rfl⟩ ⟨Nat.le_of_ble_eq_true rfl, Nat.le_of_ble_eq_true rfl⟩ rfl (Nat.le_of_ble_eq_true rfl) dX1_leftAt_6 x_rec (fun u9 hC1 => ?_)
  obtain ⟨many1, xs1, ys1, heaps1, slips1, rows1⟩ := u9
  have hC1 : LdC T many1 xs1 ys1 slips1 rows1 := hC1
  have hP1 := hC1.mny
  have hP2 := tP_le hok
  refine co_get_leftN q270 dX1_leftAt_9 ?_
  refine g_iload_n 1 dX1_leftAt_12 rfl rfl ?_
  refine co_ld_left (by omega) dX1_leftAt_13 ?_
  refine g_iload_n 2 dX1_leftAt_14 rfl rfl ?_
  refine g_aload_n 0 dX1_leftAt_15 rfl rfl ?_
  refine x_get_course q445 dX1_leftAt_16 ?_
  refine co_get_manyN q276 dX1_leftAt_19 ?_
  refine h_cSi (ctX1_at k0 many1 (f := rows1 (0 + t)) (hw_ix (CoL_row (r := 0 + t) (by omega))) (by omega)) (lw_S q1447 q707 q106 q708) hy_X1_at rfl ⟨Nat.le_of_ble_eq_true rfl, Nat.le_of_ble_eq_true rfl⟩ ⟨Nat.le_of_ble_eq_true rfl, Nat.le_of_ble_eq_true rfl⟩ rfl (Nat.le_of_ble_eq_true rfl) dX1_leftAt_22 (fun r u hp => ?_)
  exact GG.ret (g_iret (true, some (ta 0), many1, xs1, ys1, heaps1, slips1, rows1) dX1_leftAt_25 (Nat.le_of_ble_eq_true rfl) (Nat.le_of_ble_eq_true rfl) (⟨by unfold aLeftAt; simp only [ht]; rw [hP1] at hp; exact ⟨trivial, isFst_congr (fun w hw => by rw [hC1.lft hok (t := t) (w := w) (by omega) (by omega), cnt_congr (n := w) (g := leftT T t) (fun v hv => hC1.lft hok (by omega) (by omega))]) hp⟩, fun _ => ⟨rfl, hC1⟩⟩) (fun _ h => h))
set_option maxHeartbeats 4000000 in
theorem ctX1_isLeft {xa ca cb ra ta : Nat → Nat} {T : Talk} {bL : Bool} {tk : Option Nat} {many : Nat} {xs ys heaps : Nat → Nat} {slips : Nat → Nat → Nat} {rows : Nat → Nat → Int64} {taped fk : Nat} {fa : Int32} {an nx : Nat} {images : Nat → Option Nat} {tape : Nat → Int32} {W : va_W} (t0 w0 : Int32) (hl9 : l.stackTraces = false) (hT : TalkL Y T ta W) (hok : TOK T) (hL : bL = true → tk = some (ta 0) ∧ LdC T many xs ys slips rows) : CTB l D clX (tyX Y) yX1_isLeft cX1_isLeft 3 (some .boolean) ({ frames := 1817, cells := 2, slots := 12, locals := 54564 } : Room) [.ref (xa 0), .int t0, .int w0] (HW D clX A (CoL Y ca ra 0 tk many 0 (-1) xs ys heaps slips rows (XoL Y xa ca cb ra (ta 0) bL taped fk fa an nx images tape W))) (Qi (fun (v : Int32) (u : XS) => ans (aIsLeft T t0 w0) 0 v ∧ LdX T (ta 0) u) (fun (u : XS) => HW D clX A (CoL Y ca ra 0 u.2.1 u.2.2.1 0 (-1) u.2.2.2.1 u.2.2.2.2.1 u.2.2.2.2.2.1 u.2.2.2.2.2.2.1 u.2.2.2.2.2.2.2 (XoL Y xa ca cb ra (ta 0) u.1 taped fk fa an nx images tape W))) A) (fun (u : Nat × XS) => (∃ v9, ans (aIsLeft T t0 w0) u.1 v9) ∧ 0 < u.1 ∧ LdX T (ta 0) u.2) (fun u => exL ["java/util/NoSuchElementException", "java/lang/IllegalArgumentException"] u.1) (fun (u : Nat × XS) (_ : Nat) => HW D clX A (CoL Y ca ra 0 u.2.2.1 u.2.2.2.1 0 (-1) u.2.2.2.2.1 u.2.2.2.2.2.1 u.2.2.2.2.2.2.1 u.2.2.2.2.2.2.2.1 u.2.2.2.2.2.2.2.2 (XoL Y xa ca cb ra (ta 0) u.2.1 taped fk fa an nx images tape W))) A := by
  refine CTB.of (L := [(0, .ref (xa 0)), (1, .int t0), (2, .int w0)]) rfl (by decide +kernel) rfl (Nat.le_of_ble_eq_true rfl) ?_
  refine g_aload_n 0 dX1_isLeft_0 rfl rfl ?_
  refine g_iload_n 2 dX1_isLeft_1 rfl rfl ?_
  refine x_cVv (ctX1_mustWorld _ hl9 hT hok hL) (lw_V q1370 q1372 qs33 q106 q1373) ⟨rfl, hy_X1_mustWorld⟩ rfl ⟨Nat.le_of_ble_eq_true rfl, Nat.le_of_ble_eq_true rfl⟩ ⟨Nat.le_of_ble_eq_true rfl, Nat.le_of_ble_eq_true rfl⟩ rfl (Nat.le_of_ble_eq_true rfl) dX1_isLeft_2 (fun _ _ _ h => h.1) x_rec (fun u9 q9 hx9 => xg_out (1, (true, some (ta 0), u9.1, u9.2.1, u9.2.2.1, u9.2.2.2.1, u9.2.2.2.2.1, u9.2.2.2.2.2)) (Nat.le_of_ble_eq_true rfl) (Nat.le_of_ble_eq_true rfl) (⟨ansE (by unfold aIsLeft; simp only [hx9.1]), Nat.le_of_ble_eq_true rfl, fun _ => ⟨rfl, hx9.2⟩⟩) rfl (fun _ h => h)) (fun u9 hy9 => ?_)
  obtain ⟨many1, xs1, ys1, heaps1, slips1, rows1⟩ := u9
  obtain ⟨hs9, hC1⟩ := hy9
  have hC1 : LdC T many1 xs1 ys1 slips1 rows1 := hC1
  have hP1 := hC1.mny
  have hP2 := tP_le hok
  obtain ⟨w, hw⟩ := Option.isSome_iff_exists.mp hs9
  obtain ⟨hwL, rfl⟩ := iR_some hw
  refine g_aload_n 0 dX1_isLeft_5 rfl rfl ?_
  refine g_iload_n 1 dX1_isLeft_6 rfl rfl ?_
  refine x_cVv (ctX1_mustTurns _ hl9 hT hok) (lw_V q1435 q1437 qs37 q106 q1438) ⟨rfl, hy_X1_mustTurns⟩ rfl ⟨Nat.le_of_ble_eq_true rfl, Nat.le_of_ble_eq_true rfl⟩ ⟨Nat.le_of_ble_eq_true rfl, Nat.le_of_ble_eq_true rfl⟩ rfl (Nat.le_of_ble_eq_true rfl) dX1_isLeft_7 (fun _ _ _ h => h.1) x_rec (fun u9 q9 hx9 => xg_out (2, (true, some (ta 0), many1, xs1, ys1, heaps1, slips1, rows1)) (Nat.le_of_ble_eq_true rfl) (Nat.le_of_ble_eq_true rfl) (⟨ansE (by unfold aIsLeft; simp only [hw, hx9]), Nat.le_of_ble_eq_true rfl, fun _ => ⟨rfl, hC1⟩⟩) rfl (fun _ h => h)) (fun u9 hy9 => ?_)
  obtain ⟨t, ht⟩ := Option.isSome_iff_exists.mp hy9
  obtain ⟨htL, rfl⟩ := iR_some ht
  have hn20 := hok.2.2.2.2.2.2.1
  refine g_aload_n 0 dX1_isLeft_10 rfl rfl ?_
  refine x_get_course q445 dX1_isLeft_11 ?_
  refine co_get_leftN q270 dX1_isLeft_14 ?_
  refine g_iload_n 1 dX1_isLeft_17 rfl rfl ?_
  refine co_ld_left (by omega) dX1_isLeft_18 ?_
  refine g_iload_n 2 dX1_isLeft_19 rfl rfl ?_
  refine h_cSi (ctX1_has w (f := rows1 (0 + t)) (hw_ix (CoL_row (r := 0 + t) (by omega))) (by omega)) (lw_S q709 q647 q106 q648) hy_X1_has rfl ⟨Nat.le_of_ble_eq_true rfl, Nat.le_of_ble_eq_true rfl⟩ ⟨Nat.le_of_ble_eq_true rfl, Nat.le_of_ble_eq_true rfl⟩ rfl (Nat.le_of_ble_eq_true rfl) dX1_isLeft_20 (fun r u hp => ?_)
  obtain rfl := hp
  exact GG.ret (g_zret (true, some (ta 0), many1, xs1, ys1, heaps1, slips1, rows1) dX1_isLeft_23 (Nat.le_of_ble_eq_true rfl) (Nat.le_of_ble_eq_true rfl) (⟨ansT (x := bI (leftT T t w)) (by unfold aIsLeft; simp only [hw, ht]) (congrArg bI (hC1.lft hok (by omega) (by omega))), fun _ => ⟨rfl, hC1⟩⟩) (fun _ h => h))
set_option maxHeartbeats 4000000 in
/-- the only one left -/
theorem ctX1_only {xa ca cb ra ta : Nat → Nat} {T : Talk} {bL : Bool} {tk : Option Nat} {many : Nat} {xs ys heaps : Nat → Nat} {slips : Nat → Nat → Nat} {rows : Nat → Nat → Int64} {taped fk : Nat} {fa : Int32} {an nx : Nat} {images : Nat → Option Nat} {tape : Nat → Int32} {W : va_W}  (hT : TalkL Y T ta W) (hok : TOK T) (hL : bL = true → tk = some (ta 0) ∧ LdC T many xs ys slips rows) : CT l D clX (tyX Y) yX1_only cX1_only 1 (some .int) ({ frames := 1816, cells := 0, slots := 0, locals := 54543 } : Room) [.ref (xa 0)] (HW D clX A (CoL Y ca ra 0 tk many 0 (-1) xs ys heaps slips rows (XoL Y xa ca cb ra (ta 0) bL taped fk fa an nx images tape W))) (Qi (fun (v : Int32) (u : Nat × (Nat → Nat) × (Nat → Nat) × (Nat → Nat) × (Nat → Nat → Nat) × (Nat → Nat → Int64)) => isOnly T v ∧ LdC T u.1 u.2.1 u.2.2.1 u.2.2.2.2.1 u.2.2.2.2.2) (fun (u : Nat × (Nat → Nat) × (Nat → Nat) × (Nat → Nat) × (Nat → Nat → Nat) × (Nat → Nat → Int64)) => HW D clX A (CoL Y ca ra 0 (some (ta 0)) u.1 0 (-1) u.2.1 u.2.2.1 u.2.2.2.1 u.2.2.2.2.1 u.2.2.2.2.2 (XoL Y xa ca cb ra (ta 0) true taped fk fa an nx images tape W))) A) A := by
  refine CT.of (L := [(0, .ref (xa 0))]) rfl (by decide +kernel) rfl (Nat.le_of_ble_eq_true rfl) ?_
  refine g_aload_n 0 dX1_only_0 rfl rfl ?_
  refine h_cVo (ctX1_laid hT hok hL) (lw_V q510 q512 qs1 q106 q513) ⟨rfl, hy_X1_laid⟩ rfl ⟨Nat.le_of_ble_eq_true rfl, Nat.le_of_ble_eq_true rfl⟩ ⟨Nat.le_of_ble_eq_true rfl, Nat.le_of_ble_eq_true rfl⟩ rfl (Nat.le_of_ble_eq_true rfl) dX1_only_1 x_rec (fun u9 hC1 => ?_)
  obtain ⟨many1, xs1, ys1, heaps1, slips1, rows1⟩ := u9
  have hC1 : LdC T many1 xs1 ys1 slips1 rows1 := hC1
  have hP1 := hC1.mny
  have hP2 := tP_le hok
  refine h_cVi (ctX3_only (xo_up hT) (by decide) hok.2.2.2.2.2.2.1 (by omega)) (lw_V q689 q690 q691 q111 q692) ⟨rfl, hy_X3_only⟩ rfl ⟨Nat.le_of_ble_eq_true rfl, Nat.le_of_ble_eq_true rfl⟩ ⟨Nat.le_of_ble_eq_true rfl, Nat.le_of_ble_eq_true rfl⟩ rfl (Nat.le_of_ble_eq_true rfl) dX1_only_4 co_rec (fun r u hp => ?_)
  exact g_iret (many1, xs1, ys1, heaps1, slips1, rows1) dX1_only_7 (Nat.le_refl _) (Nat.le_refl _) (⟨by unfold isOnly; rw [hC1.num hok (Nat.le_refl _)] at hp; by_cases c : leftN T (tNT T) = 1; (· rw [if_pos c] at hp ⊢; rw [hP1] at hp; exact isFst_congr (fun w hw => hC1.lft hok (Nat.le_refl _) (by omega)) (isFst_0 (by omega) hp)); (· rw [if_neg c] at hp ⊢; exact hp), hC1⟩) (fun _ h => h)
set_option maxHeartbeats 4000000 in
theorem ctX1_so {xa ca cb ra ta : Nat → Nat} {T : Talk} {bL : Bool} {tk : Option Nat} {many : Nat} {xs ys heaps : Nat → Nat} {slips : Nat → Nat → Nat} {rows : Nat → Nat → Int64} {taped fk : Nat} {fa : Int32} {an nx : Nat} {images : Nat → Option Nat} {tape : Nat → Int32} {W : va_W} (t0 w0 : Int32) (hl9 : l.stackTraces = false) (hT : TalkL Y T ta W) (hok : TOK T) (hL : bL = true → tk = some (ta 0) ∧ LdC T many xs ys slips rows) : CTB l D clX (tyX Y) yX1_so cX1_so 5 (some .boolean) ({ frames := 1820, cells := 2, slots := 12, locals := 54700 } : Room) [.ref (xa 0), .int t0, .int w0] (HW D clX A (CoL Y ca ra 0 tk many 0 (-1) xs ys heaps slips rows (XoL Y xa ca cb ra (ta 0) bL taped fk fa an nx images tape W))) (Qi (fun (v : Int32) (u : XS) => ans (aSo T t0 w0) 0 v ∧ LdX T (ta 0) u) (fun (u : XS) => HW D clX A (CoL Y ca ra 0 u.2.1 u.2.2.1 0 (-1) u.2.2.2.1 u.2.2.2.2.1 u.2.2.2.2.2.1 u.2.2.2.2.2.2.1 u.2.2.2.2.2.2.2 (XoL Y xa ca cb ra (ta 0) u.1 taped fk fa an nx images tape W))) A) (fun (u : Nat × XS) => (∃ v9, ans (aSo T t0 w0) u.1 v9) ∧ 0 < u.1 ∧ LdX T (ta 0) u.2) (fun u => exL ["java/util/NoSuchElementException"] u.1) (fun (u : Nat × XS) (_ : Nat) => HW D clX A (CoL Y ca ra 0 u.2.2.1 u.2.2.2.1 0 (-1) u.2.2.2.2.1 u.2.2.2.2.2.1 u.2.2.2.2.2.2.1 u.2.2.2.2.2.2.2.1 u.2.2.2.2.2.2.2.2 (XoL Y xa ca cb ra (ta 0) u.2.1 taped fk fa an nx images tape W))) A := by
  refine CTB.of (L := [(0, .ref (xa 0)), (1, .int t0), (2, .int w0)]) rfl (by decide +kernel) rfl (Nat.le_of_ble_eq_true rfl) ?_
  refine g_aload_n 0 dX1_so_0 rfl rfl ?_
  refine g_iload_n 1 dX1_so_1 rfl rfl ?_
  refine x_cVo (ctX1_turnOf _ hl9 hT hok) (lw_V q1424 q1426 qs36 q106 q1427) ⟨rfl, hy_X1_turnOf⟩ rfl ⟨Nat.le_of_ble_eq_true rfl, Nat.le_of_ble_eq_true rfl⟩ ⟨Nat.le_of_ble_eq_true rfl, Nat.le_of_ble_eq_true rfl⟩ rfl (Nat.le_of_ble_eq_true rfl) dX1_so_2 (fun _ _ _ h => h.1) x_rec (fun u9 q9 hx9 => xg_out (1, (bL, tk, many, xs, ys, heaps, slips, rows)) (Nat.le_of_ble_eq_true rfl) (Nat.le_of_ble_eq_true rfl) (⟨ansE (by unfold aSo; simp only [hx9]), Nat.le_of_ble_eq_true rfl, hL⟩) rfl (fun _ h => h)) (fun t ht => ?_)
  obtain ⟨htL, rfl⟩ := iR_some ht
  have hn20 := hok.2.2.2.2.2.2.1
  refine g_astore_n (L' := [(0, _), (1, _), (2, _), (3, _)]) 3 dX1_so_5 rfl (by decide) rfl rfl ?_
  refine g_aload_n 0 dX1_so_6 rfl rfl ?_
  refine g_iload_n 2 dX1_so_7 rfl rfl ?_
  refine x_cVv (ctX1_mustWorld _ hl9 hT hok hL) (lw_V q1370 q1372 qs33 q106 q1373) ⟨rfl, hy_X1_mustWorld⟩ rfl ⟨Nat.le_of_ble_eq_true rfl, Nat.le_of_ble_eq_true rfl⟩ ⟨Nat.le_of_ble_eq_true rfl, Nat.le_of_ble_eq_true rfl⟩ rfl (Nat.le_of_ble_eq_true rfl) dX1_so_8 (fun _ _ _ h => h.1) x_rec (fun u9 q9 hx9 => xg_out (1, (true, some (ta 0), u9.1, u9.2.1, u9.2.2.1, u9.2.2.2.1, u9.2.2.2.2.1, u9.2.2.2.2.2)) (Nat.le_of_ble_eq_true rfl) (Nat.le_of_ble_eq_true rfl) (⟨ansE (by unfold aSo; simp only [ht, hx9.1]), Nat.le_of_ble_eq_true rfl, fun _ => ⟨rfl, hx9.2⟩⟩) rfl (fun _ h => h)) (fun u9 hy9 => ?_)
  obtain ⟨many1, xs1, ys1, heaps1, slips1, rows1⟩ := u9
  obtain ⟨hs9, hC1⟩ := hy9
  have hC1 : LdC T many1 xs1 ys1 slips1 rows1 := hC1
  have hP1 := hC1.mny
  have hP2 := tP_le hok
  obtain ⟨w, hw⟩ := Option.isSome_iff_exists.mp hs9
  obtain ⟨hwL, rfl⟩ := iR_some hw
  refine g_aload_n 0 dX1_so_11 rfl rfl ?_
  refine x_get_course q445 dX1_so_12 ?_
  refine h_cVo (ctX3_taken (by decide)) (lw_V q1462 q591 q592 q111 q593) ⟨rfl, hy_X3_taken⟩ rfl ⟨Nat.le_of_ble_eq_true rfl, Nat.le_of_ble_eq_true rfl⟩ ⟨Nat.le_of_ble_eq_true rfl, Nat.le_of_ble_eq_true rfl⟩ rfl (Nat.le_of_ble_eq_true rfl) dX1_so_15 co_rec (fun u9 hp9 => ?_)
  refine g_astore (L' := [(0, _), (1, _), (2, _), (3, _), (4, _)]) dX1_so_18 (by decide) rfl rfl ?_
  refine g_aload_n 3 dX1_so_20 rfl rfl ?_
  refine g_getfN (C := RX22) (T := TX22) (N := 2) 1 in_X22 rfl (by decide) q1350 rfl dX1_so_21 (co_has _ (xo_tl (hT.2.2.2.2 t htL).1)) rfl ?_
  refine g_aload_n 0 dX1_so_24 rfl rfl ?_
  refine x_get_course q445 dX1_so_25 ?_
  refine g_iload_n 1 dX1_so_28 rfl rfl ?_
  refine g_aload dX1_so_29 rfl ?_
  refine g_fill (j := 0) q1463 (@fill_all l D Y A 900) (xo_up hT) ((hC1.env hok (t := t) (by omega)).rst (Nat.le_refl _)) hC1.1.2.2.2.1 (by decide) (by decide) (by decide) (xo_say (hT.2.2.2.2 t htL).2) ⟨Nat.le_of_ble_eq_true rfl, Nat.le_of_ble_eq_true rfl⟩ ⟨Nat.le_of_ble_eq_true rfl, Nat.le_of_ble_eq_true rfl⟩ (Nat.le_of_ble_eq_true rfl) dX1_so_31 (fun u3 hu3 => ?_)
  obtain ⟨heaps2, rows2⟩ := u3
  have hC2 : LdC T many1 xs1 ys1 slips1 rows2 := hu3.ldc hC1 hok
  refine g_aload_n 0 dX1_so_34 rfl rfl ?_
  refine x_get_course q445 dX1_so_35 ?_
  refine h_cVv (ctX3_given (by decide)) (lw_V q1464 q667 q668 q111 q669) ⟨rfl, hy_X3_given⟩ rfl ⟨Nat.le_of_ble_eq_true rfl, Nat.le_of_ble_eq_true rfl⟩ ⟨Nat.le_of_ble_eq_true rfl, Nat.le_of_ble_eq_true rfl⟩ rfl (Nat.le_of_ble_eq_true rfl) dX1_so_38 co_rec (fun u9 hp9 => ?_)
  refine g_aload dX1_so_41 rfl ?_
  refine g_iload_n 2 dX1_so_43 rfl rfl ?_
  refine h_cSi (ctX1_has w (f := rows2 (0 + 21 + 0)) (hw_ix (CoL_row (r := 0 + 21 + 0) (by omega))) (by omega)) (lw_S q709 q647 q106 q648) hy_X1_has rfl ⟨Nat.le_of_ble_eq_true rfl, Nat.le_of_ble_eq_true rfl⟩ ⟨Nat.le_of_ble_eq_true rfl, Nat.le_of_ble_eq_true rfl⟩ rfl (Nat.le_of_ble_eq_true rfl) dX1_so_44 (fun r u hp => ?_)
  obtain rfl := hp
  exact GG.ret (g_zret (true, some (ta 0), many1, xs1, ys1, heaps2, slips1, rows2) dX1_so_47 (Nat.le_of_ble_eq_true rfl) (Nat.le_of_ble_eq_true rfl) (⟨ansT (x := bI (tSem T t (rstE (tE T (leftT T)) t) t w)) (by unfold aSo; simp only [ht, hw]) (congrArg bI (hu3.bit (show w < many1 by omega) (show many1 ≤ 1856 by omega))), fun _ => ⟨rfl, hC2⟩⟩) (fun _ h => h))
set_option maxHeartbeats 4000000 in
theorem ctX1_may {xa ca cb ra ta : Nat → Nat} {T : Talk} {bL : Bool} {tk : Option Nat} {many : Nat} {xs ys heaps : Nat → Nat} {slips : Nat → Nat → Nat} {rows : Nat → Nat → Int64} {taped fk : Nat} {fa : Int32} {an nx : Nat} {images : Nat → Option Nat} {tape : Nat → Int32} {W : va_W} (t0 w0 : Int32) (hl9 : l.stackTraces = false) (hT : TalkL Y T ta W) (hok : TOK T) (hL : bL = true → tk = some (ta 0) ∧ LdC T many xs ys slips rows) : CTB l D clX (tyX Y) yX1_may cX1_may 5 (some .boolean) ({ frames := 1820, cells := 2, slots := 12, locals := 54700 } : Room) [.ref (xa 0), .int t0, .int w0] (HW D clX A (CoL Y ca ra 0 tk many 0 (-1) xs ys heaps slips rows (XoL Y xa ca cb ra (ta 0) bL taped fk fa an nx images tape W))) (Qi (fun (v : Int32) (u : XS) => ans (aMay T t0 w0) 0 v ∧ LdX T (ta 0) u) (fun (u : XS) => HW D clX A (CoL Y ca ra 0 u.2.1 u.2.2.1 0 (-1) u.2.2.2.1 u.2.2.2.2.1 u.2.2.2.2.2.1 u.2.2.2.2.2.2.1 u.2.2.2.2.2.2.2 (XoL Y xa ca cb ra (ta 0) u.1 taped fk fa an nx images tape W))) A) (fun (u : Nat × XS) => (∃ v9, ans (aMay T t0 w0) u.1 v9) ∧ 0 < u.1 ∧ LdX T (ta 0) u.2) (fun u => exL ["java/util/NoSuchElementException"] u.1) (fun (u : Nat × XS) (_ : Nat) => HW D clX A (CoL Y ca ra 0 u.2.2.1 u.2.2.2.1 0 (-1) u.2.2.2.2.1 u.2.2.2.2.2.1 u.2.2.2.2.2.2.1 u.2.2.2.2.2.2.2.1 u.2.2.2.2.2.2.2.2 (XoL Y xa ca cb ra (ta 0) u.2.1 taped fk fa an nx images tape W))) A := by
  refine CTB.of (L := [(0, .ref (xa 0)), (1, .int t0), (2, .int w0)]) rfl (by decide +kernel) rfl (Nat.le_of_ble_eq_true rfl) ?_
  refine g_aload_n 0 dX1_may_0 rfl rfl ?_
  refine g_iload_n 1 dX1_may_1 rfl rfl ?_
  refine x_cVo (ctX1_turnOf _ hl9 hT hok) (lw_V q1424 q1426 qs36 q106 q1427) ⟨rfl, hy_X1_turnOf⟩ rfl ⟨Nat.le_of_ble_eq_true rfl, Nat.le_of_ble_eq_true rfl⟩ ⟨Nat.le_of_ble_eq_true rfl, Nat.le_of_ble_eq_true rfl⟩ rfl (Nat.le_of_ble_eq_true rfl) dX1_may_2 (fun _ _ _ h => h.1) x_rec (fun u9 q9 hx9 => xg_out (1, (bL, tk, many, xs, ys, heaps, slips, rows)) (Nat.le_of_ble_eq_true rfl) (Nat.le_of_ble_eq_true rfl) (⟨ansE (by unfold aMay; simp only [hx9]), Nat.le_of_ble_eq_true rfl, hL⟩) rfl (fun _ h => h)) (fun t ht => ?_)
  obtain ⟨htL, rfl⟩ := iR_some ht
  have hn20 := hok.2.2.2.2.2.2.1
  refine g_astore_n (L' := [(0, _), (1, _), (2, _), (3, _)]) 3 dX1_may_5 rfl (by decide) rfl rfl ?_
  refine g_aload_n 0 dX1_may_6 rfl rfl ?_
  refine g_iload_n 2 dX1_may_7 rfl rfl ?_
  refine x_cVv (ctX1_mustWorld _ hl9 hT hok hL) (lw_V q1370 q1372 qs33 q106 q1373) ⟨rfl, hy_X1_mustWorld⟩ rfl ⟨Nat.le_of_ble_eq_true rfl, Nat.le_of_ble_eq_true rfl⟩ ⟨Nat.le_of_ble_eq_true rfl, Nat.le_of_ble_eq_true rfl⟩ rfl (Nat.le_of_ble_eq_true rfl) dX1_may_8 (fun _ _ _ h => h.1) x_rec (fun u9 q9 hx9 => xg_out (1, (true, some (ta 0), u9.1, u9.2.1, u9.2.2.1, u9.2.2.2.1, u9.2.2.2.2.1, u9.2.2.2.2.2)) (Nat.le_of_ble_eq_true rfl) (Nat.le_of_ble_eq_true rfl) (⟨ansE (by unfold aMay; simp only [ht, hx9.1]), Nat.le_of_ble_eq_true rfl, fun _ => ⟨rfl, hx9.2⟩⟩) rfl (fun _ h => h)) (fun u9 hy9 => ?_)
  obtain ⟨many1, xs1, ys1, heaps1, slips1, rows1⟩ := u9
  obtain ⟨hs9, hC1⟩ := hy9
  have hC1 : LdC T many1 xs1 ys1 slips1 rows1 := hC1
  have hP1 := hC1.mny
  have hP2 := tP_le hok
  obtain ⟨w, hw⟩ := Option.isSome_iff_exists.mp hs9
  obtain ⟨hwL, rfl⟩ := iR_some hw
  refine g_aload_n 0 dX1_may_11 rfl rfl ?_
  refine x_get_course q445 dX1_may_12 ?_
  refine h_cVo (ctX3_taken (by decide)) (lw_V q1462 q591 q592 q111 q593) ⟨rfl, hy_X3_taken⟩ rfl ⟨Nat.le_of_ble_eq_true rfl, Nat.le_of_ble_eq_true rfl⟩ ⟨Nat.le_of_ble_eq_true rfl, Nat.le_of_ble_eq_true rfl⟩ rfl (Nat.le_of_ble_eq_true rfl) dX1_may_15 co_rec (fun u9 hp9 => ?_)
  refine g_astore (L' := [(0, _), (1, _), (2, _), (3, _), (4, _)]) dX1_may_18 (by decide) rfl rfl ?_
  refine g_aload_n 0 dX1_may_20 rfl rfl ?_
  refine x_get_course q445 dX1_may_21 ?_
  refine g_aload_n 3 dX1_may_24 rfl rfl ?_
  refine g_getfN (C := RX22) (T := TX22) (N := 2) 0 in_X22 rfl (by decide) q1346 rfl dX1_may_25 (co_has _ (xo_tl (hT.2.2.2.2 t htL).1)) rfl ?_
  refine g_aload_n 3 dX1_may_28 rfl rfl ?_
  refine g_getfN (C := RX22) (T := TX22) (N := 2) 1 in_X22 rfl (by decide) q1350 rfl dX1_may_29 (co_has _ (xo_tl (hT.2.2.2.2 t htL).1)) rfl ?_
  refine g_iload_n 1 dX1_may_32 rfl rfl ?_
  refine g_aload dX1_may_33 rfl ?_
  refine h_cVv (ctX3_may (j := 0) (tWho T t) (tSem T t) (@fill_all l D Y A 900) (xo_up hT) (hC1.env hok (t := t) (by omega)) hC1.1.2.2.2.1 (by decide) (by decide) (by decide) (hok.2.2.2.2.2.2.2.2.1 t htL) (xo_say (hT.2.2.2.2 t htL).2) (Or.inl rfl)) (lw_V q1472 q595 q596 q111 q597) ⟨rfl, hy_X3_may⟩ rfl ⟨Nat.le_of_ble_eq_true rfl, Nat.le_of_ble_eq_true rfl⟩ ⟨Nat.le_of_ble_eq_true rfl, Nat.le_of_ble_eq_true rfl⟩ rfl (Nat.le_of_ble_eq_true rfl) dX1_may_35 co_rec (fun u3 hu3 => ?_)
  obtain ⟨heaps2, rows2⟩ := u3
  have hC2 : LdC T many1 xs1 ys1 slips1 rows2 := hu3.ldc hC1 hok
  refine g_aload_n 0 dX1_may_38 rfl rfl ?_
  refine x_get_course q445 dX1_may_39 ?_
  refine h_cVv (ctX3_given (by decide)) (lw_V q1464 q667 q668 q111 q669) ⟨rfl, hy_X3_given⟩ rfl ⟨Nat.le_of_ble_eq_true rfl, Nat.le_of_ble_eq_true rfl⟩ ⟨Nat.le_of_ble_eq_true rfl, Nat.le_of_ble_eq_true rfl⟩ rfl (Nat.le_of_ble_eq_true rfl) dX1_may_42 co_rec (fun u9 hp9 => ?_)
  refine g_aload dX1_may_45 rfl ?_
  refine g_iload_n 2 dX1_may_47 rfl rfl ?_
  refine h_cSi (ctX1_has w (f := rows2 (0 + 21 + 0)) (hw_ix (CoL_row (r := 0 + 21 + 0) (by omega))) (by omega)) (lw_S q709 q647 q106 q648) hy_X1_has rfl ⟨Nat.le_of_ble_eq_true rfl, Nat.le_of_ble_eq_true rfl⟩ ⟨Nat.le_of_ble_eq_true rfl, Nat.le_of_ble_eq_true rfl⟩ rfl (Nat.le_of_ble_eq_true rfl) dX1_may_48 (fun r u hp => ?_)
  obtain rfl := hp
  exact GG.ret (g_zret (true, some (ta 0), many1, xs1, ys1, heaps2, slips1, rows2) dX1_may_51 (Nat.le_of_ble_eq_true rfl) (Nat.le_of_ble_eq_true rfl) (⟨ansT (x := bI (mayL T t w)) (by unfold aMay; simp only [ht, hw]) (congrArg bI ((hu3.bit (show w < many1 by omega) (show many1 ≤ 1856 by omega)).trans mayG_L)), fun _ => ⟨rfl, hC2⟩⟩) (fun _ h => h))
set_option maxHeartbeats 4000000 in
theorem ctX1_judge {xa ca cb ra ta : Nat → Nat} {T : Talk} {bL : Bool} {tk : Option Nat} {many : Nat} {xs ys heaps : Nat → Nat} {slips : Nat → Nat → Nat} {rows : Nat → Nat → Int64} {taped fk : Nat} {fa : Int32} {an nx : Nat} {images : Nat → Option Nat} {tape : Nat → Int32} {W : va_W} (w0 : Int32) (hl9 : l.stackTraces = false) (hT : TalkL Y T ta W) (hok : TOK T) (hL : bL = true → tk = some (ta 0) ∧ LdC T many xs ys slips rows) : CTB l D clX (tyX Y) yX1_judge cX1_judge 3 (some .int) ({ frames := 1817, cells := 1, slots := 6, locals := 54564 } : Room) [.ref (xa 0), .int w0] (HW D clX A (CoL Y ca ra 0 tk many 0 (-1) xs ys heaps slips rows (XoL Y xa ca cb ra (ta 0) bL taped fk fa an nx images tape W))) (Qi (fun (v : Int32) (u : XS) => isJudge T w0 0 v ∧ LdX T (ta 0) u) (fun (u : XS) => HW D clX A (CoL Y ca ra 0 u.2.1 u.2.2.1 0 (-1) u.2.2.2.1 u.2.2.2.2.1 u.2.2.2.2.2.1 u.2.2.2.2.2.2.1 u.2.2.2.2.2.2.2 (XoL Y xa ca cb ra (ta 0) u.1 taped fk fa an nx images tape W))) A) (fun (u : Nat × XS) => (∃ v9, isJudge T w0 u.1 v9) ∧ 0 < u.1 ∧ LdX T (ta 0) u.2) (fun u => exL ["java/util/NoSuchElementException"] u.1) (fun (u : Nat × XS) (_ : Nat) => HW D clX A (CoL Y ca ra 0 u.2.2.1 u.2.2.2.1 0 (-1) u.2.2.2.2.1 u.2.2.2.2.2.1 u.2.2.2.2.2.2.1 u.2.2.2.2.2.2.2.1 u.2.2.2.2.2.2.2.2 (XoL Y xa ca cb ra (ta 0) u.2.1 taped fk fa an nx images tape W))) A := by
  obtain ⟨ea2, na2, mc2, hL2⟩ := hT.2.2.1
  have hn20 := hok.2.2.2.2.2.2.1
  refine CTB.of (L := [(0, .ref (xa 0)), (1, .int w0)]) rfl (by decide +kernel) rfl (Nat.le_of_ble_eq_true rfl) ?_
  refine g_aload_n 0 dX1_judge_0 rfl rfl ?_
  refine g_iload_n 1 dX1_judge_1 rfl rfl ?_
  refine x_cVv (ctX1_mustWorld _ hl9 hT hok hL) (lw_V q1370 q1372 qs33 q106 q1373) ⟨rfl, hy_X1_mustWorld⟩ rfl ⟨Nat.le_of_ble_eq_true rfl, Nat.le_of_ble_eq_true rfl⟩ ⟨Nat.le_of_ble_eq_true rfl, Nat.le_of_ble_eq_true rfl⟩ rfl (Nat.le_of_ble_eq_true rfl) dX1_judge_2 (fun _ _ _ h => h.1) x_rec (fun u9 q9 hx9 => xg_out (1, (true, some (ta 0), u9.1, u9.2.1, u9.2.2.1, u9.2.2.2.1, u9.2.2.2.2.1, u9.2.2.2.2.2)) (Nat.le_of_ble_eq_true rfl) (Nat.le_of_ble_eq_true rfl) (⟨⟨0, by unfold isJudge; simp only [hx9.1]⟩, Nat.le_of_ble_eq_true rfl, fun _ => ⟨rfl, hx9.2⟩⟩) rfl (fun _ h => h)) (fun u9 hy9 => ?_)
  obtain ⟨many1, xs1, ys1, heaps1, slips1, rows1⟩ := u9
  obtain ⟨hs9, hC1⟩ := hy9
  have hC1 : LdC T many1 xs1 ys1 slips1 rows1 := hC1
  have hP1 := hC1.mny
  have hP2 := tP_le hok
  obtain ⟨w, hw⟩ := Option.isSome_iff_exists.mp hs9
  obtain ⟨hwL, rfl⟩ := iR_some hw
  refine g_iconst (v := nI 0) dX1_judge_5 (by decide +kernel) ?_
  refine g_istore_n (L' := [(0, _), (1, _), (2, _)]) 2 dX1_judge_6 rfl (by decide) rfl rfl ?_
  have loop7 : ∀ (q7 : Nat) (t : Nat), tNT T - t < q7 → (t ≤ tNT T) → (∀ v, v < t → (fun t => !leftT T (t + 1) w) v = false) → GG l D clX (tyX Y) cX1_judge 3 (some .int) RX1 ({ frames := 1817, cells := 1, slots := 6, locals := 54564 } : Room) A (MXN A) (QB (Qi (fun (v : Int32) (u : XS) => isJudge T (nI w) 0 v ∧ LdX T (ta 0) u) (fun (u : XS) => HW D clX A (CoL Y ca ra 0 u.2.1 u.2.2.1 0 (-1) u.2.2.2.1 u.2.2.2.2.1 u.2.2.2.2.2.1 u.2.2.2.2.2.2.1 u.2.2.2.2.2.2.2 (XoL Y xa ca cb ra (ta 0) u.1 taped fk fa an nx images tape W))) A) (fun (u : Nat × XS) => (∃ v9, isJudge T (nI w) u.1 v9) ∧ 0 < u.1 ∧ LdX T (ta 0) u.2) (fun u => exL ["java/util/NoSuchElementException"] u.1) (fun (u : Nat × XS) (_ : Nat) => HW D clX A (CoL Y ca ra 0 u.2.2.1 u.2.2.2.1 0 (-1) u.2.2.2.2.1 u.2.2.2.2.2.1 u.2.2.2.2.2.2.1 u.2.2.2.2.2.2.2.1 u.2.2.2.2.2.2.2.2 (XoL Y xa ca cb ra (ta 0) u.2.1 taped fk fa an nx images tape W))) 1 6 A) (HW D clX A (CoL Y ca ra 0 (some (ta 0)) many1 0 (-1) xs1 ys1 heaps1 slips1 rows1 (XoL Y xa ca cb ra (ta 0) true taped fk fa an nx images tape W))) (0 + 1) (0 + 6) 7 [(0, .ref (xa 0)), (1, .int (nI w)), (2, .int (nI t))] [] := by
    intro q7
    induction q7 with
    | zero => intro t hq7; exact absurd hq7 (Nat.not_lt_zero _)
    | succ q7 ih7 =>
      intro t hq7 ht hno
      refine g_iload_n 2 dX1_judge_7 rfl rfl ?_
      refine g_aload_n 0 dX1_judge_8 rfl rfl ?_
      refine x_get_talk q444 dX1_judge_9 ?_
      refine g_getfN (C := RX2) (T := TX2) (N := 7) 1 in_X2 rfl (by decide) q212 rfl dX1_judge_12 (co_has _ (xo_tl hT.1)) rfl ?_
      refine h_cVi (ctJ2_size (co_has _ (xo_tl hL2.1))) (lw_V q714 q522 q523 q110 q524) ⟨rfl, hy_J2_size⟩ rfl ⟨Nat.le_of_ble_eq_true rfl, Nat.le_of_ble_eq_true rfl⟩ ⟨Nat.le_of_ble_eq_true rfl, Nat.le_of_ble_eq_true rfl⟩ rfl (Nat.le_of_ble_eq_true rfl) dX1_judge_15 (fun s H hK hP => va_recv hK (co_has _ (xo_tl hL2.1) H hP) (ci := 33) rfl (q0 := 0) rfl) (fun r u hp => ?_)
      obtain rfl := hp
      refine g_icmp_ge_n (tgt := 47) dX1_judge_18 (by decide) (by omega) (by omega) (fun c18 => ?_) (fun c18 => ?_)
      · skip
        refine g_iconst (v := -1) dX1_judge_47 (by decide +kernel) ?_
        exact GG.ret (g_iret (true, some (ta 0), many1, xs1, ys1, heaps1, slips1, rows1) dX1_judge_48 (Nat.le_of_ble_eq_true rfl) (Nat.le_of_ble_eq_true rfl) (⟨by unfold isJudge; simp only [hw]; exact ⟨trivial, Or.inr ⟨fun v hv => hno v (by omega), rfl⟩⟩, fun _ => ⟨rfl, hC1⟩⟩) (fun _ h => h))
      · skip
        refine g_aload_n 0 dX1_judge_21 rfl rfl ?_
        refine x_get_course q445 dX1_judge_22 ?_
        refine co_get_leftN q270 dX1_judge_25 ?_
        refine g_iload_n 2 dX1_judge_28 rfl rfl ?_
        refine g_iconst (v := nI 1) dX1_judge_29 (by decide +kernel) ?_
        refine g_iadd_n dX1_judge_30 ?_
        refine co_ld_left (by omega) dX1_judge_31 ?_
        refine g_iload_n 1 dX1_judge_32 rfl rfl ?_
        refine h_cSi (ctX1_has w (f := rows1 (0 + (t + 1))) (hw_ix (CoL_row (r := 0 + (t + 1)) (by omega))) (by omega)) (lw_S q709 q647 q106 q648) hy_X1_has rfl ⟨Nat.le_of_ble_eq_true rfl, Nat.le_of_ble_eq_true rfl⟩ ⟨Nat.le_of_ble_eq_true rfl, Nat.le_of_ble_eq_true rfl⟩ rfl (Nat.le_of_ble_eq_true rfl) dX1_judge_33 (fun r u hp => ?_)
        obtain rfl := hp
        refine g_if_ne_b (tgt := 41) dX1_judge_36 (by decide) (fun c36 => ?_) (fun c36 => ?_)
        · skip
          refine g_iinc_n (b := 1) (L' := [(0, _), (1, _), (2, _)]) dX1_judge_41 rfl rfl (by decide) rfl rfl ?_
          refine g_goto (tgt := 7) dX1_judge_44 (by decide) ?_
          exact ih7 (t + 1) (by omega) (by omega) (fun v hv => by
            rcases Nat.lt_or_ge v t with q | q
            · exact hno v q
            · rw [show v = t by omega]; show (!leftT T (t + 1) w) = false; rw [← hC1.lft hok (t := t + 1) (w := w) (by omega) (by omega), c36]; rfl)
        · skip
          refine g_iload_n 2 dX1_judge_39 rfl rfl ?_
          exact GG.ret (g_iret (true, some (ta 0), many1, xs1, ys1, heaps1, slips1, rows1) dX1_judge_40 (Nat.le_of_ble_eq_true rfl) (Nat.le_of_ble_eq_true rfl) (⟨by unfold isJudge; simp only [hw]; exact ⟨trivial, Or.inl ⟨t, by omega, by show (!leftT T (t + 1) w) = true; rw [← hC1.lft hok (t := t + 1) (w := w) (by omega) (by omega), c36]; rfl, hno, rfl⟩⟩, fun _ => ⟨rfl, hC1⟩⟩) (fun _ h => h))
  have hn20 := hok.2.2.2.2.2.2.1
  obtain ⟨ea2, na2, mc2, hL2⟩ := hT.2.2.1
  exact loop7 (tNT T + 1) 0 (by omega) (by omega) (fun v hv => absurd hv (Nat.not_lt_zero _))
set_option maxHeartbeats 4000000 in
theorem ctX1_knows {xa ca cb ra ta : Nat → Nat} {T : Talk} {bL : Bool} {tk : Option Nat} {many : Nat} {xs ys heaps : Nat → Nat} {slips : Nat → Nat → Nat} {rows : Nat → Nat → Int64} {taped fk : Nat} {fa : Int32} {an nx : Nat} {images : Nat → Option Nat} {tape : Nat → Int32} {W : va_W} (s0 w0 t0 : Int32) (hl9 : l.stackTraces = false) (hT : TalkL Y T ta W) (hok : TOK T) (hL : bL = true → tk = some (ta 0) ∧ LdC T many xs ys slips rows) : CTB l D clX (tyX Y) yX1_knows cX1_knows 4 (some .boolean) ({ frames := 1817, cells := 3, slots := 18, locals := 54564 } : Room) [.ref (xa 0), .int s0, .int w0, .int t0] (HW D clX A (CoL Y ca ra 0 tk many 0 (-1) xs ys heaps slips rows (XoL Y xa ca cb ra (ta 0) bL taped fk fa an nx images tape W))) (Qi (fun (v : Int32) (u : XS) => ans (aKnows T s0 w0 t0) 0 v ∧ LdX T (ta 0) u) (fun (u : XS) => HW D clX A (CoL Y ca ra 0 u.2.1 u.2.2.1 0 (-1) u.2.2.2.1 u.2.2.2.2.1 u.2.2.2.2.2.1 u.2.2.2.2.2.2.1 u.2.2.2.2.2.2.2 (XoL Y xa ca cb ra (ta 0) u.1 taped fk fa an nx images tape W))) A) (fun (u : Nat × XS) => (∃ v9, ans (aKnows T s0 w0 t0) u.1 v9) ∧ 0 < u.1 ∧ LdX T (ta 0) u.2) (fun u => exL ["java/util/NoSuchElementException", "java/lang/IllegalArgumentException"] u.1) (fun (u : Nat × XS) (_ : Nat) => HW D clX A (CoL Y ca ra 0 u.2.2.1 u.2.2.2.1 0 (-1) u.2.2.2.2.1 u.2.2.2.2.2.1 u.2.2.2.2.2.2.1 u.2.2.2.2.2.2.2.1 u.2.2.2.2.2.2.2.2 (XoL Y xa ca cb ra (ta 0) u.2.1 taped fk fa an nx images tape W))) A := by
  refine CTB.of (L := [(0, .ref (xa 0)), (1, .int s0), (2, .int w0), (3, .int t0)]) rfl (by decide +kernel) rfl (Nat.le_of_ble_eq_true rfl) ?_
  refine g_aload_n 0 dX1_knows_0 rfl rfl ?_
  refine g_iload_n 1 dX1_knows_1 rfl rfl ?_
  refine x_cVv (ctX1_mustSpeaker _ hl9 hT hok) (lw_V q1399 q1401 qs34 q106 q1402) ⟨rfl, hy_X1_mustSpeaker⟩ rfl ⟨Nat.le_of_ble_eq_true rfl, Nat.le_of_ble_eq_true rfl⟩ ⟨Nat.le_of_ble_eq_true rfl, Nat.le_of_ble_eq_true rfl⟩ rfl (Nat.le_of_ble_eq_true rfl) dX1_knows_2 (fun _ _ _ h => h.1) x_rec (fun u9 q9 hx9 => xg_out (1, (bL, tk, many, xs, ys, heaps, slips, rows)) (Nat.le_of_ble_eq_true rfl) (Nat.le_of_ble_eq_true rfl) (⟨ansE (by unfold aKnows; simp only [hx9]), Nat.le_of_ble_eq_true rfl, hL⟩) rfl (fun _ h => h)) (fun u9 hy9 => ?_)
  obtain ⟨s, hs⟩ := Option.isSome_iff_exists.mp hy9
  obtain ⟨hsL, rfl⟩ := iR_some hs
  have sh := hsL
  refine g_aload_n 0 dX1_knows_5 rfl rfl ?_
  refine g_iload_n 2 dX1_knows_6 rfl rfl ?_
  refine x_cVv (ctX1_mustWorld _ hl9 hT hok hL) (lw_V q1370 q1372 qs33 q106 q1373) ⟨rfl, hy_X1_mustWorld⟩ rfl ⟨Nat.le_of_ble_eq_true rfl, Nat.le_of_ble_eq_true rfl⟩ ⟨Nat.le_of_ble_eq_true rfl, Nat.le_of_ble_eq_true rfl⟩ rfl (Nat.le_of_ble_eq_true rfl) dX1_knows_7 (fun _ _ _ h => h.1) x_rec (fun u9 q9 hx9 => xg_out (1, (true, some (ta 0), u9.1, u9.2.1, u9.2.2.1, u9.2.2.2.1, u9.2.2.2.2.1, u9.2.2.2.2.2)) (Nat.le_of_ble_eq_true rfl) (Nat.le_of_ble_eq_true rfl) (⟨ansE (by unfold aKnows; simp only [hs, hx9.1]), Nat.le_of_ble_eq_true rfl, fun _ => ⟨rfl, hx9.2⟩⟩) rfl (fun _ h => h)) (fun u9 hy9 => ?_)
  obtain ⟨many1, xs1, ys1, heaps1, slips1, rows1⟩ := u9
  obtain ⟨hs9, hC1⟩ := hy9
  have hC1 : LdC T many1 xs1 ys1 slips1 rows1 := hC1
  have hP1 := hC1.mny
  have hP2 := tP_le hok
  obtain ⟨w, hw⟩ := Option.isSome_iff_exists.mp hs9
  obtain ⟨hwL, rfl⟩ := iR_some hw
  refine g_aload_n 0 dX1_knows_10 rfl rfl ?_
  refine g_iload_n 3 dX1_knows_11 rfl rfl ?_
  refine x_cVv (ctX1_mustTurns _ hl9 hT hok) (lw_V q1435 q1437 qs37 q106 q1438) ⟨rfl, hy_X1_mustTurns⟩ rfl ⟨Nat.le_of_ble_eq_true rfl, Nat.le_of_ble_eq_true rfl⟩ ⟨Nat.le_of_ble_eq_true rfl, Nat.le_of_ble_eq_true rfl⟩ rfl (Nat.le_of_ble_eq_true rfl) dX1_knows_12 (fun _ _ _ h => h.1) x_rec (fun u9 q9 hx9 => xg_out (2, (true, some (ta 0), many1, xs1, ys1, heaps1, slips1, rows1)) (Nat.le_of_ble_eq_true rfl) (Nat.le_of_ble_eq_true rfl) (⟨ansE (by unfold aKnows; simp only [hs, hw, hx9]), Nat.le_of_ble_eq_true rfl, fun _ => ⟨rfl, hC1⟩⟩) rfl (fun _ h => h)) (fun u9 hy9 => ?_)
  obtain ⟨t, ht⟩ := Option.isSome_iff_exists.mp hy9
  obtain ⟨htL, rfl⟩ := iR_some ht
  have hn20 := hok.2.2.2.2.2.2.1
  refine g_aload_n 0 dX1_knows_15 rfl rfl ?_
  refine x_get_course q445 dX1_knows_16 ?_
  refine g_iload_n 1 dX1_knows_19 rfl rfl ?_
  refine g_iload_n 2 dX1_knows_20 rfl rfl ?_
  refine g_aload_n 0 dX1_knows_21 rfl rfl ?_
  refine x_get_course q445 dX1_knows_22 ?_
  refine co_get_leftN q270 dX1_knows_25 ?_
  refine g_aload_n 0 dX1_knows_28 rfl rfl ?_
  refine x_get_course q445 dX1_knows_29 ?_
  refine g_iload_n 1 dX1_knows_32 rfl rfl ?_
  refine g_iload_n 3 dX1_knows_33 rfl rfl ?_
  refine h_cVi (ctX3_heard s t (xo_up hT) sh) (lw_V q1487 q603 q604 q111 q605) ⟨rfl, hy_X3_heard⟩ rfl ⟨Nat.le_of_ble_eq_true rfl, Nat.le_of_ble_eq_true rfl⟩ ⟨Nat.le_of_ble_eq_true rfl, Nat.le_of_ble_eq_true rfl⟩ rfl (Nat.le_of_ble_eq_true rfl) dX1_knows_34 co_rec (fun r u hp => ?_)
  obtain rfl := hp
  have hh := tHear_le T s t
  refine co_ld_left (by omega) dX1_knows_37 ?_
  refine h_cVi (ctX3_knowsIn s w (0 + tHear T s t) (tNS T) (hC1.ok hok) sh hok.2.2.2.2.2.1 (by omega) (by omega)) (lw_V q1488 q1489 q1490 q111 q1491) ⟨rfl, hy_X3_knowsIn⟩ rfl ⟨Nat.le_of_ble_eq_true rfl, Nat.le_of_ble_eq_true rfl⟩ ⟨Nat.le_of_ble_eq_true rfl, Nat.le_of_ble_eq_true rfl⟩ rfl (Nat.le_of_ble_eq_true rfl) dX1_knows_38 co_rec (fun r u hp => ?_)
  obtain rfl := hp
  exact GG.ret (g_zret (true, some (ta 0), many1, xs1, ys1, heaps1, slips1, rows1) dX1_knows_41 (Nat.le_of_ble_eq_true rfl) (Nat.le_of_ble_eq_true rfl) (⟨ansT (x := bI (knowT T s t w)) (by unfold aKnows; simp only [hs, hw, ht]) (congrArg bI (hC1.kn hok sh (by omega) (show w < many1 by omega))), fun _ => ⟨rfl, hC1⟩⟩) (fun _ h => h))
set_option maxHeartbeats 4000000 in
theorem ctX1_heap {xa ca cb ra ta : Nat → Nat} {T : Talk} {bL : Bool} {tk : Option Nat} {many : Nat} {xs ys heaps : Nat → Nat} {slips : Nat → Nat → Nat} {rows : Nat → Nat → Int64} {taped fk : Nat} {fa : Int32} {an nx : Nat} {images : Nat → Option Nat} {tape : Nat → Int32} {W : va_W} (s0 w0 t0 : Int32) (hl9 : l.stackTraces = false) (hT : TalkL Y T ta W) (hok : TOK T) (hL : bL = true → tk = some (ta 0) ∧ LdC T many xs ys slips rows) : CTB l D clX (tyX Y) yX1_heap cX1_heap 4 (some .int) ({ frames := 1817, cells := 3, slots := 18, locals := 54564 } : Room) [.ref (xa 0), .int s0, .int w0, .int t0] (HW D clX A (CoL Y ca ra 0 tk many 0 (-1) xs ys heaps slips rows (XoL Y xa ca cb ra (ta 0) bL taped fk fa an nx images tape W))) (Qi (fun (v : Int32) (u : XS) => ans (aHeap T s0 w0 t0) 0 v ∧ LdX T (ta 0) u) (fun (u : XS) => HW D clX A (CoL Y ca ra 0 u.2.1 u.2.2.1 0 (-1) u.2.2.2.1 u.2.2.2.2.1 u.2.2.2.2.2.1 u.2.2.2.2.2.2.1 u.2.2.2.2.2.2.2 (XoL Y xa ca cb ra (ta 0) u.1 taped fk fa an nx images tape W))) A) (fun (u : Nat × XS) => (∃ v9, ans (aHeap T s0 w0 t0) u.1 v9) ∧ 0 < u.1 ∧ LdX T (ta 0) u.2) (fun u => exL ["java/util/NoSuchElementException", "java/lang/IllegalArgumentException"] u.1) (fun (u : Nat × XS) (_ : Nat) => HW D clX A (CoL Y ca ra 0 u.2.2.1 u.2.2.2.1 0 (-1) u.2.2.2.2.1 u.2.2.2.2.2.1 u.2.2.2.2.2.2.1 u.2.2.2.2.2.2.2.1 u.2.2.2.2.2.2.2.2 (XoL Y xa ca cb ra (ta 0) u.2.1 taped fk fa an nx images tape W))) A := by
  refine CTB.of (L := [(0, .ref (xa 0)), (1, .int s0), (2, .int w0), (3, .int t0)]) rfl (by decide +kernel) rfl (Nat.le_of_ble_eq_true rfl) ?_
  refine g_aload_n 0 dX1_heap_0 rfl rfl ?_
  refine g_iload_n 1 dX1_heap_1 rfl rfl ?_
  refine x_cVv (ctX1_mustSpeaker _ hl9 hT hok) (lw_V q1399 q1401 qs34 q106 q1402) ⟨rfl, hy_X1_mustSpeaker⟩ rfl ⟨Nat.le_of_ble_eq_true rfl, Nat.le_of_ble_eq_true rfl⟩ ⟨Nat.le_of_ble_eq_true rfl, Nat.le_of_ble_eq_true rfl⟩ rfl (Nat.le_of_ble_eq_true rfl) dX1_heap_2 (fun _ _ _ h => h.1) x_rec (fun u9 q9 hx9 => xg_out (1, (bL, tk, many, xs, ys, heaps, slips, rows)) (Nat.le_of_ble_eq_true rfl) (Nat.le_of_ble_eq_true rfl) (⟨ansE (by unfold aHeap; simp only [hx9]), Nat.le_of_ble_eq_true rfl, hL⟩) rfl (fun _ h => h)) (fun u9 hy9 => ?_)
  obtain ⟨s, hs⟩ := Option.isSome_iff_exists.mp hy9
  obtain ⟨hsL, rfl⟩ := iR_some hs
  have sh := hsL
  refine g_aload_n 0 dX1_heap_5 rfl rfl ?_
  refine g_iload_n 2 dX1_heap_6 rfl rfl ?_
  refine x_cVv (ctX1_mustWorld _ hl9 hT hok hL) (lw_V q1370 q1372 qs33 q106 q1373) ⟨rfl, hy_X1_mustWorld⟩ rfl ⟨Nat.le_of_ble_eq_true rfl, Nat.le_of_ble_eq_true rfl⟩ ⟨Nat.le_of_ble_eq_true rfl, Nat.le_of_ble_eq_true rfl⟩ rfl (Nat.le_of_ble_eq_true rfl) dX1_heap_7 (fun _ _ _ h => h.1) x_rec (fun u9 q9 hx9 => xg_out (1, (true, some (ta 0), u9.1, u9.2.1, u9.2.2.1, u9.2.2.2.1, u9.2.2.2.2.1, u9.2.2.2.2.2)) (Nat.le_of_ble_eq_true rfl) (Nat.le_of_ble_eq_true rfl) (⟨ansE (by unfold aHeap; simp only [hs, hx9.1]), Nat.le_of_ble_eq_true rfl, fun _ => ⟨rfl, hx9.2⟩⟩) rfl (fun _ h => h)) (fun u9 hy9 => ?_)
  obtain ⟨many1, xs1, ys1, heaps1, slips1, rows1⟩ := u9
  obtain ⟨hs9, hC1⟩ := hy9
  have hC1 : LdC T many1 xs1 ys1 slips1 rows1 := hC1
  have hP1 := hC1.mny
  have hP2 := tP_le hok
  obtain ⟨w, hw⟩ := Option.isSome_iff_exists.mp hs9
  obtain ⟨hwL, rfl⟩ := iR_some hw
  refine g_aload_n 0 dX1_heap_10 rfl rfl ?_
  refine g_iload_n 3 dX1_heap_11 rfl rfl ?_
  refine x_cVv (ctX1_mustTurns _ hl9 hT hok) (lw_V q1435 q1437 qs37 q106 q1438) ⟨rfl, hy_X1_mustTurns⟩ rfl ⟨Nat.le_of_ble_eq_true rfl, Nat.le_of_ble_eq_true rfl⟩ ⟨Nat.le_of_ble_eq_true rfl, Nat.le_of_ble_eq_true rfl⟩ rfl (Nat.le_of_ble_eq_true rfl) dX1_heap_12 (fun _ _ _ h => h.1) x_rec (fun u9 q9 hx9 => xg_out (2, (true, some (ta 0), many1, xs1, ys1, heaps1, slips1, rows1)) (Nat.le_of_ble_eq_true rfl) (Nat.le_of_ble_eq_true rfl) (⟨ansE (by unfold aHeap; simp only [hs, hw, hx9]), Nat.le_of_ble_eq_true rfl, fun _ => ⟨rfl, hC1⟩⟩) rfl (fun _ h => h)) (fun u9 hy9 => ?_)
  obtain ⟨t, ht⟩ := Option.isSome_iff_exists.mp hy9
  obtain ⟨htL, rfl⟩ := iR_some ht
  have hn20 := hok.2.2.2.2.2.2.1
  have hn6 := hok.2.2.2.2.2.1
  have hsl := (hC1.ok hok).2 s w sh (by omega)
  refine g_aload_n 0 dX1_heap_15 rfl rfl ?_
  refine x_get_course q445 dX1_heap_16 ?_
  refine g_iload_n 1 dX1_heap_19 rfl rfl ?_
  refine g_aload_n 0 dX1_heap_20 rfl rfl ?_
  refine x_get_course q445 dX1_heap_21 ?_
  refine co_get_leftN q270 dX1_heap_24 ?_
  refine g_aload_n 0 dX1_heap_27 rfl rfl ?_
  refine x_get_course q445 dX1_heap_28 ?_
  refine g_iload_n 1 dX1_heap_31 rfl rfl ?_
  refine g_iload_n 3 dX1_heap_32 rfl rfl ?_
  refine h_cVi (ctX3_heard s t (xo_up hT) sh) (lw_V q1487 q603 q604 q111 q605) ⟨rfl, hy_X3_heard⟩ rfl ⟨Nat.le_of_ble_eq_true rfl, Nat.le_of_ble_eq_true rfl⟩ ⟨Nat.le_of_ble_eq_true rfl, Nat.le_of_ble_eq_true rfl⟩ rfl (Nat.le_of_ble_eq_true rfl) dX1_heap_33 co_rec (fun r u hp => ?_)
  obtain rfl := hp
  have hh := tHear_le T s t
  refine co_ld_left (by omega) dX1_heap_36 ?_
  refine h_cNv (ctX3_heaps s (0 + tHear T s t) (tNS T) (hC1.ok hok) sh hok.2.2.2.2.2.1 (by omega)) q642 q1506 q111 q641 qs3 hy_X3_heaps rfl ⟨Nat.le_of_ble_eq_true rfl, Nat.le_of_ble_eq_true rfl⟩ ⟨Nat.le_of_ble_eq_true rfl, Nat.le_of_ble_eq_true rfl⟩ rfl (Nat.le_of_ble_eq_true rfl) dX1_heap_37 co_rec (fun heaps2 hh2 => ?_)
  refine g_aload_n 0 dX1_heap_40 rfl rfl ?_
  refine x_get_course q445 dX1_heap_41 ?_
  refine co_get_heapsN q260 dX1_heap_44 ?_
  refine g_aload_n 0 dX1_heap_47 rfl rfl ?_
  refine x_get_course q445 dX1_heap_48 ?_
  refine co_get_slipsN q262 dX1_heap_51 ?_
  refine g_iload_n 1 dX1_heap_54 rfl rfl ?_
  refine co_ld_slips (by omega) dX1_heap_55 ?_
  refine g_iload_n 2 dX1_heap_56 rfl rfl ?_
  refine co_ld_slip (by omega) (by omega) dX1_heap_57 ?_
  refine co_ld_heaps (by omega) dX1_heap_58 ?_
  exact GG.ret (g_iret (true, some (ta 0), many1, xs1, ys1, heaps2, slips1, rows1) dX1_heap_59 (Nat.le_of_ble_eq_true rfl) (Nat.le_of_ble_eq_true rfl) (⟨ansT (x := nI (likeN (tP T) (tSl T s) (leftT T (tHear T s t)) w)) (by unfold aHeap; simp only [hs, hw, ht]) (congrArg nI ((hh2 w (show w < many1 by omega)).trans ((likeN_congr (show w < many1 by omega) (fun v hv => hC1.sl sh hv) (fun v hv => hC1.lft hok (by omega) hv)).trans (by rw [hP1])))), fun _ => ⟨rfl, hC1⟩⟩) (fun _ h => h))
set_option maxHeartbeats 4000000 in
theorem ctX1_knowing {xa ca cb ra ta : Nat → Nat} {T : Talk} {bL : Bool} {tk : Option Nat} {many : Nat} {xs ys heaps : Nat → Nat} {slips : Nat → Nat → Nat} {rows : Nat → Nat → Int64} {taped fk : Nat} {fa : Int32} {an nx : Nat} {images : Nat → Option Nat} {tape : Nat → Int32} {W : va_W} (s0 t0 : Int32) (hl9 : l.stackTraces = false) (hT : TalkL Y T ta W) (hok : TOK T) (hL : bL = true → tk = some (ta 0) ∧ LdC T many xs ys slips rows) : CTB l D clX (tyX Y) yX1_knowing cX1_knowing 6 (some .int) ({ frames := 1816, cells := 2, slots := 12, locals := 54543 } : Room) [.ref (xa 0), .int s0, .int t0] (HW D clX A (CoL Y ca ra 0 tk many 0 (-1) xs ys heaps slips rows (XoL Y xa ca cb ra (ta 0) bL taped fk fa an nx images tape W))) (Qi (fun (v : Int32) (u : XS) => ans (aKnowing T s0 t0) 0 v ∧ LdX T (ta 0) u) (fun (u : XS) => HW D clX A (CoL Y ca ra 0 u.2.1 u.2.2.1 0 (-1) u.2.2.2.1 u.2.2.2.2.1 u.2.2.2.2.2.1 u.2.2.2.2.2.2.1 u.2.2.2.2.2.2.2 (XoL Y xa ca cb ra (ta 0) u.1 taped fk fa an nx images tape W))) A) (fun (u : Nat × XS) => (∃ v9, ans (aKnowing T s0 t0) u.1 v9) ∧ 0 < u.1 ∧ LdX T (ta 0) u.2) (fun u => exL ["java/util/NoSuchElementException", "java/lang/IllegalArgumentException"] u.1) (fun (u : Nat × XS) (_ : Nat) => HW D clX A (CoL Y ca ra 0 u.2.2.1 u.2.2.2.1 0 (-1) u.2.2.2.2.1 u.2.2.2.2.2.1 u.2.2.2.2.2.2.1 u.2.2.2.2.2.2.2.1 u.2.2.2.2.2.2.2.2 (XoL Y xa ca cb ra (ta 0) u.2.1 taped fk fa an nx images tape W))) A := by
  refine CTB.of (L := [(0, .ref (xa 0)), (1, .int s0), (2, .int t0)]) rfl (by decide +kernel) rfl (Nat.le_of_ble_eq_true rfl) ?_
  refine g_aload_n 0 dX1_knowing_0 rfl rfl ?_
  refine g_iload_n 1 dX1_knowing_1 rfl rfl ?_
  refine x_cVv (ctX1_mustSpeaker _ hl9 hT hok) (lw_V q1399 q1401 qs34 q106 q1402) ⟨rfl, hy_X1_mustSpeaker⟩ rfl ⟨Nat.le_of_ble_eq_true rfl, Nat.le_of_ble_eq_true rfl⟩ ⟨Nat.le_of_ble_eq_true rfl, Nat.le_of_ble_eq_true rfl⟩ rfl (Nat.le_of_ble_eq_true rfl) dX1_knowing_2 (fun _ _ _ h => h.1) x_rec (fun u9 q9 hx9 => xg_out (1, (bL, tk, many, xs, ys, heaps, slips, rows)) (Nat.le_of_ble_eq_true rfl) (Nat.le_of_ble_eq_true rfl) (⟨ansE (by unfold aKnowing; simp only [hx9]), Nat.le_of_ble_eq_true rfl, hL⟩) rfl (fun _ h => h)) (fun u9 hy9 => ?_)
  obtain ⟨s, hs⟩ := Option.isSome_iff_exists.mp hy9
  obtain ⟨hsL, rfl⟩ := iR_some hs
  have sh := hsL
  refine g_aload_n 0 dX1_knowing_5 rfl rfl ?_
  refine g_iload_n 2 dX1_knowing_6 rfl rfl ?_
  refine x_cVv (ctX1_mustTurns _ hl9 hT hok) (lw_V q1435 q1437 qs37 q106 q1438) ⟨rfl, hy_X1_mustTurns⟩ rfl ⟨Nat.le_of_ble_eq_true rfl, Nat.le_of_ble_eq_true rfl⟩ ⟨Nat.le_of_ble_eq_true rfl, Nat.le_of_ble_eq_true rfl⟩ rfl (Nat.le_of_ble_eq_true rfl) dX1_knowing_7 (fun _ _ _ h => h.1) x_rec (fun u9 q9 hx9 => xg_out (2, (bL, tk, many, xs, ys, heaps, slips, rows)) (Nat.le_of_ble_eq_true rfl) (Nat.le_of_ble_eq_true rfl) (⟨ansE (by unfold aKnowing; simp only [hs, hx9]), Nat.le_of_ble_eq_true rfl, hL⟩) rfl (fun _ h => h)) (fun u9 hy9 => ?_)
  obtain ⟨t, ht⟩ := Option.isSome_iff_exists.mp hy9
  obtain ⟨htL, rfl⟩ := iR_some ht
  have hn20 := hok.2.2.2.2.2.2.1
  refine g_aload_n 0 dX1_knowing_10 rfl rfl ?_
  refine h_cVo (ctX1_laid hT hok hL) (lw_V q510 q512 qs1 q106 q513) ⟨rfl, hy_X1_laid⟩ rfl ⟨Nat.le_of_ble_eq_true rfl, Nat.le_of_ble_eq_true rfl⟩ ⟨Nat.le_of_ble_eq_true rfl, Nat.le_of_ble_eq_true rfl⟩ rfl (Nat.le_of_ble_eq_true rfl) dX1_knowing_11 x_rec (fun u9 hC1 => ?_)
  obtain ⟨many1, xs1, ys1, heaps1, slips1, rows1⟩ := u9
  have hC1 : LdC T many1 xs1 ys1 slips1 rows1 := hC1
  have hP1 := hC1.mny
  have hP2 := tP_le hok
  refine g_astore_n (L' := [(0, _), (1, _), (2, _), (3, _)]) 3 dX1_knowing_14 rfl (by decide) rfl rfl ?_
  refine g_iconst (v := nI 0) dX1_knowing_15 (by decide +kernel) ?_
  refine g_istore (L' := [(0, _), (1, _), (2, _), (3, _), (4, _)]) dX1_knowing_16 (by decide) rfl rfl ?_
  refine g_iconst (v := nI 0) dX1_knowing_18 (by decide +kernel) ?_
  refine g_istore (L' := [(0, _), (1, _), (2, _), (3, _), (4, _), (5, _)]) dX1_knowing_19 (by decide) rfl rfl ?_
  have loop21 : ∀ (q21 : Nat) (w : Nat), many1 - w < q21 → (w ≤ many1) → GG l D clX (tyX Y) cX1_knowing 6 (some .int) RX1 ({ frames := 1816, cells := 2, slots := 12, locals := 54543 } : Room) A (MXN A) (QB (Qi (fun (v : Int32) (u : XS) => ans (aKnowing T (nI s) (nI t)) 0 v ∧ LdX T (ta 0) u) (fun (u : XS) => HW D clX A (CoL Y ca ra 0 u.2.1 u.2.2.1 0 (-1) u.2.2.2.1 u.2.2.2.2.1 u.2.2.2.2.2.1 u.2.2.2.2.2.2.1 u.2.2.2.2.2.2.2 (XoL Y xa ca cb ra (ta 0) u.1 taped fk fa an nx images tape W))) A) (fun (u : Nat × XS) => (∃ v9, ans (aKnowing T (nI s) (nI t)) u.1 v9) ∧ 0 < u.1 ∧ LdX T (ta 0) u.2) (fun u => exL ["java/util/NoSuchElementException", "java/lang/IllegalArgumentException"] u.1) (fun (u : Nat × XS) (_ : Nat) => HW D clX A (CoL Y ca ra 0 u.2.2.1 u.2.2.2.1 0 (-1) u.2.2.2.2.1 u.2.2.2.2.2.1 u.2.2.2.2.2.2.1 u.2.2.2.2.2.2.2.1 u.2.2.2.2.2.2.2.2 (XoL Y xa ca cb ra (ta 0) u.2.1 taped fk fa an nx images tape W))) 2 12 A) (HW D clX A (CoL Y ca ra 0 (some (ta 0)) many1 0 (-1) xs1 ys1 heaps1 slips1 rows1 (XoL Y xa ca cb ra (ta 0) true taped fk fa an nx images tape W))) (0 + 1 + 1) (0 + 6 + 6) 21 [(0, .ref (xa 0)), (1, .int (nI s)), (2, .int (nI t)), (3, .ref (ca 0)), (4, .int (nI (cnt (fun w => leftT T t w && knowT T s t w) w))), (5, .int (nI w))] [] := by
    intro q21
    induction q21 with
    | zero => intro w hq21; exact absurd hq21 (Nat.not_lt_zero _)
    | succ q21 ih21 =>
      intro w hq21 hw
      refine g_iload dX1_knowing_21 rfl ?_
      refine g_aload_n 3 dX1_knowing_23 rfl rfl ?_
      refine co_get_manyN q276 dX1_knowing_24 ?_
      refine g_icmp_ge_n (tgt := 81) dX1_knowing_27 (by decide) (by omega) (by omega) (fun c27 => ?_) (fun c27 => ?_)
      · skip
        refine g_iload dX1_knowing_81 rfl ?_
        exact GG.ret (g_iret (true, some (ta 0), many1, xs1, ys1, heaps1, slips1, rows1) dX1_knowing_83 (Nat.le_of_ble_eq_true rfl) (Nat.le_of_ble_eq_true rfl) (⟨ansT (x := nI (cnt (fun w => leftT T t w && knowT T s t w) (tP T))) (by unfold aKnowing; simp only [hs, ht]) (congrArg nI (by rw [show w = tP T by omega])), fun _ => ⟨rfl, hC1⟩⟩) (fun _ h => h))
      · skip
        refine g_iload dX1_knowing_30 rfl ?_
        refine g_aload_n 3 dX1_knowing_32 rfl rfl ?_
        refine co_get_leftN q270 dX1_knowing_33 ?_
        refine g_iload_n 2 dX1_knowing_36 rfl rfl ?_
        refine co_ld_left (by omega) dX1_knowing_37 ?_
        refine g_iload dX1_knowing_38 rfl ?_
        refine h_cSi (ctX1_has w (f := rows1 (0 + t)) (hw_ix (CoL_row (r := 0 + t) (by omega))) (by omega)) (lw_S q709 q647 q106 q648) hy_X1_has rfl ⟨Nat.le_of_ble_eq_true rfl, Nat.le_of_ble_eq_true rfl⟩ ⟨Nat.le_of_ble_eq_true rfl, Nat.le_of_ble_eq_true rfl⟩ rfl (Nat.le_of_ble_eq_true rfl) dX1_knowing_40 (fun r u hp => ?_)
        obtain rfl := hp
        refine g_if_eq_b (tgt := 71) dX1_knowing_43 (by decide) (fun c43 => ?_) (fun c43 => ?_)
        · skip
          refine g_iconst (v := nI 0) dX1_knowing_71 (by decide +kernel) ?_
          refine g_iadd_n dX1_knowing_72 ?_
          refine g_istore (L' := [(0, _), (1, _), (2, _), (3, _), (4, _), (5, _)]) dX1_knowing_73 (by decide) rfl rfl ?_
          refine g_iinc_n (b := 1) (L' := [(0, _), (1, _), (2, _), (3, _), (4, _), (5, _)]) dX1_knowing_75 rfl rfl (by decide) rfl rfl ?_
          refine g_goto (tgt := 21) dX1_knowing_78 (by decide) ?_
          rw [cntI_n (f := (fun w => leftT T t w && knowT T s t w)) (w := w) (by show (leftT T t w && knowT T s t w) = false; rw [← (hC1.lft hok (t := t) (w := w) (by omega) (by omega)), c43]; rfl)]
          exact ih21 (w + 1) (by omega) (by omega)
        · skip
          refine g_aload_n 3 dX1_knowing_46 rfl rfl ?_
          refine g_iload_n 1 dX1_knowing_47 rfl rfl ?_
          refine g_iload dX1_knowing_48 rfl ?_
          refine g_aload_n 3 dX1_knowing_50 rfl rfl ?_
          refine co_get_leftN q270 dX1_knowing_51 ?_
          refine g_aload_n 3 dX1_knowing_54 rfl rfl ?_
          refine g_iload_n 1 dX1_knowing_55 rfl rfl ?_
          refine g_iload_n 2 dX1_knowing_56 rfl rfl ?_
          refine h_cVi (ctX3_heard s t (xo_up hT) sh) (lw_V q1487 q603 q604 q111 q605) ⟨rfl, hy_X3_heard⟩ rfl ⟨Nat.le_of_ble_eq_true rfl, Nat.le_of_ble_eq_true rfl⟩ ⟨Nat.le_of_ble_eq_true rfl, Nat.le_of_ble_eq_true rfl⟩ rfl (Nat.le_of_ble_eq_true rfl) dX1_knowing_57 co_rec (fun r u hp => ?_)
          obtain rfl := hp
          have hh := tHear_le T s t
          refine co_ld_left (by omega) dX1_knowing_60 ?_
          refine h_cVi (ctX3_knowsIn s w (0 + tHear T s t) (tNS T) (hC1.ok hok) sh hok.2.2.2.2.2.1 (by omega) (by omega)) (lw_V q1488 q1489 q1490 q111 q1491) ⟨rfl, hy_X3_knowsIn⟩ rfl ⟨Nat.le_of_ble_eq_true rfl, Nat.le_of_ble_eq_true rfl⟩ ⟨Nat.le_of_ble_eq_true rfl, Nat.le_of_ble_eq_true rfl⟩ rfl (Nat.le_of_ble_eq_true rfl) dX1_knowing_61 co_rec (fun r u hp => ?_)
          obtain rfl := hp
          refine g_if_eq_b (tgt := 71) dX1_knowing_64 (by decide) (fun c64 => ?_) (fun c64 => ?_)
          · skip
            refine g_iconst (v := nI 0) dX1_knowing_71 (by decide +kernel) ?_
            refine g_iadd_n dX1_knowing_72 ?_
            refine g_istore (L' := [(0, _), (1, _), (2, _), (3, _), (4, _), (5, _)]) dX1_knowing_73 (by decide) rfl rfl ?_
            refine g_iinc_n (b := 1) (L' := [(0, _), (1, _), (2, _), (3, _), (4, _), (5, _)]) dX1_knowing_75 rfl rfl (by decide) rfl rfl ?_
            refine g_goto (tgt := 21) dX1_knowing_78 (by decide) ?_
            rw [cntI_n (f := (fun w => leftT T t w && knowT T s t w)) (w := w) (by show (leftT T t w && knowT T s t w) = false; rw [← (hC1.kn hok sh (t := t) (w := w) (by omega) (by omega)), c64, Bool.and_false])]
            exact ih21 (w + 1) (by omega) (by omega)
          · skip
            refine g_iconst (v := nI 1) dX1_knowing_67 (by decide +kernel) ?_
            refine g_goto (tgt := 72) dX1_knowing_68 (by decide) ?_
            refine g_iadd_n dX1_knowing_72 ?_
            refine g_istore (L' := [(0, _), (1, _), (2, _), (3, _), (4, _), (5, _)]) dX1_knowing_73 (by decide) rfl rfl ?_
            refine g_iinc_n (b := 1) (L' := [(0, _), (1, _), (2, _), (3, _), (4, _), (5, _)]) dX1_knowing_75 rfl rfl (by decide) rfl rfl ?_
            refine g_goto (tgt := 21) dX1_knowing_78 (by decide) ?_
            rw [cntI_y (f := (fun w => leftT T t w && knowT T s t w)) (w := w) (by show (leftT T t w && knowT T s t w) = true; rw [← (hC1.lft hok (t := t) (w := w) (by omega) (by omega)), c43, ← (hC1.kn hok sh (t := t) (w := w) (by omega) (by omega)), c64]; rfl)]
            exact ih21 (w + 1) (by omega) (by omega)
  exact loop21 (many1 + 1) 0 (by omega) (by omega)
end
