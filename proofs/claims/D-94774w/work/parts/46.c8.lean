/-! THE COMPONENT, 8: the course: worlds -/
set_option maxRecDepth 100000
def WI (T : Talk) (rows0 : Nat → Nat → Int64) (b many : Nat) (xs ys : Nat → Nat) (slips : Nat → Nat → Nat) (rows : Nat → Nat → Int64) (Wd : List (Nat × Nat)) : Prop := layd xs ys many Wd ∧ (∀ s w, s < tNS T → w < many → slips s w = slW (tKind T s) xs ys w) ∧ RT rows0 rows (b + 69) (fun w => decide (w < many))
theorem WI_0 {T : Talk} {rows : Nat → Nat → Int64} {b : Nat} {xs ys : Nat → Nat} {slips : Nat → Nat → Nat} : WI T rows b 0 xs ys slips (up rows (b + 69) (fun j => if j < 29 then lN 0 else rows (b + 69) j)) [] := by
  refine ⟨⟨rfl, fun w p hp => by cases hp⟩, fun s w _ h => absurd h (Nat.not_lt_zero _), ?_⟩
  have h := RT_z (rows := rows) (r1 := b + 69) (G := fun _ => true)
  exact ⟨h.1.congr (fun w _ => by simp), h.2⟩
theorem WI_push {T : Talk} {rows0 rows : Nat → Nat → Int64} {b many x y : Nat} {xs ys : Nat → Nat} {slips slips3 : Nat → Nat → Nat} {Wd : List (Nat × Nat)} {u : Nat → Int64} (h : WI T rows0 b many xs ys slips rows Wd) (h1 : ∀ s w, s < tNS T → w < many → slips3 s w = slips s w) (h2 : ∀ s, s < tNS T → slips3 s many = slipN (tKind T s) x y) (hp : ∀ w', w' < 1856 → lbt u w' = (lbt (rows (b + 69)) w' || decide (w' = many))) : WI T rows0 b (many + 1) (up xs many x) (up ys many y) slips3 (up rows (b + 69) u) (Wd ++ [(x, y)]) := by
  refine ⟨layd_push h.1, fun s w hs hw => ?_, ⟨fun w hw => ?_, fun r hr => by rw [up_n hr]; exact h.2.2.2 r hr⟩⟩
  · by_cases e : w = many
    · rw [e, h2 s hs]
      unfold slW; rw [up_s, up_s]
    · rw [h1 s w hs (by omega), h.2.1 s w hs (by omega)]
      unfold slW; rw [up_n e, up_n e]
  · rw [up_s, hp w hw, h.2.2.1 w hw]
    by_cases e : w = many
    · subst e; simp
    · have : decide (w < many + 1) = decide (w < many) := decide_eq_decide.mpr ⟨fun q => by omega, fun q => by omega⟩
      simp [e, this]
theorem lbt_cpy {f g : Nat → Int64} {w : Nat} (hw : w < 1856) : lbt (va_cpy f g 0 0 29) w = lbt f w := by
  unfold lbt va_cpy
  rw [if_pos (by omega)]
  congr 2
  rw [Nat.zero_add, Nat.sub_zero]
theorem WI_end {T : Talk} {rows0 rows : Nat → Nat → Int64} {b many lo hi : Nat} {xs ys : Nat → Nat} {slips : Nat → Nat → Nat} (h : WI T rows0 b many xs ys slips rows (wList lo hi (tMost T) (tUn T))) : CoWd (tLH T lo hi) b many xs ys slips (up rows (b + 0) (va_cpy (rows (b + 69)) (rows (b + 0)) 0 0 29)) ∧ ∀ r, ¬ r = b + 69 → ¬ r = b → up rows (b + 0) (va_cpy (rows (b + 69)) (rows (b + 0)) 0 0 29) r = rows0 r := by
  obtain ⟨h1, h2, h3, h4⟩ := h
  refine ⟨⟨h1.1, fun w hw => layd_XY h1 hw, fun s w hs hw => ?_, ?_, ?_⟩, fun r h5 h6 => ?_⟩
  · rw [h2 s w hs hw]
    exact slW_congr (layd_XY h1 hw)
  · rw [up_n (by omega)]; exact h3
  · show isRow (up rows (b + 0) _ (b + 0)) _
    rw [up_s]
    exact fun w hw => by rw [lbt_cpy hw]; exact h3 w hw
  · rw [up_n (by omega)]; exact h4 r h5

section
variable {l : Launch} {D : va_G} {Y : Nat → ClassId} {A : Nat → Prop}
set_option maxHeartbeats 4000000 in
/-- worlds -/
theorem ctX3_worlds {ca ra : Nat → Nat} {b : Nat} {tk : Option Nat} {many used : Nat} {liar : Int32} {xs ys heaps : Nat → Nat} {slips : Nat → Nat → Nat} {rows : Nat → Nat → Int64} {W : va_W} {T : Talk} {ta : Nat → Nat} (lo hi : Nat) (hT : TalkL Y T ta W) (hok : TOK T) (hb : b + 70 ≤ 156) (hlo : 1 ≤ lo) (hlo2 : lo ≤ 60) (hhi : hi ≤ 60) : CT l D clX (tyX Y) yX3_worlds cX3_worlds 7 none ({ frames := 6, cells := 0, slots := 0, locals := 200 } : Room) [.ref (ca 0), .ref (ta 0), .int (nI lo), .int (nI hi)] (HW D clX A (CoL Y ca ra b tk many used liar xs ys heaps slips rows W)) (Qv (fun (u : Nat × (Nat → Nat) × (Nat → Nat) × (Nat → Nat → Nat) × (Nat → Nat → Int64)) => CoWd (tLH T lo hi) b u.1 u.2.1 u.2.2.1 u.2.2.2.1 u.2.2.2.2 ∧ ∀ r, ¬ r = b + 69 → ¬ r = b → u.2.2.2.2 r = rows r) (fun (u : Nat × (Nat → Nat) × (Nat → Nat) × (Nat → Nat → Nat) × (Nat → Nat → Int64)) => HW D clX A (CoL Y ca ra b (some (ta 0)) u.1 used liar u.2.1 u.2.2.1 heaps u.2.2.2.1 u.2.2.2.2 W)) A) A := by
  obtain ⟨ea1, na1, mc1, hL1⟩ := hT.2.1
  have hmo := hok.2.2.2.1
  have hun := hok.2.2.2.2.1
  have hnS := hok.2.2.2.2.2.1
  have hlen : (wList lo hi (tMost T) (tUn T)).length ≤ 1830 := wList_len hlo hhi
  refine CT.of (L := [(0, .ref (ca 0)), (1, .ref (ta 0)), (2, .int (nI lo)), (3, .int (nI hi))]) rfl (by decide +kernel) rfl (Nat.le_of_ble_eq_true rfl) ?_
  refine g_aload_n 0 dX3_worlds_0 rfl rfl ?_
  refine g_aload_n 1 dX3_worlds_1 rfl rfl ?_
  refine co_put_talk q272 dX3_worlds_2 ?_
  refine g_aload_n 0 dX3_worlds_5 rfl rfl ?_
  refine g_iconst (v := nI 0) dX3_worlds_6 (by decide +kernel) ?_
  refine co_put_many q275 dX3_worlds_7 ?_
  refine g_aload_n 0 dX3_worlds_10 rfl rfl ?_
  refine co_get_all q263 dX3_worlds_11 ?_
  refine g_lconst (v := lN 0) dX3_worlds_14 (by decide +kernel) ?_
  refine h_cSv (ctJ14_fill (lN 0) 1 rfl (by decide) (CoL_row (r := b + 69) (by omega)) (CoL_setrow (r := b + 69) (by omega) _)) (lw_S q518 q519 q141 q520) hy_J14_fill rfl ⟨Nat.le_of_ble_eq_true rfl, Nat.le_of_ble_eq_true rfl⟩ ⟨Nat.zero_le _, Nat.zero_le _⟩ rfl (Nat.le_of_ble_eq_true rfl) dX3_worlds_15 (fun uF hF => ?_)
  refine g_iload_n 2 dX3_worlds_18 rfl rfl ?_
  refine g_istore (L' := [(0, _), (1, _), (2, _), (3, _), (4, _)]) dX3_worlds_19 (by decide) rfl rfl ?_
  have loop21 : ∀ (q21 : Nat) (a many1 : Nat) (xs1 ys1 : Nat → Nat) (slips1 : Nat → Nat → Nat) (rows1 : Nat → Nat → Int64) (Wd1 : List (Nat × Nat)), 62 - a < q21 → (a ≤ 61) → (WI T rows b many1 xs1 ys1 slips1 rows1 Wd1) → (wList lo hi (tMost T) (tUn T) = Wd1 ++ wAll hi (tMost T) (tUn T) (hi + 1 - a) a) → GG l D clX (tyX Y) cX3_worlds 7 none RX3 ({ frames := 6, cells := 0, slots := 0, locals := 200 } : Room) A MT (QM (Qv (fun (u : Nat × (Nat → Nat) × (Nat → Nat) × (Nat → Nat → Nat) × (Nat → Nat → Int64)) => CoWd (tLH T lo hi) b u.1 u.2.1 u.2.2.1 u.2.2.2.1 u.2.2.2.2 ∧ ∀ r, ¬ r = b + 69 → ¬ r = b → u.2.2.2.2 r = rows r) (fun (u : Nat × (Nat → Nat) × (Nat → Nat) × (Nat → Nat → Nat) × (Nat → Nat → Int64)) => HW D clX A (CoL Y ca ra b (some (ta 0)) u.1 used liar u.2.1 u.2.2.1 heaps u.2.2.2.1 u.2.2.2.2 W)) A) 0 0 A) (HW D clX A (CoL Y ca ra b (some (ta 0)) many1 used liar xs1 ys1 heaps slips1 rows1 W)) 0 0 21 [(0, .ref (ca 0)), (1, .ref (ta 0)), (2, .int (nI lo)), (3, .int (nI hi)), (4, .int (nI a))] [] := by
    intro q21
    induction q21 with
    | zero => intro a many1 xs1 ys1 slips1 rows1 Wd1 hq21; exact absurd hq21 (Nat.not_lt_zero _)
    | succ q21 ih21 =>
      intro a many1 xs1 ys1 slips1 rows1 Wd1 hq21 ha hi1 hl1
      refine g_iload dX3_worlds_21 rfl ?_
      refine g_iload_n 3 dX3_worlds_23 rfl rfl ?_
      refine g_icmp_gt_n (tgt := 170) dX3_worlds_24 (by decide) (by omega) (by omega) (fun c24 => ?_) (fun c24 => ?_)
      · skip
        refine g_aload_n 0 dX3_worlds_170 rfl rfl ?_
        refine co_get_all q263 dX3_worlds_171 ?_
        refine g_iconst (v := nI 0) dX3_worlds_174 (by decide +kernel) ?_
        refine g_aload_n 0 dX3_worlds_175 rfl rfl ?_
        refine co_get_left q268 dX3_worlds_176 ?_
        refine g_iconst (v := nI 0) dX3_worlds_179 (by decide +kernel) ?_
        refine co_ld_left (by omega) dX3_worlds_180 ?_
        refine g_iconst (v := nI 0) dX3_worlds_181 (by decide +kernel) ?_
        refine g_bipush (v := nI 29) dX3_worlds_182 (by decide +kernel) ?_
        refine g_copyl (m := 29) (sp := 0) (dp := 0) (a0 := ra (b + 69)) (a := ra (b + 0)) q577 q579 q578 q142 (b + 69 + 13) (b + 0 + 13) 1 rfl (CoL_row (r := b + 69) (by omega)) (CoL_row (r := b + 0) (by omega)) (by decide) (by decide) (by decide) (by decide) (CoL_setrow (r := b + 0) (by omega) _) (Nat.le_of_ble_eq_true rfl) (Nat.le_of_ble_eq_true rfl) dX3_worlds_184 ?_
        exact g_vret (many1, xs1, ys1, slips1, _) dX3_worlds_187 (Nat.le_refl _) (Nat.le_refl _) (WI_end (by rw [wAll_end c24, List.append_nil] at hl1; rw [hl1]; exact hi1)) (fun _ h => h)
      · skip
        have join43 : GG l D clX (tyX Y) cX3_worlds 7 none RX3 ({ frames := 6, cells := 0, slots := 0, locals := 200 } : Room) A MT (QM (Qv (fun (u : Nat × (Nat → Nat) × (Nat → Nat) × (Nat → Nat → Nat) × (Nat → Nat → Int64)) => CoWd (tLH T lo hi) b u.1 u.2.1 u.2.2.1 u.2.2.2.1 u.2.2.2.2 ∧ ∀ r, ¬ r = b + 69 → ¬ r = b → u.2.2.2.2 r = rows r) (fun (u : Nat × (Nat → Nat) × (Nat → Nat) × (Nat → Nat → Nat) × (Nat → Nat → Int64)) => HW D clX A (CoL Y ca ra b (some (ta 0)) u.1 used liar u.2.1 u.2.2.1 heaps u.2.2.2.1 u.2.2.2.2 W)) A) 0 0 A) (HW D clX A (CoL Y ca ra b (some (ta 0)) many1 used liar xs1 ys1 heaps slips1 rows1 W)) 0 0 43 [(0, .ref (ca 0)), (1, .ref (ta 0)), (2, .int (nI lo)), (3, .int (nI hi)), (4, .int (nI a))] [.int (nI (a + tUn T))] := by
          skip
          refine g_istore (L' := [(0, _), (1, _), (2, _), (3, _), (4, _), (5, _)]) dX3_worlds_43 (by decide) rfl rfl ?_
          have loop45 : ∀ (q45 : Nat) (c many2 : Nat) (xs2 ys2 : Nat → Nat) (slips2 : Nat → Nat → Nat) (rows2 : Nat → Nat → Int64) (Wd2 : List (Nat × Nat)), 63 - c < q45 → (a ≤ c) → (c ≤ 62) → (WI T rows b many2 xs2 ys2 slips2 rows2 Wd2) → (wList lo hi (tMost T) (tUn T) = Wd2 ++ (wRow a (tMost T) (hi + 1 - c) c ++ wAll hi (tMost T) (tUn T) (hi + 1 - (a + 1)) (a + 1))) → GG l D clX (tyX Y) cX3_worlds 7 none RX3 ({ frames := 6, cells := 0, slots := 0, locals := 200 } : Room) A MT (QM (Qv (fun (u : Nat × (Nat → Nat) × (Nat → Nat) × (Nat → Nat → Nat) × (Nat → Nat → Int64)) => CoWd (tLH T lo hi) b u.1 u.2.1 u.2.2.1 u.2.2.2.1 u.2.2.2.2 ∧ ∀ r, ¬ r = b + 69 → ¬ r = b → u.2.2.2.2 r = rows r) (fun (u : Nat × (Nat → Nat) × (Nat → Nat) × (Nat → Nat → Nat) × (Nat → Nat → Int64)) => HW D clX A (CoL Y ca ra b (some (ta 0)) u.1 used liar u.2.1 u.2.2.1 heaps u.2.2.2.1 u.2.2.2.2 W)) A) 0 0 A) (HW D clX A (CoL Y ca ra b (some (ta 0)) many2 used liar xs2 ys2 heaps slips2 rows2 W)) 0 0 45 [(0, .ref (ca 0)), (1, .ref (ta 0)), (2, .int (nI lo)), (3, .int (nI hi)), (4, .int (nI a)), (5, .int (nI c))] [] := by
            intro q45
            induction q45 with
            | zero => intro c many2 xs2 ys2 slips2 rows2 Wd2 hq45; exact absurd hq45 (Nat.not_lt_zero _)
            | succ q45 ih45 =>
              intro c many2 xs2 ys2 slips2 rows2 Wd2 hq45 hac hc9 hi2 hl2
              refine g_iload dX3_worlds_45 rfl ?_
              refine g_iload_n 3 dX3_worlds_47 rfl rfl ?_
              refine g_icmp_gt_n (tgt := 164) dX3_worlds_48 (by decide) (by omega) (by omega) (fun c48 => ?_) (fun c48 => ?_)
              · skip
                refine g_iinc_n (b := 1) (L' := [(0, _), (1, _), (2, _), (3, _), (4, _), (5, _)]) dX3_worlds_164 rfl rfl (by decide) rfl rfl ?_
                refine g_goto (tgt := 21) dX3_worlds_167 (by decide) ?_
                refine GG.locals [0, 1, 2, 3, 4] rfl ?_
                exact ih21 (a + 1) many2 xs2 ys2 slips2 rows2 Wd2 (by omega) (by omega) hi2 (by rw [hl2, wRow_end (by omega)]; rfl)
              · skip
                refine g_iload dX3_worlds_51 rfl ?_
                refine g_iload dX3_worlds_53 rfl ?_
                refine g_iadd_n dX3_worlds_55 ?_
                refine g_aload_n 1 dX3_worlds_56 rfl rfl ?_
                refine g_getfN (C := RX2) (T := TX2) (N := 7) 4 in_X2 rfl (by decide) q220 rfl dX3_worlds_57 (co_has _ hT.1) rfl ?_
                refine g_icmp_le_n (tgt := 66) dX3_worlds_60 (by decide) (by omega) (by omega) (fun c60 => ?_) (fun c60 => ?_)
                · skip
                  have hm2 : many2 < 1830 := by
                    have e9 := congrArg List.length hl2
                    rw [wRow_step c48 c60, List.length_append, List.cons_append, List.length_cons, ← hi2.1.1] at e9
                    omega
                  refine g_aload_n 0 dX3_worlds_66 rfl rfl ?_
                  refine co_get_x q253 dX3_worlds_67 ?_
                  refine g_aload_n 0 dX3_worlds_70 rfl rfl ?_
                  refine co_get_many q275 dX3_worlds_71 ?_
                  refine g_iload dX3_worlds_74 rfl ?_
                  refine co_st_xs (by omega) dX3_worlds_76 ?_
                  refine g_aload_n 0 dX3_worlds_77 rfl rfl ?_
                  refine co_get_y q256 dX3_worlds_78 ?_
                  refine g_aload_n 0 dX3_worlds_81 rfl rfl ?_
                  refine co_get_many q275 dX3_worlds_82 ?_
                  refine g_iload dX3_worlds_85 rfl ?_
                  refine co_st_ys (by omega) dX3_worlds_87 ?_
                  refine g_iconst (v := nI 0) dX3_worlds_88 (by decide +kernel) ?_
                  refine g_istore (L' := [(0, _), (1, _), (2, _), (3, _), (4, _), (5, _), (6, _)]) dX3_worlds_89 (by decide) rfl rfl ?_
                  have loop91 : ∀ (q91 : Nat) (s0 : Nat) (slips3 : Nat → Nat → Nat), tNS T - s0 < q91 → (s0 ≤ tNS T) → (∀ s w, s < tNS T → w < many2 → slips3 s w = slips2 s w) → (∀ s, s < s0 → slips3 s many2 = slipN (tKind T s) a c) → GG l D clX (tyX Y) cX3_worlds 7 none RX3 ({ frames := 6, cells := 0, slots := 0, locals := 200 } : Room) A MT (QM (Qv (fun (u : Nat × (Nat → Nat) × (Nat → Nat) × (Nat → Nat → Nat) × (Nat → Nat → Int64)) => CoWd (tLH T lo hi) b u.1 u.2.1 u.2.2.1 u.2.2.2.1 u.2.2.2.2 ∧ ∀ r, ¬ r = b + 69 → ¬ r = b → u.2.2.2.2 r = rows r) (fun (u : Nat × (Nat → Nat) × (Nat → Nat) × (Nat → Nat → Nat) × (Nat → Nat → Int64)) => HW D clX A (CoL Y ca ra b (some (ta 0)) u.1 used liar u.2.1 u.2.2.1 heaps u.2.2.2.1 u.2.2.2.2 W)) A) 0 0 A) (HW D clX A (CoL Y ca ra b (some (ta 0)) many2 used liar (up xs2 many2 a) (up ys2 many2 c) heaps slips3 rows2 W)) 0 0 91 [(0, .ref (ca 0)), (1, .ref (ta 0)), (2, .int (nI lo)), (3, .int (nI hi)), (4, .int (nI a)), (5, .int (nI c)), (6, .int (nI s0))] [] := by
                    intro q91
                    induction q91 with
                    | zero => intro s0 slips3 hq91; exact absurd hq91 (Nat.not_lt_zero _)
                    | succ q91 ih91 =>
                      intro s0 slips3 hq91 hs9 hk1 hk2
                      refine g_iload dX3_worlds_91 rfl ?_
                      refine g_aload_n 1 dX3_worlds_93 rfl rfl ?_
                      refine g_getfN (C := RX2) (T := TX2) (N := 7) 0 in_X2 rfl (by decide) q204 rfl dX3_worlds_94 (co_has _ hT.1) rfl ?_
                      refine h_cVi (ctJ2_size (co_has _ hL1.1)) (lw_V q521 q522 q523 q110 q524) ⟨rfl, hy_J2_size⟩ rfl ⟨Nat.le_of_ble_eq_true rfl, Nat.le_of_ble_eq_true rfl⟩ ⟨Nat.zero_le _, Nat.zero_le _⟩ rfl (Nat.le_of_ble_eq_true rfl) dX3_worlds_97 (fun s H hK hP => va_recv hK (co_has _ hL1.1 H hP) (ci := 33) rfl (q0 := 0) rfl) (fun r u hp => ?_)
                      obtain rfl := hp
                      refine g_icmp_ge_n (tgt := 137) dX3_worlds_100 (by decide) (by omega) (by omega) (fun c100 => ?_) (fun c100 => ?_)
                      · skip
                        refine g_aload_n 0 dX3_worlds_137 rfl rfl ?_
                        refine co_get_all q263 dX3_worlds_138 ?_
                        refine g_aload_n 0 dX3_worlds_141 rfl rfl ?_
                        refine co_get_many q275 dX3_worlds_142 ?_
                        refine h_cMv (ctX1_puts many2 (CoL_row (r := b + 69) (by omega)) (CoL_setrow (r := b + 69) (by omega)) (by omega)) q576 q574 q106 q575 hy_X1_puts rfl ⟨Nat.le_of_ble_eq_true rfl, Nat.le_of_ble_eq_true rfl⟩ ⟨Nat.zero_le _, Nat.zero_le _⟩ rfl (Nat.le_of_ble_eq_true rfl) dX3_worlds_145 (fun uP hp => ?_)
                        refine g_aload_n 0 dX3_worlds_148 rfl rfl ?_
                        refine g_dup dX3_worlds_149 rfl ?_
                        refine co_get_many q275 dX3_worlds_150 ?_
                        refine g_iconst (v := nI 1) dX3_worlds_153 (by decide +kernel) ?_
                        refine g_iadd_n dX3_worlds_154 ?_
                        refine co_put_many q275 dX3_worlds_155 ?_
                        refine g_iinc_n (b := 1) (L' := [(0, _), (1, _), (2, _), (3, _), (4, _), (5, _), (6, _)]) dX3_worlds_158 rfl rfl (by decide) rfl rfl ?_
                        refine g_goto (tgt := 45) dX3_worlds_161 (by decide) ?_
                        refine GG.locals [0, 1, 2, 3, 4, 5] rfl ?_
                        exact ih45 (c + 1) (many2 + 1) _ _ slips3 _ (Wd2 ++ [(a, c)]) (by omega) (by omega) (by omega) (WI_push hi2 hk1 (fun s hs => hk2 s (by omega)) hp) (by rw [hl2, wRow_step c48 c60, List.append_assoc]; rfl)
                      · skip
                        refine g_aload_n 0 dX3_worlds_103 rfl rfl ?_
                        refine co_get_slips q261 dX3_worlds_104 ?_
                        refine g_iload dX3_worlds_107 rfl ?_
                        refine co_ld_slips (by omega) dX3_worlds_109 ?_
                        refine g_aload_n 0 dX3_worlds_110 rfl rfl ?_
                        refine co_get_many q275 dX3_worlds_111 ?_
                        refine g_aload_n 1 dX3_worlds_114 rfl rfl ?_
                        refine g_iload dX3_worlds_115 rfl ?_
                        refine h_cVo (ctX2_speaker s0 hT co_has c100) (lw_V q525 q526 q527 q107 q528) ⟨rfl, hy_X2_speaker⟩ rfl ⟨Nat.le_of_ble_eq_true rfl, Nat.le_of_ble_eq_true rfl⟩ ⟨Nat.zero_le _, Nat.zero_le _⟩ rfl (Nat.le_of_ble_eq_true rfl) dX3_worlds_117 (fun s H hK hP => va_recv hK (co_has _ hT.1 H hP) (ci := 2) rfl (q0 := 0) rfl) (fun u hp => ?_)
                        refine g_getfN (C := RX13) (T := TX13) (N := 4) 1 in_X13 rfl (by decide) q1108 rfl dX3_worlds_120 (co_has _ (hT.2.2.2.1 s0 c100).1) rfl ?_
                        refine g_iload dX3_worlds_123 rfl ?_
                        refine g_iload dX3_worlds_125 rfl ?_
                        refine g_sight q544 (hok.2.2.2.2.2.2.2.1 s0 c100) hac (by omega) (co_has _ (talk_sight hT c100)) ⟨Nat.le_of_ble_eq_true rfl, Nat.le_of_ble_eq_true rfl⟩ ⟨Nat.zero_le _, Nat.zero_le _⟩ (Nat.le_of_ble_eq_true rfl) dX3_worlds_127 ?_
                        refine co_st_slip (by omega) (by omega) dX3_worlds_130 ?_
                        refine g_iinc_n (b := 1) (L' := [(0, _), (1, _), (2, _), (3, _), (4, _), (5, _), (6, _)]) dX3_worlds_131 rfl rfl (by decide) rfl rfl ?_
                        refine g_goto (tgt := 91) dX3_worlds_134 (by decide) ?_
                        refine ih91 (s0 + 1) _ (by omega) (by omega) (fun s w h1 h2 => ?_) (fun s h => ?_)
                        · by_cases e : s = s0
                          · subst e; rw [up_s, up_n (by omega)]; exact hk1 s w h1 h2
                          · rw [up_n e]; exact hk1 s w h1 h2
                        · by_cases e : s = s0
                          · subst e; rw [up_s, up_s]
                          · rw [up_n e]; exact hk2 s (by omega)
                  exact loop91 (tNS T + 1) 0 slips2 (by omega) (by omega) (fun _ _ _ _ => rfl) (fun s h => absurd h (Nat.not_lt_zero _))
                · skip
                  refine g_goto (tgt := 158) dX3_worlds_63 (by decide) ?_
                  refine g_iinc_n (b := 1) (L' := [(0, _), (1, _), (2, _), (3, _), (4, _), (5, _)]) dX3_worlds_158 rfl rfl (by decide) rfl rfl ?_
                  refine g_goto (tgt := 45) dX3_worlds_161 (by decide) ?_
                  exact ih45 (c + 1) many2 xs2 ys2 slips2 rows2 Wd2 (by omega) (by omega) (by omega) hi2 (by rw [hl2, wRow_skip c48 (by omega)])
          exact loop45 64 (a + tUn T) many1 xs1 ys1 slips1 rows1 Wd1 (by omega) (by omega) (by omega) hi1 (by rw [hl1, wAll_step c24])
        refine g_aload_n 1 dX3_worlds_27 rfl rfl ?_
        refine g_getfN (C := RX2) (T := TX2) (N := 7) 6 in_X2 rfl (by decide) q225 rfl dX3_worlds_28 (co_has _ hT.1) rfl ?_
        refine g_if_eq_n (tgt := 41) dX3_worlds_31 (by decide) (by omega) (fun c31 => ?_) (fun c31 => ?_)
        · skip
          refine g_iload dX3_worlds_41 rfl ?_
          refine GG.topi (y := nI (a + tUn T)) (by rw [c31]; rfl) ?_
          exact join43
        · skip
          refine g_iload dX3_worlds_34 rfl ?_
          refine g_iconst (v := nI 1) dX3_worlds_36 (by decide +kernel) ?_
          refine g_iadd_n dX3_worlds_37 ?_
          refine g_goto (tgt := 43) dX3_worlds_38 (by decide) ?_
          refine GG.topi (y := nI (a + tUn T)) (by rw [show tUn T = 1 by omega]) ?_
          exact join43
  exact loop21 63 lo 0 xs ys slips _ [] (by omega) (by omega) WI_0 rfl
end
