/-! THE MODEL, 16: the reader, its small steps -/
set_option maxRecDepth 100000
theorem numV_y {X : Txt} {b k : Nat} (hb : b ≤ k) (h : k - b < 3) (hd : isDig (X.1 k) = true) : 10 * numV X b (k - b) + X.1 k - 48 = numV X b (k + 1 - b) := by
  rw [show k + 1 - b = (k - b) + 1 by omega]
  show _ = (if k - b < 3 then _ else _)
  rw [if_pos h, show b + (k - b) = k by omega]
  have := (isDig_iff.mp hd).1
  omega
theorem numV_n {X : Txt} {b k : Nat} (hb : b ≤ k) (h : ¬ k - b < 3) : numV X b (k - b) = numV X b (k + 1 - b) := by
  rw [show k + 1 - b = (k - b) + 1 by omega]
  show _ = (if k - b < 3 then _ else _)
  rw [if_neg h]
theorem numV_b {tape : Nat → Nat} {size b k w : Nat} (hw : w = numV (tape, size) b (k - b)) (hb : b ≤ k) (h : k - b < 3) (hr : run isDig (tape, size) k = run isDig (tape, size) b) (hd : k < size ∧ isDig (tape k) = true) (hT : ∀ j, tape j < 256) : 10 * w + tape k - 48 < 1000 := by
  have e := numV_y (X := (tape, size)) hb h hd.2
  have e2 : (tape, size).1 k = tape k := rfl
  rw [hw, ← e2, e]
  refine numV_lt3 _ _ _ (fun i hi => ?_)
  have hk : k < run isDig (tape, size) b := by rw [← hr]; exact run_up (X := (tape, size)) hd.1 hd.2
  exact (isDig_iff.mp (run_in (X := (tape, size)) (p := b) (by omega) (by omega : b + i < _)).2).2
section
variable {l : Launch} {D : va_G} {cl : List vw_C} {tys : List (ClassId × FieldType)} {mi : Nat} {cI cJ cZ : ClassId} {ma : Nat → Nat} {known fresh_ saved images : Nat → Int32} {isImage : Nat → Bool} {thrown : Nat} {tape : Nat → Nat} {taped size_ at_ begin_ token value open_ bad badPlace faultKind : Nat} {faultPlace : Int32} {xs ys : Nat → Nat} {pairs : Nat} {rows : Nat → Int64} {top : Nat} {heaps : Nat → Nat} {endsBehind : Nat → Int32} {path order firstOrder : Nat → Nat} {ordersMany : Nat} {tSort : Nat → Int32} {tMany : Nat → Nat} {numbers : Nat → Int64}
set_option maxHeartbeats 4000000 in
/-- a letter, or none -/
theorem ct_see (k : Nat) (hs : size_ ≤ 900) (hk : k < 2 ^ 31) : CT l D cl tys yX10_see cX10_see 2 (some .int) ({ frames := 0, cells := 0, slots := 0, locals := 0 } : Room) [.ref (ma 0), .int (nI k)] (HM D cl tys mi cI cJ cZ ma known fresh_ saved images isImage thrown tape taped size_ at_ begin_ token value open_ bad badPlace faultKind faultPlace xs ys pairs rows top heaps endsBehind path order firstOrder ordersMany tSort tMany numbers) (Qi (fun (v : Int32) (u : Unit) => v = nI (if k < size_ then tape k else 0)) (fun (u : Unit) => HM D cl tys mi cI cJ cZ ma known fresh_ saved images isImage thrown tape taped size_ at_ begin_ token value open_ bad badPlace faultKind faultPlace xs ys pairs rows top heaps endsBehind path order firstOrder ordersMany tSort tMany numbers) (AM ma)) (AM ma) := by
  refine CT.of (L := [(0, .ref (ma 0)), (1, .int (nI k))]) rfl (by decide +kernel) rfl (Nat.le_of_ble_eq_true rfl) ?_
  refine g_iload_n 1 dX10_see_0 rfl rfl ?_
  refine g_aload_n 0 dX10_see_1 rfl rfl ?_
  refine m_get_size dX10_see_2 ?_
  refine g_icmp_ge_n (tgt := 17) dX10_see_5 (by decide) (by omega) (by omega) (fun c5 => ?_) (fun c5 => ?_)
  · skip
    refine g_iconst (v := nI 0) dX10_see_17 (by decide +kernel) ?_
    exact g_iret () dX10_see_18 (Nat.le_refl _) (Nat.le_refl _) (by first | rw [if_pos (by omega)] | rw [if_neg (by omega)]) (fun _ h => h)
  · skip
    refine g_aload_n 0 dX10_see_8 rfl rfl ?_
    refine m_get_tape dX10_see_9 ?_
    refine g_iload_n 1 dX10_see_12 rfl rfl ?_
    refine m_ld_tape dX10_see_13 (by omega) ?_
    refine g_goto (tgt := 18) dX10_see_14 (by decide) ?_
    exact g_iret () dX10_see_18 (Nat.le_refl _) (Nat.le_refl _) (by first | rw [if_pos (by omega)] | rw [if_neg (by omega)]) (fun _ h => h)
set_option maxHeartbeats 4000000 in
/-- by its letter -/
theorem ct_isLetter {HP : Heap → Prop} (c : Nat) (hc : c < 2 ^ 31) : CT l D cl tys yX10_isLetter cX10_isLetter 1 (some .boolean) ({ frames := 0, cells := 0, slots := 0, locals := 0 } : Room) [.int (nI c)] (HP) (Qi (fun (v : Int32) (u : Unit) => v = bI (isLet c)) (fun (u : Unit) => HP) (AM ma)) (AM ma) := by
  refine CT.of (L := [(0, .int (nI c))]) rfl (by decide +kernel) rfl (Nat.le_of_ble_eq_true rfl) ?_
  refine g_iload_n 0 dX10_isLetter_0 rfl rfl ?_
  refine g_bipush (v := nI 97) dX10_isLetter_1 (by decide +kernel) ?_
  refine g_icmp_lt_n (tgt := 16) dX10_isLetter_3 (by decide) (by omega) (by omega) (fun c3 => ?_) (fun c3 => ?_)
  · skip
    refine g_iconst (v := nI 0) dX10_isLetter_16 (by decide +kernel) ?_
    refine GG.topi (y := bI (isLet c)) (by first | exact isLet_t (by omega) (by omega) | exact isLet_f (by omega)) ?_
    exact g_zret () dX10_isLetter_17 (Nat.le_refl _) (Nat.le_refl _) (rfl) (fun _ h => h)
  · skip
    refine g_iload_n 0 dX10_isLetter_6 rfl rfl ?_
    refine g_bipush (v := nI 122) dX10_isLetter_7 (by decide +kernel) ?_
    refine g_icmp_gt_n (tgt := 16) dX10_isLetter_9 (by decide) (by omega) (by omega) (fun c9 => ?_) (fun c9 => ?_)
    · skip
      refine g_iconst (v := nI 0) dX10_isLetter_16 (by decide +kernel) ?_
      refine GG.topi (y := bI (isLet c)) (by first | exact isLet_t (by omega) (by omega) | exact isLet_f (by omega)) ?_
      exact g_zret () dX10_isLetter_17 (Nat.le_refl _) (Nat.le_refl _) (rfl) (fun _ h => h)
    · skip
      refine g_iconst (v := nI 1) dX10_isLetter_12 (by decide +kernel) ?_
      refine g_goto (tgt := 17) dX10_isLetter_13 (by decide) ?_
      refine GG.topi (y := bI (isLet c)) (by first | exact isLet_t (by omega) (by omega) | exact isLet_f (by omega)) ?_
      exact g_zret () dX10_isLetter_17 (Nat.le_refl _) (Nat.le_refl _) (rfl) (fun _ h => h)
set_option maxHeartbeats 4000000 in
/-- by its letter -/
theorem ct_isDigit {HP : Heap → Prop} (c : Nat) (hc : c < 2 ^ 31) : CT l D cl tys yX10_isDigit cX10_isDigit 1 (some .boolean) ({ frames := 0, cells := 0, slots := 0, locals := 0 } : Room) [.int (nI c)] (HP) (Qi (fun (v : Int32) (u : Unit) => v = bI (isDig c)) (fun (u : Unit) => HP) (AM ma)) (AM ma) := by
  refine CT.of (L := [(0, .int (nI c))]) rfl (by decide +kernel) rfl (Nat.le_of_ble_eq_true rfl) ?_
  refine g_iload_n 0 dX10_isDigit_0 rfl rfl ?_
  refine g_bipush (v := nI 48) dX10_isDigit_1 (by decide +kernel) ?_
  refine g_icmp_lt_n (tgt := 16) dX10_isDigit_3 (by decide) (by omega) (by omega) (fun c3 => ?_) (fun c3 => ?_)
  · skip
    refine g_iconst (v := nI 0) dX10_isDigit_16 (by decide +kernel) ?_
    refine GG.topi (y := bI (isDig c)) (by first | exact isDig_t (by omega) (by omega) | exact isDig_f (by omega)) ?_
    exact g_zret () dX10_isDigit_17 (Nat.le_refl _) (Nat.le_refl _) (rfl) (fun _ h => h)
  · skip
    refine g_iload_n 0 dX10_isDigit_6 rfl rfl ?_
    refine g_bipush (v := nI 57) dX10_isDigit_7 (by decide +kernel) ?_
    refine g_icmp_gt_n (tgt := 16) dX10_isDigit_9 (by decide) (by omega) (by omega) (fun c9 => ?_) (fun c9 => ?_)
    · skip
      refine g_iconst (v := nI 0) dX10_isDigit_16 (by decide +kernel) ?_
      refine GG.topi (y := bI (isDig c)) (by first | exact isDig_t (by omega) (by omega) | exact isDig_f (by omega)) ?_
      exact g_zret () dX10_isDigit_17 (Nat.le_refl _) (Nat.le_refl _) (rfl) (fun _ h => h)
    · skip
      refine g_iconst (v := nI 1) dX10_isDigit_12 (by decide +kernel) ?_
      refine g_goto (tgt := 17) dX10_isDigit_13 (by decide) ?_
      refine GG.topi (y := bI (isDig c)) (by first | exact isDig_t (by omega) (by omega) | exact isDig_f (by omega)) ?_
      exact g_zret () dX10_isDigit_17 (Nat.le_refl _) (Nat.le_refl _) (rfl) (fun _ h => h)
set_option maxHeartbeats 4000000 in
/-- reads a token -/
theorem ct_reads  (hs : size_ ≤ 900) (hp9 : at_ ≤ size_) (hv9 : value < 1000) (hT : ∀ j, tape j < 256) : CT l D cl tys yX10_reads cX10_reads 2 none ({ frames := 1, cells := 0, slots := 0, locals := 21 } : Room) [.ref (ma 0)] (HM D cl tys mi cI cJ cZ ma known fresh_ saved images isImage thrown tape taped size_ at_ begin_ token value open_ bad badPlace faultKind faultPlace xs ys pairs rows top heaps endsBehind path order firstOrder ordersMany tSort tMany numbers) (Qv (fun (u : Nat × Nat × Nat × Nat) => RdP (tape, size_) at_ u.1 u.2.1 u.2.2.1 u.2.2.2) (fun (u : Nat × Nat × Nat × Nat) => HM D cl tys mi cI cJ cZ ma known fresh_ saved images isImage thrown tape taped size_ u.1 u.2.1 u.2.2.1 u.2.2.2 open_ bad badPlace faultKind faultPlace xs ys pairs rows top heaps endsBehind path order firstOrder ordersMany tSort tMany numbers) (AM ma)) (AM ma) := by
  refine CT.of (L := [(0, .ref (ma 0))]) rfl (by decide +kernel) rfl (Nat.le_of_ble_eq_true rfl) ?_
  have join52 : ∀ (b0 : Nat), (b0 ≤ size_) → (tkB (tape, size_) at_ = b0) → GG l D cl tys cX10_reads 2 none RX10 ({ frames := 1, cells := 0, slots := 0, locals := 21 } : Room) (AM ma) MT (QM (Qv (fun (u : Nat × Nat × Nat × Nat) => RdP (tape, size_) at_ u.1 u.2.1 u.2.2.1 u.2.2.2) (fun (u : Nat × Nat × Nat × Nat) => HM D cl tys mi cI cJ cZ ma known fresh_ saved images isImage thrown tape taped size_ u.1 u.2.1 u.2.2.1 u.2.2.2 open_ bad badPlace faultKind faultPlace xs ys pairs rows top heaps endsBehind path order firstOrder ordersMany tSort tMany numbers) (AM ma)) 0 0 (AM ma)) (HM D cl tys mi cI cJ cZ ma known fresh_ saved images isImage thrown tape taped size_ b0 begin_ token value open_ bad badPlace faultKind faultPlace xs ys pairs rows top heaps endsBehind path order firstOrder ordersMany tSort tMany numbers) 0 0 52 [(0, .ref (ma 0))] [] := by
    intro b0 hb0 hB
    refine g_aload_n 0 dX10_reads_52 rfl rfl ?_
    refine g_aload_n 0 dX10_reads_53 rfl rfl ?_
    refine m_get_at dX10_reads_54 ?_
    refine m_put_begin dX10_reads_57 ?_
    refine g_aload_n 0 dX10_reads_60 rfl rfl ?_
    refine m_get_at dX10_reads_61 ?_
    refine g_aload_n 0 dX10_reads_64 rfl rfl ?_
    refine m_get_size dX10_reads_65 ?_
    refine g_icmp_lt_n (tgt := 77) dX10_reads_68 (by decide) (by omega) (by omega) (fun c68 => ?_) (fun c68 => ?_)
    · skip
      refine g_aload_n 0 dX10_reads_77 rfl rfl ?_
      refine m_get_tape dX10_reads_78 ?_
      refine g_aload_n 0 dX10_reads_81 rfl rfl ?_
      refine m_get_at dX10_reads_82 ?_
      refine m_ld_tape dX10_reads_85 (by omega) ?_
      refine g_istore_n (L' := [(0, _), (1, _)]) 1 dX10_reads_86 rfl (by decide) rfl rfl ?_
      refine g_iload_n 1 dX10_reads_87 rfl rfl ?_
      refine m_cSi (ct_isLetter _ (by have := hT b0; omega)) hsX10_isLetter hyX10_isLetter rfl ⟨Nat.le_of_ble_eq_true rfl, Nat.le_of_ble_eq_true rfl⟩ ⟨Nat.zero_le _, Nat.zero_le _⟩ rfl (Nat.le_of_ble_eq_true rfl) dX10_reads_88 (fun r u9 hp => ?_)
      obtain rfl := hp
      refine g_if_eq_b (tgt := 129) dX10_reads_91 (by decide) (fun c91 => ?_) (fun c91 => ?_)
      · skip
        refine g_iload_n 1 dX10_reads_129 rfl rfl ?_
        refine m_cSi (ct_isDigit _ (by have := hT b0; omega)) hsX10_isDigit hyX10_isDigit rfl ⟨Nat.le_of_ble_eq_true rfl, Nat.le_of_ble_eq_true rfl⟩ ⟨Nat.zero_le _, Nat.zero_le _⟩ rfl (Nat.le_of_ble_eq_true rfl) dX10_reads_130 (fun r u9 hp => ?_)
        obtain rfl := hp
        refine g_if_eq_b (tgt := 237) dX10_reads_133 (by decide) (fun c133 => ?_) (fun c133 => ?_)
        · skip
          refine g_aload_n 0 dX10_reads_237 rfl rfl ?_
          refine g_iload_n 1 dX10_reads_238 rfl rfl ?_
          refine g_bipush (v := nI 59) dX10_reads_239 (by decide +kernel) ?_
          refine g_icmp_eq_n (tgt := 256) dX10_reads_241 (by decide) (by have := hT b0; omega) (by omega) (fun c241 => ?_) (fun c241 => ?_)
          · skip
            refine g_iconst (v := nI 3) dX10_reads_256 (by decide +kernel) ?_
            refine g_goto (tgt := 261) dX10_reads_257 (by decide) ?_
            refine m_put_token dX10_reads_261 ?_
            refine g_aload_n 0 dX10_reads_264 rfl rfl ?_
            refine g_iload_n 1 dX10_reads_265 rfl rfl ?_
            refine m_put_value dX10_reads_266 ?_
            refine g_aload_n 0 dX10_reads_269 rfl rfl ?_
            refine g_dup dX10_reads_270 rfl ?_
            refine m_get_at dX10_reads_271 ?_
            refine g_iconst (v := nI 1) dX10_reads_274 (by decide +kernel) ?_
            refine g_iadd_n dX10_reads_275 ?_
            refine m_put_at dX10_reads_276 ?_
            exact g_vret (_, _, _, _) dX10_reads_279 (Nat.le_refl _) (Nat.le_refl _) (by first | exact rd_end hB (by omega) hv9 | exact rd_word hB (by omega) hl9 (hr.symm.trans (run_n (seeP_f c105))) hv9 | exact rd_num hB (by omega) c91 hd9 (hr.symm.trans (run_n (seeP_f c152))) hw hw2 _ (by first | rw [if_pos (by omega)] | rw [if_neg (by omega)]) | exact rd_sign hB (by omega) c91 c133 rfl (show tape b0 < 1000 by have := hT b0; omega) _ (by first | exact isSg_t (show tape b0 = 59 ∨ tape b0 = 40 ∨ tape b0 = 41 by omega) | exact isSg_f (show ¬ (tape b0 = 59 ∨ tape b0 = 40 ∨ tape b0 = 41) by omega))) (fun _ h => h)
          · skip
            refine g_iload_n 1 dX10_reads_244 rfl rfl ?_
            refine g_bipush (v := nI 40) dX10_reads_245 (by decide +kernel) ?_
            refine g_icmp_eq_n (tgt := 256) dX10_reads_247 (by decide) (by have := hT b0; omega) (by omega) (fun c247 => ?_) (fun c247 => ?_)
            · skip
              refine g_iconst (v := nI 3) dX10_reads_256 (by decide +kernel) ?_
              refine g_goto (tgt := 261) dX10_reads_257 (by decide) ?_
              refine m_put_token dX10_reads_261 ?_
              refine g_aload_n 0 dX10_reads_264 rfl rfl ?_
              refine g_iload_n 1 dX10_reads_265 rfl rfl ?_
              refine m_put_value dX10_reads_266 ?_
              refine g_aload_n 0 dX10_reads_269 rfl rfl ?_
              refine g_dup dX10_reads_270 rfl ?_
              refine m_get_at dX10_reads_271 ?_
              refine g_iconst (v := nI 1) dX10_reads_274 (by decide +kernel) ?_
              refine g_iadd_n dX10_reads_275 ?_
              refine m_put_at dX10_reads_276 ?_
              exact g_vret (_, _, _, _) dX10_reads_279 (Nat.le_refl _) (Nat.le_refl _) (by first | exact rd_end hB (by omega) hv9 | exact rd_word hB (by omega) hl9 (hr.symm.trans (run_n (seeP_f c105))) hv9 | exact rd_num hB (by omega) c91 hd9 (hr.symm.trans (run_n (seeP_f c152))) hw hw2 _ (by first | rw [if_pos (by omega)] | rw [if_neg (by omega)]) | exact rd_sign hB (by omega) c91 c133 rfl (show tape b0 < 1000 by have := hT b0; omega) _ (by first | exact isSg_t (show tape b0 = 59 ∨ tape b0 = 40 ∨ tape b0 = 41 by omega) | exact isSg_f (show ¬ (tape b0 = 59 ∨ tape b0 = 40 ∨ tape b0 = 41) by omega))) (fun _ h => h)
            · skip
              refine g_iload_n 1 dX10_reads_250 rfl rfl ?_
              refine g_bipush (v := nI 41) dX10_reads_251 (by decide +kernel) ?_
              refine g_icmp_ne_n (tgt := 260) dX10_reads_253 (by decide) (by have := hT b0; omega) (by omega) (fun c253 => ?_) (fun c253 => ?_)
              · skip
                refine g_iconst (v := nI 4) dX10_reads_260 (by decide +kernel) ?_
                refine m_put_token dX10_reads_261 ?_
                refine g_aload_n 0 dX10_reads_264 rfl rfl ?_
                refine g_iload_n 1 dX10_reads_265 rfl rfl ?_
                refine m_put_value dX10_reads_266 ?_
                refine g_aload_n 0 dX10_reads_269 rfl rfl ?_
                refine g_dup dX10_reads_270 rfl ?_
                refine m_get_at dX10_reads_271 ?_
                refine g_iconst (v := nI 1) dX10_reads_274 (by decide +kernel) ?_
                refine g_iadd_n dX10_reads_275 ?_
                refine m_put_at dX10_reads_276 ?_
                exact g_vret (_, _, _, _) dX10_reads_279 (Nat.le_refl _) (Nat.le_refl _) (by first | exact rd_end hB (by omega) hv9 | exact rd_word hB (by omega) hl9 (hr.symm.trans (run_n (seeP_f c105))) hv9 | exact rd_num hB (by omega) c91 hd9 (hr.symm.trans (run_n (seeP_f c152))) hw hw2 _ (by first | rw [if_pos (by omega)] | rw [if_neg (by omega)]) | exact rd_sign hB (by omega) c91 c133 rfl (show tape b0 < 1000 by have := hT b0; omega) _ (by first | exact isSg_t (show tape b0 = 59 ∨ tape b0 = 40 ∨ tape b0 = 41 by omega) | exact isSg_f (show ¬ (tape b0 = 59 ∨ tape b0 = 40 ∨ tape b0 = 41) by omega))) (fun _ h => h)
              · skip
                refine g_iconst (v := nI 3) dX10_reads_256 (by decide +kernel) ?_
                refine g_goto (tgt := 261) dX10_reads_257 (by decide) ?_
                refine m_put_token dX10_reads_261 ?_
                refine g_aload_n 0 dX10_reads_264 rfl rfl ?_
                refine g_iload_n 1 dX10_reads_265 rfl rfl ?_
                refine m_put_value dX10_reads_266 ?_
                refine g_aload_n 0 dX10_reads_269 rfl rfl ?_
                refine g_dup dX10_reads_270 rfl ?_
                refine m_get_at dX10_reads_271 ?_
                refine g_iconst (v := nI 1) dX10_reads_274 (by decide +kernel) ?_
                refine g_iadd_n dX10_reads_275 ?_
                refine m_put_at dX10_reads_276 ?_
                exact g_vret (_, _, _, _) dX10_reads_279 (Nat.le_refl _) (Nat.le_refl _) (by first | exact rd_end hB (by omega) hv9 | exact rd_word hB (by omega) hl9 (hr.symm.trans (run_n (seeP_f c105))) hv9 | exact rd_num hB (by omega) c91 hd9 (hr.symm.trans (run_n (seeP_f c152))) hw hw2 _ (by first | rw [if_pos (by omega)] | rw [if_neg (by omega)]) | exact rd_sign hB (by omega) c91 c133 rfl (show tape b0 < 1000 by have := hT b0; omega) _ (by first | exact isSg_t (show tape b0 = 59 ∨ tape b0 = 40 ∨ tape b0 = 41 by omega) | exact isSg_f (show ¬ (tape b0 = 59 ∨ tape b0 = 40 ∨ tape b0 = 41) by omega))) (fun _ h => h)
        · skip
          have hd9 : isDig (tape b0) = true := c133
          refine g_aload_n 0 dX10_reads_136 rfl rfl ?_
          refine g_iconst (v := nI 0) dX10_reads_137 (by decide +kernel) ?_
          refine m_put_value dX10_reads_138 ?_
          have loop141 : ∀ (q141 : Nat) (k w : Nat), size_ - k < q141 → (b0 ≤ k ∧ k ≤ size_) → (run isDig (tape, size_) k = run isDig (tape, size_) b0) → (w = numV (tape, size_) b0 (k - b0)) → (w < 1000) → GG l D cl tys cX10_reads 2 none RX10 ({ frames := 1, cells := 0, slots := 0, locals := 21 } : Room) (AM ma) MT (QM (Qv (fun (u : Nat × Nat × Nat × Nat) => RdP (tape, size_) at_ u.1 u.2.1 u.2.2.1 u.2.2.2) (fun (u : Nat × Nat × Nat × Nat) => HM D cl tys mi cI cJ cZ ma known fresh_ saved images isImage thrown tape taped size_ u.1 u.2.1 u.2.2.1 u.2.2.2 open_ bad badPlace faultKind faultPlace xs ys pairs rows top heaps endsBehind path order firstOrder ordersMany tSort tMany numbers) (AM ma)) 0 0 (AM ma)) (HM D cl tys mi cI cJ cZ ma known fresh_ saved images isImage thrown tape taped size_ k b0 token w open_ bad badPlace faultKind faultPlace xs ys pairs rows top heaps endsBehind path order firstOrder ordersMany tSort tMany numbers) 0 0 141 [(0, .ref (ma 0)), (1, .int (nI (tape b0)))] [] := by
            intro q141
            induction q141 with
            | zero => intro k w hq141; exact absurd hq141 (Nat.not_lt_zero _)
            | succ q141 ih141 =>
              intro k w hq141 hk hr hw hw2
              refine g_aload_n 0 dX10_reads_141 rfl rfl ?_
              refine g_aload_n 0 dX10_reads_142 rfl rfl ?_
              refine m_get_at dX10_reads_143 ?_
              refine m_cVi (ct_see _ hs (by omega)) hvX10_see hyX10_see rfl ⟨Nat.le_of_ble_eq_true rfl, Nat.le_of_ble_eq_true rfl⟩ ⟨Nat.zero_le _, Nat.zero_le _⟩ rfl (Nat.le_of_ble_eq_true rfl) dX10_reads_146 m_rec (fun r u9 hp => ?_)
              obtain rfl := hp
              refine m_cSi (ct_isDigit _ (by have := hT k; split <;> omega)) hsX10_isDigit hyX10_isDigit rfl ⟨Nat.le_of_ble_eq_true rfl, Nat.le_of_ble_eq_true rfl⟩ ⟨Nat.zero_le _, Nat.zero_le _⟩ rfl (Nat.le_of_ble_eq_true rfl) dX10_reads_149 (fun r u9 hp => ?_)
              obtain rfl := hp
              refine g_if_eq_b (tgt := 212) dX10_reads_152 (by decide) (fun c152 => ?_) (fun c152 => ?_)
              · skip
                refine g_aload_n 0 dX10_reads_212 rfl rfl ?_
                refine g_aload_n 0 dX10_reads_213 rfl rfl ?_
                refine m_get_at dX10_reads_214 ?_
                refine g_aload_n 0 dX10_reads_217 rfl rfl ?_
                refine m_get_begin dX10_reads_218 ?_
                refine g_isub_n dX10_reads_221 (by omega) ?_
                refine g_iconst (v := nI 3) dX10_reads_222 (by decide +kernel) ?_
                refine g_icmp_le_n (tgt := 230) dX10_reads_223 (by decide) (by omega) (by omega) (fun c223 => ?_) (fun c223 => ?_)
                · skip
                  refine g_iconst (v := nI 2) dX10_reads_230 (by decide +kernel) ?_
                  refine m_put_token dX10_reads_231 ?_
                  refine g_goto (tgt := 279) dX10_reads_234 (by decide) ?_
                  exact g_vret (_, _, _, _) dX10_reads_279 (Nat.le_refl _) (Nat.le_refl _) (by first | exact rd_end hB (by omega) hv9 | exact rd_word hB (by omega) hl9 (hr.symm.trans (run_n (seeP_f c105))) hv9 | exact rd_num hB (by omega) c91 hd9 (hr.symm.trans (run_n (seeP_f c152))) hw hw2 _ (by first | rw [if_pos (by omega)] | rw [if_neg (by omega)]) | exact rd_sign hB (by omega) c91 c133 rfl (show tape b0 < 1000 by have := hT b0; omega) _ (by first | exact isSg_t (show tape b0 = 59 ∨ tape b0 = 40 ∨ tape b0 = 41 by omega) | exact isSg_f (show ¬ (tape b0 = 59 ∨ tape b0 = 40 ∨ tape b0 = 41) by omega))) (fun _ h => h)
                · skip
                  refine g_iconst (v := nI 4) dX10_reads_226 (by decide +kernel) ?_
                  refine g_goto (tgt := 231) dX10_reads_227 (by decide) ?_
                  refine m_put_token dX10_reads_231 ?_
                  refine g_goto (tgt := 279) dX10_reads_234 (by decide) ?_
                  exact g_vret (_, _, _, _) dX10_reads_279 (Nat.le_refl _) (Nat.le_refl _) (by first | exact rd_end hB (by omega) hv9 | exact rd_word hB (by omega) hl9 (hr.symm.trans (run_n (seeP_f c105))) hv9 | exact rd_num hB (by omega) c91 hd9 (hr.symm.trans (run_n (seeP_f c152))) hw hw2 _ (by first | rw [if_pos (by omega)] | rw [if_neg (by omega)]) | exact rd_sign hB (by omega) c91 c133 rfl (show tape b0 < 1000 by have := hT b0; omega) _ (by first | exact isSg_t (show tape b0 = 59 ∨ tape b0 = 40 ∨ tape b0 = 41 by omega) | exact isSg_f (show ¬ (tape b0 = 59 ∨ tape b0 = 40 ∨ tape b0 = 41) by omega))) (fun _ h => h)
              · skip
                have hkd := seeP_t (P := isDig) rfl c152
                refine g_aload_n 0 dX10_reads_155 rfl rfl ?_
                refine g_aload_n 0 dX10_reads_156 rfl rfl ?_
                refine m_get_at dX10_reads_157 ?_
                refine g_aload_n 0 dX10_reads_160 rfl rfl ?_
                refine m_get_begin dX10_reads_161 ?_
                refine g_isub_n dX10_reads_164 (by omega) ?_
                refine g_iconst (v := nI 3) dX10_reads_165 (by decide +kernel) ?_
                refine g_icmp_ge_n (tgt := 192) dX10_reads_166 (by decide) (by omega) (by omega) (fun c166 => ?_) (fun c166 => ?_)
                · skip
                  refine g_aload_n 0 dX10_reads_192 rfl rfl ?_
                  refine m_get_value dX10_reads_193 ?_
                  refine m_put_value dX10_reads_196 ?_
                  refine g_aload_n 0 dX10_reads_199 rfl rfl ?_
                  refine g_dup dX10_reads_200 rfl ?_
                  refine m_get_at dX10_reads_201 ?_
                  refine g_iconst (v := nI 1) dX10_reads_204 (by decide +kernel) ?_
                  refine g_iadd_n dX10_reads_205 ?_
                  refine m_put_at dX10_reads_206 ?_
                  refine g_goto (tgt := 141) dX10_reads_209 (by decide) ?_
                  first
                    | exact ih141 (k + 1) _ (by omega) (by omega) ((run_y (X := (tape, size_)) (by omega) hkd.2).symm.trans hr) (by rw [hw]; exact numV_y (by omega) (by omega) hkd.2) (numV_b hw (by omega) (by omega) hr hkd hT)
                    | exact ih141 (k + 1) _ (by omega) (by omega) ((run_y (X := (tape, size_)) (by omega) hkd.2).symm.trans hr) (by rw [hw]; exact numV_n (by omega) (by omega)) hw2
                · skip
                  refine g_bipush (v := nI 10) dX10_reads_169 (by decide +kernel) ?_
                  refine g_aload_n 0 dX10_reads_171 rfl rfl ?_
                  refine m_get_value dX10_reads_172 ?_
                  refine g_imul_n dX10_reads_175 ?_
                  refine g_aload_n 0 dX10_reads_176 rfl rfl ?_
                  refine m_get_tape dX10_reads_177 ?_
                  refine g_aload_n 0 dX10_reads_180 rfl rfl ?_
                  refine m_get_at dX10_reads_181 ?_
                  refine m_ld_tape dX10_reads_184 (by omega) ?_
                  refine g_iadd_n dX10_reads_185 ?_
                  refine g_bipush (v := nI 48) dX10_reads_186 (by decide +kernel) ?_
                  refine g_isub_n dX10_reads_188 (by have := isDig_iff.mp hkd.2; have : 48 ≤ tape k := this.1; omega) ?_
                  refine g_goto (tgt := 196) dX10_reads_189 (by decide) ?_
                  refine m_put_value dX10_reads_196 ?_
                  refine g_aload_n 0 dX10_reads_199 rfl rfl ?_
                  refine g_dup dX10_reads_200 rfl ?_
                  refine m_get_at dX10_reads_201 ?_
                  refine g_iconst (v := nI 1) dX10_reads_204 (by decide +kernel) ?_
                  refine g_iadd_n dX10_reads_205 ?_
                  refine m_put_at dX10_reads_206 ?_
                  refine g_goto (tgt := 141) dX10_reads_209 (by decide) ?_
                  first
                    | exact ih141 (k + 1) _ (by omega) (by omega) ((run_y (X := (tape, size_)) (by omega) hkd.2).symm.trans hr) (by rw [hw]; exact numV_y (by omega) (by omega) hkd.2) (numV_b hw (by omega) (by omega) hr hkd hT)
                    | exact ih141 (k + 1) _ (by omega) (by omega) ((run_y (X := (tape, size_)) (by omega) hkd.2).symm.trans hr) (by rw [hw]; exact numV_n (by omega) (by omega)) hw2
          exact loop141 (size_ + 1) b0 0 (by omega) ⟨Nat.le_refl _, hb0⟩ rfl (by rw [Nat.sub_self]; rfl) (by decide)
      · skip
        have hl9 : isLet (tape b0) = true := c91
        have loop94 : ∀ (q94 : Nat) (k : Nat), size_ - k < q94 → (k ≤ size_) → (run isLet (tape, size_) k = run isLet (tape, size_) b0) → GG l D cl tys cX10_reads 2 none RX10 ({ frames := 1, cells := 0, slots := 0, locals := 21 } : Room) (AM ma) MT (QM (Qv (fun (u : Nat × Nat × Nat × Nat) => RdP (tape, size_) at_ u.1 u.2.1 u.2.2.1 u.2.2.2) (fun (u : Nat × Nat × Nat × Nat) => HM D cl tys mi cI cJ cZ ma known fresh_ saved images isImage thrown tape taped size_ u.1 u.2.1 u.2.2.1 u.2.2.2 open_ bad badPlace faultKind faultPlace xs ys pairs rows top heaps endsBehind path order firstOrder ordersMany tSort tMany numbers) (AM ma)) 0 0 (AM ma)) (HM D cl tys mi cI cJ cZ ma known fresh_ saved images isImage thrown tape taped size_ k b0 token value open_ bad badPlace faultKind faultPlace xs ys pairs rows top heaps endsBehind path order firstOrder ordersMany tSort tMany numbers) 0 0 94 [(0, .ref (ma 0)), (1, .int (nI (tape b0)))] [] := by
          intro q94
          induction q94 with
          | zero => intro k hq94; exact absurd hq94 (Nat.not_lt_zero _)
          | succ q94 ih94 =>
            intro k hq94 hk hr
            refine g_aload_n 0 dX10_reads_94 rfl rfl ?_
            refine g_aload_n 0 dX10_reads_95 rfl rfl ?_
            refine m_get_at dX10_reads_96 ?_
            refine m_cVi (ct_see _ hs (by omega)) hvX10_see hyX10_see rfl ⟨Nat.le_of_ble_eq_true rfl, Nat.le_of_ble_eq_true rfl⟩ ⟨Nat.zero_le _, Nat.zero_le _⟩ rfl (Nat.le_of_ble_eq_true rfl) dX10_reads_99 m_rec (fun r u9 hp => ?_)
            obtain rfl := hp
            refine m_cSi (ct_isLetter _ (by have := hT k; split <;> omega)) hsX10_isLetter hyX10_isLetter rfl ⟨Nat.le_of_ble_eq_true rfl, Nat.le_of_ble_eq_true rfl⟩ ⟨Nat.zero_le _, Nat.zero_le _⟩ rfl (Nat.le_of_ble_eq_true rfl) dX10_reads_102 (fun r u9 hp => ?_)
            obtain rfl := hp
            refine g_if_eq_b (tgt := 121) dX10_reads_105 (by decide) (fun c105 => ?_) (fun c105 => ?_)
            · skip
              refine g_aload_n 0 dX10_reads_121 rfl rfl ?_
              refine g_iconst (v := nI 1) dX10_reads_122 (by decide +kernel) ?_
              refine m_put_token dX10_reads_123 ?_
              refine g_goto (tgt := 279) dX10_reads_126 (by decide) ?_
              exact g_vret (_, _, _, _) dX10_reads_279 (Nat.le_refl _) (Nat.le_refl _) (by first | exact rd_end hB (by omega) hv9 | exact rd_word hB (by omega) hl9 (hr.symm.trans (run_n (seeP_f c105))) hv9 | exact rd_num hB (by omega) c91 hd9 (hr.symm.trans (run_n (seeP_f c152))) hw hw2 _ (by first | rw [if_pos (by omega)] | rw [if_neg (by omega)]) | exact rd_sign hB (by omega) c91 c133 rfl (show tape b0 < 1000 by have := hT b0; omega) _ (by first | exact isSg_t (show tape b0 = 59 ∨ tape b0 = 40 ∨ tape b0 = 41 by omega) | exact isSg_f (show ¬ (tape b0 = 59 ∨ tape b0 = 40 ∨ tape b0 = 41) by omega))) (fun _ h => h)
            · skip
              refine g_aload_n 0 dX10_reads_108 rfl rfl ?_
              refine g_dup dX10_reads_109 rfl ?_
              refine m_get_at dX10_reads_110 ?_
              refine g_iconst (v := nI 1) dX10_reads_113 (by decide +kernel) ?_
              refine g_iadd_n dX10_reads_114 ?_
              refine m_put_at dX10_reads_115 ?_
              refine g_goto (tgt := 94) dX10_reads_118 (by decide) ?_
              have hkd := seeP_t (P := isLet) rfl c105
              exact ih94 (k + 1) (by omega) (by omega) ((run_y (X := (tape, size_)) (by omega) hkd.2).symm.trans hr)
        exact loop94 (size_ + 1) b0 (by omega) hb0 rfl
    · skip
      refine g_aload_n 0 dX10_reads_71 rfl rfl ?_
      refine g_iconst (v := nI 0) dX10_reads_72 (by decide +kernel) ?_
      refine m_put_token dX10_reads_73 ?_
      exact g_vret (_, _, _, _) dX10_reads_76 (Nat.le_refl _) (Nat.le_refl _) (by first | exact rd_end hB (by omega) hv9 | exact rd_word hB (by omega) hl9 (hr.symm.trans (run_n (seeP_f c105))) hv9 | exact rd_num hB (by omega) c91 hd9 (hr.symm.trans (run_n (seeP_f c152))) hw hw2 _ (by first | rw [if_pos (by omega)] | rw [if_neg (by omega)]) | exact rd_sign hB (by omega) c91 c133 rfl (show tape b0 < 1000 by have := hT b0; omega) _ (by first | exact isSg_t (show tape b0 = 59 ∨ tape b0 = 40 ∨ tape b0 = 41 by omega) | exact isSg_f (show ¬ (tape b0 = 59 ∨ tape b0 = 40 ∨ tape b0 = 41) by omega))) (fun _ h => h)
  have loop0 : ∀ (q0 : Nat) (k : Nat), size_ - k < q0 → (k ≤ size_) → (run isWs (tape, size_) k = tkB (tape, size_) at_) → GG l D cl tys cX10_reads 2 none RX10 ({ frames := 1, cells := 0, slots := 0, locals := 21 } : Room) (AM ma) MT (QM (Qv (fun (u : Nat × Nat × Nat × Nat) => RdP (tape, size_) at_ u.1 u.2.1 u.2.2.1 u.2.2.2) (fun (u : Nat × Nat × Nat × Nat) => HM D cl tys mi cI cJ cZ ma known fresh_ saved images isImage thrown tape taped size_ u.1 u.2.1 u.2.2.1 u.2.2.2 open_ bad badPlace faultKind faultPlace xs ys pairs rows top heaps endsBehind path order firstOrder ordersMany tSort tMany numbers) (AM ma)) 0 0 (AM ma)) (HM D cl tys mi cI cJ cZ ma known fresh_ saved images isImage thrown tape taped size_ k begin_ token value open_ bad badPlace faultKind faultPlace xs ys pairs rows top heaps endsBehind path order firstOrder ordersMany tSort tMany numbers) 0 0 0 [(0, .ref (ma 0))] [] := by
    intro q0
    induction q0 with
    | zero => intro k hq0; exact absurd hq0 (Nat.not_lt_zero _)
    | succ q0 ih0 =>
      intro k hq0 hk hr
      refine g_aload_n 0 dX10_reads_0 rfl rfl ?_
      refine m_get_at dX10_reads_1 ?_
      refine g_aload_n 0 dX10_reads_4 rfl rfl ?_
      refine m_get_size dX10_reads_5 ?_
      refine g_icmp_ge_n (tgt := 52) dX10_reads_8 (by decide) (by omega) (by omega) (fun c8 => ?_) (fun c8 => ?_)
      · skip
        exact join52 k hk (hr.symm.trans (run_n (fun q => by first | omega | (have q2 := isWs_iff.mp q.2; have q3 : tape k = 32 ∨ tape k = 10 := q2; omega))))
      · skip
        refine g_aload_n 0 dX10_reads_11 rfl rfl ?_
        refine m_get_tape dX10_reads_12 ?_
        refine g_aload_n 0 dX10_reads_15 rfl rfl ?_
        refine m_get_at dX10_reads_16 ?_
        refine m_ld_tape dX10_reads_19 (by omega) ?_
        refine g_bipush (v := nI 32) dX10_reads_20 (by decide +kernel) ?_
        refine g_icmp_eq_n (tgt := 39) dX10_reads_22 (by decide) (by have := hT k; omega) (by omega) (fun c22 => ?_) (fun c22 => ?_)
        · skip
          refine g_aload_n 0 dX10_reads_39 rfl rfl ?_
          refine g_dup dX10_reads_40 rfl ?_
          refine m_get_at dX10_reads_41 ?_
          refine g_iconst (v := nI 1) dX10_reads_44 (by decide +kernel) ?_
          refine g_iadd_n dX10_reads_45 ?_
          refine m_put_at dX10_reads_46 ?_
          refine g_goto (tgt := 0) dX10_reads_49 (by decide) ?_
          exact ih0 (k + 1) (by omega) (by omega) ((run_y (X := (tape, size_)) (by omega) (isWs_iff.mpr (show tape k = 32 ∨ tape k = 10 by omega))).symm.trans hr)
        · skip
          refine g_aload_n 0 dX10_reads_25 rfl rfl ?_
          refine m_get_tape dX10_reads_26 ?_
          refine g_aload_n 0 dX10_reads_29 rfl rfl ?_
          refine m_get_at dX10_reads_30 ?_
          refine m_ld_tape dX10_reads_33 (by omega) ?_
          refine g_bipush (v := nI 10) dX10_reads_34 (by decide +kernel) ?_
          refine g_icmp_ne_n (tgt := 52) dX10_reads_36 (by decide) (by have := hT k; omega) (by omega) (fun c36 => ?_) (fun c36 => ?_)
          · skip
            exact join52 k hk (hr.symm.trans (run_n (fun q => by first | omega | (have q2 := isWs_iff.mp q.2; have q3 : tape k = 32 ∨ tape k = 10 := q2; omega))))
          · skip
            refine g_aload_n 0 dX10_reads_39 rfl rfl ?_
            refine g_dup dX10_reads_40 rfl ?_
            refine m_get_at dX10_reads_41 ?_
            refine g_iconst (v := nI 1) dX10_reads_44 (by decide +kernel) ?_
            refine g_iadd_n dX10_reads_45 ?_
            refine m_put_at dX10_reads_46 ?_
            refine g_goto (tgt := 0) dX10_reads_49 (by decide) ?_
            exact ih0 (k + 1) (by omega) (by omega) ((run_y (X := (tape, size_)) (by omega) (isWs_iff.mpr (show tape k = 32 ∨ tape k = 10 by omega))).symm.trans hr)
  exact loop0 (size_ + 1) at_ (by omega) hp9 rfl
end
