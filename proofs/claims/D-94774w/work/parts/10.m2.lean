/-! THE MODEL, 2: slips, heaps, knowing and seeing, pairs -/
set_option maxRecDepth 100000
theorem sub_nI_inj {a b : Nat} (ha : a < 2 ^ 31) (hb : b < 2 ^ 31) : nI a - nI b = 0 ↔ a = b := by
  constructor
  · intro h
    have : nI a = nI b := by
      have h2 : nI a - nI b + nI b = 0 + nI b := by rw [h]
      rw [Int32.sub_add_cancel, Int32.zero_add] at h2
      exact h2
    exact (nI_eq ha hb).mp this
  · intro h
    rw [h, Int32.sub_self]
theorem sub_nI_0 {a b : Nat} (ha : a < 2 ^ 31) (hb : b < 2 ^ 31) (h : a = b) : nI a - nI b = 0 := (sub_nI_inj ha hb).mpr h
theorem sub_nI_0i {a b : Nat} (ha : a < 2 ^ 31) (hb : b < 2 ^ 31) (h : nI a - nI b = 0) : a = b := (sub_nI_inj ha hb).mp h
section
variable {l : Launch} {D : va_G} {cl : List vw_C} {tys : List (ClassId × FieldType)} {mi : Nat} {cI cJ cZ : ClassId} {ma : Nat → Nat} {known fresh_ saved images : Nat → Int32} {isImage : Nat → Bool} {thrown : Nat} {tape : Nat → Nat} {taped size_ at_ begin_ token value open_ bad badPlace faultKind : Nat} {faultPlace : Int32} {xs ys : Nat → Nat} {pairs : Nat} {rows : Nat → Int64} {top : Nat} {heaps : Nat → Nat} {endsBehind : Nat → Int32} {path order firstOrder : Nat → Nat} {ordersMany : Nat} {tSort : Nat → Int32} {tMany : Nat → Nat} {numbers : Nat → Int64}
/-- counted worlds: those of f (and not of g) that look like w -/
def likeN (P : Nat) (sl : Nat → Nat) (f : Nat → Bool) (w : Nat) : Nat := cnt (fun v => decide (sl v = sl w) && f v) P
def knowF (P : Nat) (sl : Nat → Nat) (f : Nat → Bool) (w : Nat) : Bool := decide (likeN P sl f w = if f w = true then 1 else 0)
def seeF (P : Nat) (sl : Nat → Nat) (f g : Nat → Bool) (w : Nat) : Bool := decide (likeN P sl (fun v => f v && !g v) w = 0)
def slW (kd : Nat) (xs ys : Nat → Nat) (w : Nat) : Nat := slipN kd (xs w) (ys w)
theorem slW_lt {kd P w : Nat} {xs ys : Nat → Nat} (h : wOK P xs ys) (hw : w < P) : slW kd xs ys w < 7201 := slipN_lt (h.2 w hw).1 (h.2 w hw).2.1
theorem likeN_0 (sl : Nat → Nat) (f : Nat → Bool) (w : Nat) : likeN 0 sl f w = 0 := rfl
theorem likeN_y {sl : Nat → Nat} {f : Nat → Bool} {w v : Nat} (hf : f w = true) (hs : sl w = sl v) : likeN (w + 1) sl f v = likeN w sl f v + 1 := by
  show cnt _ w + _ = _
  rw [if_pos (by simp [hf, hs])]; rfl
theorem likeN_n {sl : Nat → Nat} {f : Nat → Bool} {w v : Nat} (h : f w = false ∨ ¬ sl w = sl v) : likeN (w + 1) sl f v = likeN w sl f v := by
  show cnt _ w + _ = _
  rw [if_neg (by rcases h with h | h <;> simp [h])]; rfl
theorem likeN_le (P : Nat) (sl : Nat → Nat) (f : Nat → Bool) (w : Nat) : likeN P sl f w ≤ P := cnt_le _ _
/-- heaps counted up to w -/
def heapsAt (heaps : Nat → Nat) (P w : Nat) (sl : Nat → Nat) (f : Nat → Bool) : Prop := ∀ v, v < P → heaps (sl v) = likeN w sl f v
theorem heapsAt_up {heaps : Nat → Nat} {P w : Nat} {sl : Nat → Nat} {f : Nat → Bool} (h : heapsAt heaps P w sl f) (hw : w < P) (hf : f w = true) : heapsAt (up heaps (sl w) (heaps (sl w) + 1)) P (w + 1) sl f := by
  intro v hv
  unfold up
  by_cases q : sl v = sl w
  · rw [if_pos q, likeN_y hf q.symm, h w hw]
    have := h v hv
    rw [q, h w hw] at this
    rw [this]
  · rw [if_neg q, likeN_n (Or.inr (fun z => q z.symm)), h v hv]
theorem heapsAt_skip {heaps : Nat → Nat} {P w : Nat} {sl : Nat → Nat} {f : Nat → Bool} (h : heapsAt heaps P w sl f) (hf : f w = false) : heapsAt heaps P (w + 1) sl f := by
  intro v hv
  rw [likeN_n (Or.inl hf), h v hv]
set_option maxHeartbeats 4000000 in
/-- what a speaker is told of a world -/
theorem ct_slip (s0 w0 kd : Nat) (hs : s0 < 600) (hk : known (8 + 3 * s0 + 0) = nI kd) (hkd : kd < 2 ^ 31) (h0 : w0 < pairs) (hW : wOK pairs xs ys) : CT l D cl tys yX10_slip cX10_slip 5 (some .int) ({ frames := 1, cells := 0, slots := 0, locals := 22 } : Room) [.ref (ma 0), .int (nI s0), .int (nI w0)] (HM D cl tys mi cI cJ cZ ma known fresh_ saved images isImage thrown tape taped size_ at_ begin_ token value open_ bad badPlace faultKind faultPlace xs ys pairs rows top heaps endsBehind path order firstOrder ordersMany tSort tMany numbers) (Qi (fun (v : Int32) (u : Unit) => v = nI (slW kd xs ys w0)) (fun (u : Unit) => HM D cl tys mi cI cJ cZ ma known fresh_ saved images isImage thrown tape taped size_ at_ begin_ token value open_ bad badPlace faultKind faultPlace xs ys pairs rows top heaps endsBehind path order firstOrder ordersMany tSort tMany numbers) (AM ma)) (AM ma) := by
  refine CT.of (L := [(0, .ref (ma 0)), (1, .int (nI s0)), (2, .int (nI w0))]) rfl (by decide +kernel) rfl (Nat.le_of_ble_eq_true rfl) ?_
  refine g_aload_n 0 dX10_slip_0 rfl rfl ?_
  refine m_get_xs dX10_slip_1 ?_
  refine g_iload_n 2 dX10_slip_4 rfl rfl ?_
  refine m_ld_xs dX10_slip_5 (by have := hW.1; omega) ?_
  refine g_istore_n (L' := [(0, _), (1, _), (2, _), (3, _)]) 3 dX10_slip_6 rfl (by decide) rfl rfl ?_
  refine g_aload_n 0 dX10_slip_7 rfl rfl ?_
  refine m_get_ys dX10_slip_8 ?_
  refine g_iload_n 2 dX10_slip_11 rfl rfl ?_
  refine m_ld_ys dX10_slip_12 (by have := hW.1; omega) ?_
  refine g_istore (L' := [(0, _), (1, _), (2, _), (3, _), (4, _)]) dX10_slip_13 (by decide) rfl rfl ?_
  refine g_aload_n 0 dX10_slip_15 rfl rfl ?_
  refine g_iload_n 1 dX10_slip_16 rfl rfl ?_
  refine g_iconst (v := nI 0) dX10_slip_17 (by decide +kernel) ?_
  refine m_cVi (ct_of _ _ (by omega)) hvX10_of hyX10_of rfl ⟨Nat.le_of_ble_eq_true rfl, Nat.le_of_ble_eq_true rfl⟩ ⟨Nat.zero_le _, Nat.zero_le _⟩ rfl (Nat.le_of_ble_eq_true rfl) dX10_slip_18 m_rec (fun r u hp => ?_)
  obtain rfl := hp
  refine GG.topi hk ?_
  rcases (show kd = 0 ∨ kd = 1 ∨ kd = 2 ∨ kd = 3 ∨ kd = 4 ∨ kd = 5 ∨ kd = 6 ∨ kd = 7 ∨ 8 ≤ kd by omega) with rfl | rfl | rfl | rfl | rfl | rfl | rfl | rfl | h8
  · refine g_table_n (a := 0) (tgt := 68) dX10_slip_21 (by decide) (by decide) (by decide) rfl (by decide) ?_
    refine g_iload_n 3 dX10_slip_68 rfl rfl ?_
    refine g_iload dX10_slip_69 rfl ?_
    refine g_iadd_n dX10_slip_71 ?_
    exact g_iret () dX10_slip_72 (Nat.le_refl _) (Nat.le_refl _) (rfl) (fun _ h => h)
  · refine g_table_n (a := 1) (tgt := 73) dX10_slip_21 (by decide) (by decide) (by decide) rfl (by decide) ?_
    refine g_iload_n 3 dX10_slip_73 rfl rfl ?_
    refine g_iload dX10_slip_74 rfl ?_
    refine g_imul_n dX10_slip_76 ?_
    exact g_iret () dX10_slip_77 (Nat.le_refl _) (Nat.le_refl _) (rfl) (fun _ h => h)
  · refine g_table_n (a := 2) (tgt := 78) dX10_slip_21 (by decide) (by decide) (by decide) rfl (by decide) ?_
    refine g_iload dX10_slip_78 rfl ?_
    exact g_iret () dX10_slip_80 (Nat.le_refl _) (Nat.le_refl _) (rfl) (fun _ h => h)
  · refine g_table_n (a := 3) (tgt := 81) dX10_slip_21 (by decide) (by decide) (by decide) rfl (by decide) ?_
    refine g_iload_n 3 dX10_slip_81 rfl rfl ?_
    exact g_iret () dX10_slip_82 (Nat.le_refl _) (Nat.le_refl _) (rfl) (fun _ h => h)
  · refine g_table_n (a := 4) (tgt := 83) dX10_slip_21 (by decide) (by decide) (by decide) rfl (by decide) ?_
    refine g_iload dX10_slip_83 rfl ?_
    refine g_iload_n 3 dX10_slip_85 rfl rfl ?_
    refine g_isub_n dX10_slip_86 (hW.2 w0 h0).2.2 ?_
    exact g_iret () dX10_slip_87 (Nat.le_refl _) (Nat.le_refl _) (rfl) (fun _ h => h)
  · refine g_table_n (a := 5) (tgt := 88) dX10_slip_21 (by decide) (by decide) (by decide) rfl (by decide) ?_
    refine g_iload_n 3 dX10_slip_88 rfl rfl ?_
    refine g_iload_n 3 dX10_slip_89 rfl rfl ?_
    refine g_imul_n dX10_slip_90 ?_
    refine g_iload dX10_slip_91 rfl ?_
    refine g_iload dX10_slip_93 rfl ?_
    refine g_imul_n dX10_slip_95 ?_
    refine g_iadd_n dX10_slip_96 ?_
    exact g_iret () dX10_slip_97 (Nat.le_refl _) (Nat.le_refl _) (rfl) (fun _ h => h)
  · refine g_table_n (a := 6) (tgt := 98) dX10_slip_21 (by decide) (by decide) (by decide) rfl (by decide) ?_
    refine g_iload_n 3 dX10_slip_98 rfl rfl ?_
    refine g_iload dX10_slip_99 rfl ?_
    refine g_iadd_n dX10_slip_101 ?_
    refine g_iconst (v := nI 2) dX10_slip_102 (by decide +kernel) ?_
    refine g_irem_n dX10_slip_103 (by have := (hW.2 w0 h0).1; have := (hW.2 w0 h0).2.1; omega) (by decide) (by decide) ?_
    exact g_iret () dX10_slip_104 (Nat.le_refl _) (Nat.le_refl _) (rfl) (fun _ h => h)
  · refine g_table_n (a := 7) (tgt := 105) dX10_slip_21 (by decide) (by decide) (by decide) rfl (by decide) ?_
    refine g_iload_n 3 dX10_slip_105 rfl rfl ?_
    refine g_iload dX10_slip_106 rfl ?_
    refine g_iadd_n dX10_slip_108 ?_
    refine g_bipush (v := nI 10) dX10_slip_109 (by decide +kernel) ?_
    refine g_irem_n dX10_slip_111 (by have := (hW.2 w0 h0).1; have := (hW.2 w0 h0).2.1; omega) (by decide) (by decide) ?_
    exact g_iret () dX10_slip_112 (Nat.le_refl _) (Nat.le_refl _) (rfl) (fun _ h => h)
  · refine g_tableOut_n (a := kd) (tgt := 113) dX10_slip_21 (by omega) (by omega) (by decide) ?_
    refine g_iconst (v := nI 0) dX10_slip_113 (by decide +kernel) ?_
    exact g_iret () dX10_slip_114 (Nat.le_refl _) (Nat.le_refl _) (by unfold slW; rw [slipN_8 h8]) (fun _ h => h)
set_option maxHeartbeats 4000000 in
/-- counts by slips -/
theorem ct_heapUpN (s0 r0 kd : Nat) (hs : s0 < 600) (hk : known (8 + 3 * s0 + 0) = nI kd) (hkd : kd < 2 ^ 31) (hr : r0 < 85) (hW : wOK pairs xs ys) : CT l D cl tys yX10_heapUp cX10_heapUp 5 none ({ frames := 2, cells := 0, slots := 0, locals := 46 } : Room) [.ref (ma 0), .int (nI s0), .int (nI r0), .int (-1)] (HM D cl tys mi cI cJ cZ ma known fresh_ saved images isImage thrown tape taped size_ at_ begin_ token value open_ bad badPlace faultKind faultPlace xs ys pairs rows top heaps endsBehind path order firstOrder ordersMany tSort tMany numbers) (Qv (fun (u : Nat → Nat) => heapsAt u pairs pairs (slW kd xs ys) (rbt rows r0)) (fun (u : Nat → Nat) => HM D cl tys mi cI cJ cZ ma known fresh_ saved images isImage thrown tape taped size_ at_ begin_ token value open_ bad badPlace faultKind faultPlace xs ys pairs rows top u endsBehind path order firstOrder ordersMany tSort tMany numbers) (AM ma)) (AM ma) := by
  have hP : pairs ≤ 1830 := hW.1
  refine CT.of (L := [(0, .ref (ma 0)), (1, .int (nI s0)), (2, .int (nI r0)), (3, .int (-1))]) rfl (by decide +kernel) rfl (Nat.le_of_ble_eq_true rfl) ?_
  refine g_iconst (v := nI 0) dX10_heapUp_0 (by decide +kernel) ?_
  refine g_istore (L' := [(0, _), (1, _), (2, _), (3, _), (4, _)]) dX10_heapUp_1 (by decide) rfl rfl ?_
  have loop3 : ∀ (q3 : Nat) (w : Nat) (heaps1 : Nat → Nat), pairs - w < q3 → (w ≤ pairs) → (∀ v, v < w → heaps1 (slW kd xs ys v) = 0) → GG l D cl tys cX10_heapUp 5 none RX10 ({ frames := 2, cells := 0, slots := 0, locals := 46 } : Room) (AM ma) MT (QM (Qv (fun (u : Nat → Nat) => heapsAt u pairs pairs (slW kd xs ys) (rbt rows r0)) (fun (u : Nat → Nat) => HM D cl tys mi cI cJ cZ ma known fresh_ saved images isImage thrown tape taped size_ at_ begin_ token value open_ bad badPlace faultKind faultPlace xs ys pairs rows top u endsBehind path order firstOrder ordersMany tSort tMany numbers) (AM ma)) 0 0 (AM ma)) (HM D cl tys mi cI cJ cZ ma known fresh_ saved images isImage thrown tape taped size_ at_ begin_ token value open_ bad badPlace faultKind faultPlace xs ys pairs rows top heaps1 endsBehind path order firstOrder ordersMany tSort tMany numbers) 0 0 3 [(0, .ref (ma 0)), (1, .int (nI s0)), (2, .int (nI r0)), (3, .int (-1)), (4, .int (nI w))] [] := by
    intro q3
    induction q3 with
    | zero => intro w heaps1 hq3; exact absurd hq3 (Nat.not_lt_zero _)
    | succ q3 ih3 =>
      intro w heaps1 hq3 hw hi
      refine g_iload dX10_heapUp_3 rfl ?_
      refine g_aload_n 0 dX10_heapUp_5 rfl rfl ?_
      refine m_get_pairs dX10_heapUp_6 ?_
      refine g_icmp_ge_n (tgt := 31) dX10_heapUp_9 (by decide) (by omega) (by omega) (fun c9 => ?_) (fun c9 => ?_)
      · skip
        refine g_iconst (v := nI 0) dX10_heapUp_31 (by decide +kernel) ?_
        refine g_istore (L' := [(0, _), (1, _), (2, _), (3, _), (4, _)]) dX10_heapUp_32 (by decide) rfl rfl ?_
        have loop34 : ∀ (q34 : Nat) (w : Nat) (heaps2 : Nat → Nat), pairs - w < q34 → (w ≤ pairs) → (heapsAt heaps2 pairs w (slW kd xs ys) (rbt rows r0)) → GG l D cl tys cX10_heapUp 5 none RX10 ({ frames := 2, cells := 0, slots := 0, locals := 46 } : Room) (AM ma) MT (QM (Qv (fun (u : Nat → Nat) => heapsAt u pairs pairs (slW kd xs ys) (rbt rows r0)) (fun (u : Nat → Nat) => HM D cl tys mi cI cJ cZ ma known fresh_ saved images isImage thrown tape taped size_ at_ begin_ token value open_ bad badPlace faultKind faultPlace xs ys pairs rows top u endsBehind path order firstOrder ordersMany tSort tMany numbers) (AM ma)) 0 0 (AM ma)) (HM D cl tys mi cI cJ cZ ma known fresh_ saved images isImage thrown tape taped size_ at_ begin_ token value open_ bad badPlace faultKind faultPlace xs ys pairs rows top heaps2 endsBehind path order firstOrder ordersMany tSort tMany numbers) 0 0 34 [(0, .ref (ma 0)), (1, .int (nI s0)), (2, .int (nI r0)), (3, .int (-1)), (4, .int (nI w))] [] := by
          intro q34
          induction q34 with
          | zero => intro w heaps2 hq34; exact absurd hq34 (Nat.not_lt_zero _)
          | succ q34 ih34 =>
            intro w heaps2 hq34 hw2 hi2
            refine g_iload dX10_heapUp_34 rfl ?_
            refine g_aload_n 0 dX10_heapUp_36 rfl rfl ?_
            refine m_get_pairs dX10_heapUp_37 ?_
            refine g_icmp_ge_n (tgt := 90) dX10_heapUp_40 (by decide) (by omega) (by omega) (fun c40 => ?_) (fun c40 => ?_)
            · skip
              exact g_vret heaps2 dX10_heapUp_90 (Nat.le_refl _) (Nat.le_refl _) (by have e9 : w = pairs := (by omega); rw [e9] at hi2; exact hi2) (fun _ h => h)
            · skip
              refine g_aload_n 0 dX10_heapUp_43 rfl rfl ?_
              refine g_iload_n 2 dX10_heapUp_44 rfl rfl ?_
              refine g_iload dX10_heapUp_45 rfl ?_
              refine m_cVi (ct_has _ _ (by omega) (by omega)) hvX10_has hyX10_has rfl ⟨Nat.le_of_ble_eq_true rfl, Nat.le_of_ble_eq_true rfl⟩ ⟨Nat.zero_le _, Nat.zero_le _⟩ rfl (Nat.le_of_ble_eq_true rfl) dX10_heapUp_47 m_rec (fun r u hp => ?_)
              obtain rfl := hp
              refine g_if_eq_b (tgt := 84) dX10_heapUp_50 (by decide) (fun c50 => ?_) (fun c50 => ?_)
              · skip
                refine g_iinc_n (b := 1) (L' := [(0, _), (1, _), (2, _), (3, _), (4, _)]) dX10_heapUp_84 rfl rfl (by decide) rfl rfl ?_
                refine g_goto (tgt := 34) dX10_heapUp_87 (by decide) ?_
                first
                  | exact ih34 (w + 1) _ (by omega) (by omega) (heapsAt_up hi2 c40 (by first | exact c50 | (simp [c50, c65]; done)))
                  | exact ih34 (w + 1) _ (by omega) (by omega) (heapsAt_skip hi2 (by first | exact c50 | (simp [c50, c65]; done) | (simp [c50]; done)))
              · skip
                refine g_iload_n 3 dX10_heapUp_53 rfl rfl ?_
                refine g_iconst (v := -1) dX10_heapUp_54 (by decide +kernel) ?_
                refine g_icmp_eq (tgt := 68) dX10_heapUp_55 (by decide) (fun c55 => ?_) (fun c55 => ?_)
                · skip
                  refine g_aload_n 0 dX10_heapUp_68 rfl rfl ?_
                  refine m_get_heaps dX10_heapUp_69 ?_
                  refine g_aload_n 0 dX10_heapUp_72 rfl rfl ?_
                  refine g_iload_n 1 dX10_heapUp_73 rfl rfl ?_
                  refine g_iload dX10_heapUp_74 rfl ?_
                  refine m_cVi (ct_slip _ _ kd (by omega) hk hkd (by omega) hW) hvX10_slip hyX10_slip rfl ⟨Nat.le_of_ble_eq_true rfl, Nat.le_of_ble_eq_true rfl⟩ ⟨Nat.zero_le _, Nat.zero_le _⟩ rfl (Nat.le_of_ble_eq_true rfl) dX10_heapUp_76 m_rec (fun r u hp => ?_)
                  obtain rfl := hp
                  refine g_dup2_11 dX10_heapUp_79 rfl rfl ?_
                  refine m_ld_heaps dX10_heapUp_80 (slW_lt hW c40) ?_
                  refine g_iconst (v := nI 1) dX10_heapUp_81 (by decide +kernel) ?_
                  refine g_iadd_n dX10_heapUp_82 ?_
                  refine m_st_heaps dX10_heapUp_83 (slW_lt hW c40) ?_
                  refine g_iinc_n (b := 1) (L' := [(0, _), (1, _), (2, _), (3, _), (4, _)]) dX10_heapUp_84 rfl rfl (by decide) rfl rfl ?_
                  refine g_goto (tgt := 34) dX10_heapUp_87 (by decide) ?_
                  first
                    | exact ih34 (w + 1) _ (by omega) (by omega) (heapsAt_up hi2 c40 (by first | exact c50 | (simp [c50, c65]; done)))
                    | exact ih34 (w + 1) _ (by omega) (by omega) (heapsAt_skip hi2 (by first | exact c50 | (simp [c50, c65]; done) | (simp [c50]; done)))
                · skip
                  exact absurd rfl c55
        have e9 : w = pairs := by omega
        exact loop34 (pairs + 1) 0 heaps1 (by omega) (by omega) (fun v hv => by rw [likeN_0]; exact hi v (by omega))
      · skip
        refine g_aload_n 0 dX10_heapUp_12 rfl rfl ?_
        refine m_get_heaps dX10_heapUp_13 ?_
        refine g_aload_n 0 dX10_heapUp_16 rfl rfl ?_
        refine g_iload_n 1 dX10_heapUp_17 rfl rfl ?_
        refine g_iload dX10_heapUp_18 rfl ?_
        refine m_cVi (ct_slip _ _ kd (by omega) hk hkd (by omega) hW) hvX10_slip hyX10_slip rfl ⟨Nat.le_of_ble_eq_true rfl, Nat.le_of_ble_eq_true rfl⟩ ⟨Nat.zero_le _, Nat.zero_le _⟩ rfl (Nat.le_of_ble_eq_true rfl) dX10_heapUp_20 m_rec (fun r u hp => ?_)
        obtain rfl := hp
        refine g_iconst (v := nI 0) dX10_heapUp_23 (by decide +kernel) ?_
        refine m_st_heaps dX10_heapUp_24 (slW_lt hW c9) ?_
        refine g_iinc_n (b := 1) (L' := [(0, _), (1, _), (2, _), (3, _), (4, _)]) dX10_heapUp_25 rfl rfl (by decide) rfl rfl ?_
        refine g_goto (tgt := 3) dX10_heapUp_28 (by decide) ?_
        refine ih3 (w + 1) _ (by omega) (by omega) (fun v hv => ?_)
        unfold up; split
        · rfl
        · rename_i q9
          rcases Nat.lt_succ_iff_lt_or_eq.mp hv with h9 | h9
          · exact hi v h9
          · exact absurd (by rw [h9]) q9
  exact loop3 (pairs + 1) 0 heaps (by omega) (by omega) (fun v hv => absurd hv (Nat.not_lt_zero _))
set_option maxHeartbeats 4000000 in
/-- counts by slips -/
theorem ct_heapUpW (s0 r0 kd o0 : Nat) (hs : s0 < 600) (hk : known (8 + 3 * s0 + 0) = nI kd) (hkd : kd < 2 ^ 31) (hr : r0 < 85) (ho : o0 < 85) (hW : wOK pairs xs ys) : CT l D cl tys yX10_heapUp cX10_heapUp 5 none ({ frames := 2, cells := 0, slots := 0, locals := 46 } : Room) [.ref (ma 0), .int (nI s0), .int (nI r0), .int (nI o0)] (HM D cl tys mi cI cJ cZ ma known fresh_ saved images isImage thrown tape taped size_ at_ begin_ token value open_ bad badPlace faultKind faultPlace xs ys pairs rows top heaps endsBehind path order firstOrder ordersMany tSort tMany numbers) (Qv (fun (u : Nat → Nat) => heapsAt u pairs pairs (slW kd xs ys) (fun v => rbt rows r0 v && !rbt rows o0 v)) (fun (u : Nat → Nat) => HM D cl tys mi cI cJ cZ ma known fresh_ saved images isImage thrown tape taped size_ at_ begin_ token value open_ bad badPlace faultKind faultPlace xs ys pairs rows top u endsBehind path order firstOrder ordersMany tSort tMany numbers) (AM ma)) (AM ma) := by
  have hP : pairs ≤ 1830 := hW.1
  refine CT.of (L := [(0, .ref (ma 0)), (1, .int (nI s0)), (2, .int (nI r0)), (3, .int (nI o0))]) rfl (by decide +kernel) rfl (Nat.le_of_ble_eq_true rfl) ?_
  refine g_iconst (v := nI 0) dX10_heapUp_0 (by decide +kernel) ?_
  refine g_istore (L' := [(0, _), (1, _), (2, _), (3, _), (4, _)]) dX10_heapUp_1 (by decide) rfl rfl ?_
  have loop3 : ∀ (q3 : Nat) (w : Nat) (heaps1 : Nat → Nat), pairs - w < q3 → (w ≤ pairs) → (∀ v, v < w → heaps1 (slW kd xs ys v) = 0) → GG l D cl tys cX10_heapUp 5 none RX10 ({ frames := 2, cells := 0, slots := 0, locals := 46 } : Room) (AM ma) MT (QM (Qv (fun (u : Nat → Nat) => heapsAt u pairs pairs (slW kd xs ys) (fun v => rbt rows r0 v && !rbt rows o0 v)) (fun (u : Nat → Nat) => HM D cl tys mi cI cJ cZ ma known fresh_ saved images isImage thrown tape taped size_ at_ begin_ token value open_ bad badPlace faultKind faultPlace xs ys pairs rows top u endsBehind path order firstOrder ordersMany tSort tMany numbers) (AM ma)) 0 0 (AM ma)) (HM D cl tys mi cI cJ cZ ma known fresh_ saved images isImage thrown tape taped size_ at_ begin_ token value open_ bad badPlace faultKind faultPlace xs ys pairs rows top heaps1 endsBehind path order firstOrder ordersMany tSort tMany numbers) 0 0 3 [(0, .ref (ma 0)), (1, .int (nI s0)), (2, .int (nI r0)), (3, .int (nI o0)), (4, .int (nI w))] [] := by
    intro q3
    induction q3 with
    | zero => intro w heaps1 hq3; exact absurd hq3 (Nat.not_lt_zero _)
    | succ q3 ih3 =>
      intro w heaps1 hq3 hw hi
      refine g_iload dX10_heapUp_3 rfl ?_
      refine g_aload_n 0 dX10_heapUp_5 rfl rfl ?_
      refine m_get_pairs dX10_heapUp_6 ?_
      refine g_icmp_ge_n (tgt := 31) dX10_heapUp_9 (by decide) (by omega) (by omega) (fun c9 => ?_) (fun c9 => ?_)
      · skip
        refine g_iconst (v := nI 0) dX10_heapUp_31 (by decide +kernel) ?_
        refine g_istore (L' := [(0, _), (1, _), (2, _), (3, _), (4, _)]) dX10_heapUp_32 (by decide) rfl rfl ?_
        have loop34 : ∀ (q34 : Nat) (w : Nat) (heaps2 : Nat → Nat), pairs - w < q34 → (w ≤ pairs) → (heapsAt heaps2 pairs w (slW kd xs ys) (fun v => rbt rows r0 v && !rbt rows o0 v)) → GG l D cl tys cX10_heapUp 5 none RX10 ({ frames := 2, cells := 0, slots := 0, locals := 46 } : Room) (AM ma) MT (QM (Qv (fun (u : Nat → Nat) => heapsAt u pairs pairs (slW kd xs ys) (fun v => rbt rows r0 v && !rbt rows o0 v)) (fun (u : Nat → Nat) => HM D cl tys mi cI cJ cZ ma known fresh_ saved images isImage thrown tape taped size_ at_ begin_ token value open_ bad badPlace faultKind faultPlace xs ys pairs rows top u endsBehind path order firstOrder ordersMany tSort tMany numbers) (AM ma)) 0 0 (AM ma)) (HM D cl tys mi cI cJ cZ ma known fresh_ saved images isImage thrown tape taped size_ at_ begin_ token value open_ bad badPlace faultKind faultPlace xs ys pairs rows top heaps2 endsBehind path order firstOrder ordersMany tSort tMany numbers) 0 0 34 [(0, .ref (ma 0)), (1, .int (nI s0)), (2, .int (nI r0)), (3, .int (nI o0)), (4, .int (nI w))] [] := by
          intro q34
          induction q34 with
          | zero => intro w heaps2 hq34; exact absurd hq34 (Nat.not_lt_zero _)
          | succ q34 ih34 =>
            intro w heaps2 hq34 hw2 hi2
            refine g_iload dX10_heapUp_34 rfl ?_
            refine g_aload_n 0 dX10_heapUp_36 rfl rfl ?_
            refine m_get_pairs dX10_heapUp_37 ?_
            refine g_icmp_ge_n (tgt := 90) dX10_heapUp_40 (by decide) (by omega) (by omega) (fun c40 => ?_) (fun c40 => ?_)
            · skip
              exact g_vret heaps2 dX10_heapUp_90 (Nat.le_refl _) (Nat.le_refl _) (by have e9 : w = pairs := (by omega); rw [e9] at hi2; exact hi2) (fun _ h => h)
            · skip
              refine g_aload_n 0 dX10_heapUp_43 rfl rfl ?_
              refine g_iload_n 2 dX10_heapUp_44 rfl rfl ?_
              refine g_iload dX10_heapUp_45 rfl ?_
              refine m_cVi (ct_has _ _ (by omega) (by omega)) hvX10_has hyX10_has rfl ⟨Nat.le_of_ble_eq_true rfl, Nat.le_of_ble_eq_true rfl⟩ ⟨Nat.zero_le _, Nat.zero_le _⟩ rfl (Nat.le_of_ble_eq_true rfl) dX10_heapUp_47 m_rec (fun r u hp => ?_)
              obtain rfl := hp
              refine g_if_eq_b (tgt := 84) dX10_heapUp_50 (by decide) (fun c50 => ?_) (fun c50 => ?_)
              · skip
                refine g_iinc_n (b := 1) (L' := [(0, _), (1, _), (2, _), (3, _), (4, _)]) dX10_heapUp_84 rfl rfl (by decide) rfl rfl ?_
                refine g_goto (tgt := 34) dX10_heapUp_87 (by decide) ?_
                first
                  | exact ih34 (w + 1) _ (by omega) (by omega) (heapsAt_up hi2 c40 (by first | exact c50 | (simp [c50, c65]; done)))
                  | exact ih34 (w + 1) _ (by omega) (by omega) (heapsAt_skip hi2 (by first | exact c50 | (simp [c50, c65]; done) | (simp [c50]; done)))
              · skip
                refine g_iload_n 3 dX10_heapUp_53 rfl rfl ?_
                refine g_iconst (v := -1) dX10_heapUp_54 (by decide +kernel) ?_
                refine g_icmp_eq (tgt := 68) dX10_heapUp_55 (by decide) (fun c55 => ?_) (fun c55 => ?_)
                · skip
                  exact absurd c55 (nI_m1 (by omega))
                · skip
                  refine g_aload_n 0 dX10_heapUp_58 rfl rfl ?_
                  refine g_iload_n 3 dX10_heapUp_59 rfl rfl ?_
                  refine g_iload dX10_heapUp_60 rfl ?_
                  refine m_cVi (ct_has _ _ (by omega) (by omega)) hvX10_has hyX10_has rfl ⟨Nat.le_of_ble_eq_true rfl, Nat.le_of_ble_eq_true rfl⟩ ⟨Nat.zero_le _, Nat.zero_le _⟩ rfl (Nat.le_of_ble_eq_true rfl) dX10_heapUp_62 m_rec (fun r u hp => ?_)
                  obtain rfl := hp
                  refine g_if_ne_b (tgt := 84) dX10_heapUp_65 (by decide) (fun c65 => ?_) (fun c65 => ?_)
                  · skip
                    refine g_iinc_n (b := 1) (L' := [(0, _), (1, _), (2, _), (3, _), (4, _)]) dX10_heapUp_84 rfl rfl (by decide) rfl rfl ?_
                    refine g_goto (tgt := 34) dX10_heapUp_87 (by decide) ?_
                    first
                      | exact ih34 (w + 1) _ (by omega) (by omega) (heapsAt_up hi2 c40 (by first | exact c50 | (simp [c50, c65]; done)))
                      | exact ih34 (w + 1) _ (by omega) (by omega) (heapsAt_skip hi2 (by first | exact c50 | (simp [c50, c65]; done) | (simp [c50]; done)))
                  · skip
                    refine g_aload_n 0 dX10_heapUp_68 rfl rfl ?_
                    refine m_get_heaps dX10_heapUp_69 ?_
                    refine g_aload_n 0 dX10_heapUp_72 rfl rfl ?_
                    refine g_iload_n 1 dX10_heapUp_73 rfl rfl ?_
                    refine g_iload dX10_heapUp_74 rfl ?_
                    refine m_cVi (ct_slip _ _ kd (by omega) hk hkd (by omega) hW) hvX10_slip hyX10_slip rfl ⟨Nat.le_of_ble_eq_true rfl, Nat.le_of_ble_eq_true rfl⟩ ⟨Nat.zero_le _, Nat.zero_le _⟩ rfl (Nat.le_of_ble_eq_true rfl) dX10_heapUp_76 m_rec (fun r u hp => ?_)
                    obtain rfl := hp
                    refine g_dup2_11 dX10_heapUp_79 rfl rfl ?_
                    refine m_ld_heaps dX10_heapUp_80 (slW_lt hW c40) ?_
                    refine g_iconst (v := nI 1) dX10_heapUp_81 (by decide +kernel) ?_
                    refine g_iadd_n dX10_heapUp_82 ?_
                    refine m_st_heaps dX10_heapUp_83 (slW_lt hW c40) ?_
                    refine g_iinc_n (b := 1) (L' := [(0, _), (1, _), (2, _), (3, _), (4, _)]) dX10_heapUp_84 rfl rfl (by decide) rfl rfl ?_
                    refine g_goto (tgt := 34) dX10_heapUp_87 (by decide) ?_
                    first
                      | exact ih34 (w + 1) _ (by omega) (by omega) (heapsAt_up hi2 c40 (by first | exact c50 | (simp [c50, c65]; done)))
                      | exact ih34 (w + 1) _ (by omega) (by omega) (heapsAt_skip hi2 (by first | exact c50 | (simp [c50, c65]; done) | (simp [c50]; done)))
        have e9 : w = pairs := by omega
        exact loop34 (pairs + 1) 0 heaps1 (by omega) (by omega) (fun v hv => by rw [likeN_0]; exact hi v (by omega))
      · skip
        refine g_aload_n 0 dX10_heapUp_12 rfl rfl ?_
        refine m_get_heaps dX10_heapUp_13 ?_
        refine g_aload_n 0 dX10_heapUp_16 rfl rfl ?_
        refine g_iload_n 1 dX10_heapUp_17 rfl rfl ?_
        refine g_iload dX10_heapUp_18 rfl ?_
        refine m_cVi (ct_slip _ _ kd (by omega) hk hkd (by omega) hW) hvX10_slip hyX10_slip rfl ⟨Nat.le_of_ble_eq_true rfl, Nat.le_of_ble_eq_true rfl⟩ ⟨Nat.zero_le _, Nat.zero_le _⟩ rfl (Nat.le_of_ble_eq_true rfl) dX10_heapUp_20 m_rec (fun r u hp => ?_)
        obtain rfl := hp
        refine g_iconst (v := nI 0) dX10_heapUp_23 (by decide +kernel) ?_
        refine m_st_heaps dX10_heapUp_24 (slW_lt hW c9) ?_
        refine g_iinc_n (b := 1) (L' := [(0, _), (1, _), (2, _), (3, _), (4, _)]) dX10_heapUp_25 rfl rfl (by decide) rfl rfl ?_
        refine g_goto (tgt := 3) dX10_heapUp_28 (by decide) ?_
        refine ih3 (w + 1) _ (by omega) (by omega) (fun v hv => ?_)
        unfold up; split
        · rfl
        · rename_i q9
          rcases Nat.lt_succ_iff_lt_or_eq.mp hv with h9 | h9
          · exact hi v h9
          · exact absurd (by rw [h9]) q9
  exact loop3 (pairs + 1) 0 heaps (by omega) (by omega) (fun v hv => absurd hv (Nat.not_lt_zero _))
set_option maxHeartbeats 4000000 in
/-- where a speaker knows -/
theorem ct_laysKnowing (s0 b0 r0 kd : Nat) (hs : s0 < 600) (hk : known (8 + 3 * s0 + 0) = nI kd) (hkd : kd < 2 ^ 31) (hb : b0 < 85) (hr : r0 < 85) (hne : ¬ b0 = r0) (hW : wOK pairs xs ys) : CT l D cl tys yX10_laysKnowing cX10_laysKnowing 5 none ({ frames := 3, cells := 0, slots := 0, locals := 70 } : Room) [.ref (ma 0), .int (nI s0), .int (nI b0), .int (nI r0)] (HM D cl tys mi cI cJ cZ ma known fresh_ saved images isImage thrown tape taped size_ at_ begin_ token value open_ bad badPlace faultKind faultPlace xs ys pairs rows top heaps endsBehind path order firstOrder ordersMany tSort tMany numbers) (Qv (fun (u : (Nat → Nat) × (Nat → Int64)) => rowsUp rows u.2 r0 pairs (knowF pairs (slW kd xs ys) (rbt rows b0))) (fun (u : (Nat → Nat) × (Nat → Int64)) => HM D cl tys mi cI cJ cZ ma known fresh_ saved images isImage thrown tape taped size_ at_ begin_ token value open_ bad badPlace faultKind faultPlace xs ys pairs u.2 top u.1 endsBehind path order firstOrder ordersMany tSort tMany numbers) (AM ma)) (AM ma) := by
  have hP : pairs ≤ 1830 := hW.1
  refine CT.of (L := [(0, .ref (ma 0)), (1, .int (nI s0)), (2, .int (nI b0)), (3, .int (nI r0))]) rfl (by decide +kernel) rfl (Nat.le_of_ble_eq_true rfl) ?_
  refine g_aload_n 0 dX10_laysKnowing_0 rfl rfl ?_
  refine g_iload_n 1 dX10_laysKnowing_1 rfl rfl ?_
  refine g_iload_n 2 dX10_laysKnowing_2 rfl rfl ?_
  refine g_iconst (v := -1) dX10_laysKnowing_3 (by decide +kernel) ?_
  refine m_cVv (ct_heapUpN _ _ kd (by omega) hk hkd (by omega) hW) hvX10_heapUp hyX10_heapUp rfl ⟨Nat.le_of_ble_eq_true rfl, Nat.le_of_ble_eq_true rfl⟩ ⟨Nat.zero_le _, Nat.zero_le _⟩ rfl (Nat.le_of_ble_eq_true rfl) dX10_laysKnowing_4 m_rec (fun heaps1 hh => ?_)
  refine g_iconst (v := nI 0) dX10_laysKnowing_7 (by decide +kernel) ?_
  refine g_istore (L' := [(0, _), (1, _), (2, _), (3, _), (4, _)]) dX10_laysKnowing_8 (by decide) rfl rfl ?_
  have loop10 : ∀ (q10 : Nat) (w : Nat) (rows1 : Nat → Int64), pairs - w < q10 → (w ≤ pairs) → (rowsUp rows rows1 r0 w (knowF pairs (slW kd xs ys) (rbt rows b0))) → GG l D cl tys cX10_laysKnowing 5 none RX10 ({ frames := 3, cells := 0, slots := 0, locals := 70 } : Room) (AM ma) MT (QM (Qv (fun (u : (Nat → Nat) × (Nat → Int64)) => rowsUp rows u.2 r0 pairs (knowF pairs (slW kd xs ys) (rbt rows b0))) (fun (u : (Nat → Nat) × (Nat → Int64)) => HM D cl tys mi cI cJ cZ ma known fresh_ saved images isImage thrown tape taped size_ at_ begin_ token value open_ bad badPlace faultKind faultPlace xs ys pairs u.2 top u.1 endsBehind path order firstOrder ordersMany tSort tMany numbers) (AM ma)) 0 0 (AM ma)) (HM D cl tys mi cI cJ cZ ma known fresh_ saved images isImage thrown tape taped size_ at_ begin_ token value open_ bad badPlace faultKind faultPlace xs ys pairs rows1 top heaps1 endsBehind path order firstOrder ordersMany tSort tMany numbers) 0 0 10 [(0, .ref (ma 0)), (1, .int (nI s0)), (2, .int (nI b0)), (3, .int (nI r0)), (4, .int (nI w))] [] := by
    intro q10
    induction q10 with
    | zero => intro w rows1 hq10; exact absurd hq10 (Nat.not_lt_zero _)
    | succ q10 ih10 =>
      intro w rows1 hq10 hw hi
      refine g_iload dX10_laysKnowing_10 rfl ?_
      refine g_aload_n 0 dX10_laysKnowing_12 rfl rfl ?_
      refine m_get_pairs dX10_laysKnowing_13 ?_
      refine g_icmp_ge_n (tgt := 68) dX10_laysKnowing_16 (by decide) (by omega) (by omega) (fun c16 => ?_) (fun c16 => ?_)
      · skip
        exact g_vret (heaps1, rows1) dX10_laysKnowing_68 (Nat.le_refl _) (Nat.le_refl _) (by have e9 : w = pairs := (by omega); rw [e9] at hi; exact hi) (fun _ h => h)
      · skip
        refine g_aload_n 0 dX10_laysKnowing_19 rfl rfl ?_
        refine g_iload_n 3 dX10_laysKnowing_20 rfl rfl ?_
        refine g_iload dX10_laysKnowing_21 rfl ?_
        refine g_aload_n 0 dX10_laysKnowing_23 rfl rfl ?_
        refine m_get_heaps dX10_laysKnowing_24 ?_
        refine g_aload_n 0 dX10_laysKnowing_27 rfl rfl ?_
        refine g_iload_n 1 dX10_laysKnowing_28 rfl rfl ?_
        refine g_iload dX10_laysKnowing_29 rfl ?_
        refine m_cVi (ct_slip _ _ kd (by omega) hk hkd (by omega) hW) hvX10_slip hyX10_slip rfl ⟨Nat.le_of_ble_eq_true rfl, Nat.le_of_ble_eq_true rfl⟩ ⟨Nat.zero_le _, Nat.zero_le _⟩ rfl (Nat.le_of_ble_eq_true rfl) dX10_laysKnowing_31 m_rec (fun r u hp => ?_)
        obtain rfl := hp
        refine m_ld_heaps dX10_laysKnowing_34 (slW_lt hW c16) ?_
        refine g_aload_n 0 dX10_laysKnowing_35 rfl rfl ?_
        refine g_iload_n 2 dX10_laysKnowing_36 rfl rfl ?_
        refine g_iload dX10_laysKnowing_37 rfl ?_
        refine m_cVi (ct_has _ _ (by omega) (by omega)) hvX10_has hyX10_has rfl ⟨Nat.le_of_ble_eq_true rfl, Nat.le_of_ble_eq_true rfl⟩ ⟨Nat.zero_le _, Nat.zero_le _⟩ rfl (Nat.le_of_ble_eq_true rfl) dX10_laysKnowing_39 m_rec (fun r u hp => ?_)
        obtain rfl := hp
        refine g_if_eq_b (tgt := 49) dX10_laysKnowing_42 (by decide) (fun c42 => ?_) (fun c42 => ?_)
        · skip
          refine g_iconst (v := nI 0) dX10_laysKnowing_49 (by decide +kernel) ?_
          have hlt : heaps1 (slW kd xs ys w) < 2 ^ 31 := by rw [hh w c16]; have := likeN_le pairs (slW kd xs ys) (rbt rows b0) w; omega
          refine g_isub dX10_laysKnowing_50 ?_
          refine g_if_ne (tgt := 58) dX10_laysKnowing_51 (by decide) (fun c51 => ?_) (fun c51 => ?_)
          · skip
            have q51 := fun e9 => c51 (sub_nI_0 hlt (by decide) e9)
            refine g_iconst (v := nI 0) dX10_laysKnowing_58 (by decide +kernel) ?_
            refine m_cVv (ct_puts _ _ false (by omega) (by omega)) hvX10_puts hyX10_puts rfl ⟨Nat.le_of_ble_eq_true rfl, Nat.le_of_ble_eq_true rfl⟩ ⟨Nat.zero_le _, Nat.zero_le _⟩ rfl (Nat.le_of_ble_eq_true rfl) dX10_laysKnowing_59 m_rec (fun rows2 hp => ?_)
            refine g_iinc_n (b := 1) (L' := [(0, _), (1, _), (2, _), (3, _), (4, _)]) dX10_laysKnowing_62 rfl rfl (by decide) rfl rfl ?_
            refine g_goto (tgt := 10) dX10_laysKnowing_65 (by decide) ?_
            refine ih10 (w + 1) rows2 (by omega) (by omega) (rowsUp_step hi hp ?_)
            unfold knowF
            rw [← hh w c16, ← rowsUp_ne (w := w) hi hne (by omega), c42]
            first | exact (decide_eq_true q51).symm | exact (decide_eq_false q51).symm
          · skip
            have q51 := sub_nI_0i hlt (by decide) c51
            refine g_iconst (v := nI 1) dX10_laysKnowing_54 (by decide +kernel) ?_
            refine g_goto (tgt := 59) dX10_laysKnowing_55 (by decide) ?_
            refine m_cVv (ct_puts _ _ true (by omega) (by omega)) hvX10_puts hyX10_puts rfl ⟨Nat.le_of_ble_eq_true rfl, Nat.le_of_ble_eq_true rfl⟩ ⟨Nat.zero_le _, Nat.zero_le _⟩ rfl (Nat.le_of_ble_eq_true rfl) dX10_laysKnowing_59 m_rec (fun rows2 hp => ?_)
            refine g_iinc_n (b := 1) (L' := [(0, _), (1, _), (2, _), (3, _), (4, _)]) dX10_laysKnowing_62 rfl rfl (by decide) rfl rfl ?_
            refine g_goto (tgt := 10) dX10_laysKnowing_65 (by decide) ?_
            refine ih10 (w + 1) rows2 (by omega) (by omega) (rowsUp_step hi hp ?_)
            unfold knowF
            rw [← hh w c16, ← rowsUp_ne (w := w) hi hne (by omega), c42]
            first | exact (decide_eq_true q51).symm | exact (decide_eq_false q51).symm
        · skip
          refine g_iconst (v := nI 1) dX10_laysKnowing_45 (by decide +kernel) ?_
          refine g_goto (tgt := 50) dX10_laysKnowing_46 (by decide) ?_
          have hlt : heaps1 (slW kd xs ys w) < 2 ^ 31 := by rw [hh w c16]; have := likeN_le pairs (slW kd xs ys) (rbt rows b0) w; omega
          refine g_isub dX10_laysKnowing_50 ?_
          refine g_if_ne (tgt := 58) dX10_laysKnowing_51 (by decide) (fun c51 => ?_) (fun c51 => ?_)
          · skip
            have q51 := fun e9 => c51 (sub_nI_0 hlt (by decide) e9)
            refine g_iconst (v := nI 0) dX10_laysKnowing_58 (by decide +kernel) ?_
            refine m_cVv (ct_puts _ _ false (by omega) (by omega)) hvX10_puts hyX10_puts rfl ⟨Nat.le_of_ble_eq_true rfl, Nat.le_of_ble_eq_true rfl⟩ ⟨Nat.zero_le _, Nat.zero_le _⟩ rfl (Nat.le_of_ble_eq_true rfl) dX10_laysKnowing_59 m_rec (fun rows2 hp => ?_)
            refine g_iinc_n (b := 1) (L' := [(0, _), (1, _), (2, _), (3, _), (4, _)]) dX10_laysKnowing_62 rfl rfl (by decide) rfl rfl ?_
            refine g_goto (tgt := 10) dX10_laysKnowing_65 (by decide) ?_
            refine ih10 (w + 1) rows2 (by omega) (by omega) (rowsUp_step hi hp ?_)
            unfold knowF
            rw [← hh w c16, ← rowsUp_ne (w := w) hi hne (by omega), c42]
            first | exact (decide_eq_true q51).symm | exact (decide_eq_false q51).symm
          · skip
            have q51 := sub_nI_0i hlt (by decide) c51
            refine g_iconst (v := nI 1) dX10_laysKnowing_54 (by decide +kernel) ?_
            refine g_goto (tgt := 59) dX10_laysKnowing_55 (by decide) ?_
            refine m_cVv (ct_puts _ _ true (by omega) (by omega)) hvX10_puts hyX10_puts rfl ⟨Nat.le_of_ble_eq_true rfl, Nat.le_of_ble_eq_true rfl⟩ ⟨Nat.zero_le _, Nat.zero_le _⟩ rfl (Nat.le_of_ble_eq_true rfl) dX10_laysKnowing_59 m_rec (fun rows2 hp => ?_)
            refine g_iinc_n (b := 1) (L' := [(0, _), (1, _), (2, _), (3, _), (4, _)]) dX10_laysKnowing_62 rfl rfl (by decide) rfl rfl ?_
            refine g_goto (tgt := 10) dX10_laysKnowing_65 (by decide) ?_
            refine ih10 (w + 1) rows2 (by omega) (by omega) (rowsUp_step hi hp ?_)
            unfold knowF
            rw [← hh w c16, ← rowsUp_ne (w := w) hi hne (by omega), c42]
            first | exact (decide_eq_true q51).symm | exact (decide_eq_false q51).symm
  exact loop10 (pairs + 1) 0 rows (by omega) (by omega) rowsUp_0
set_option maxHeartbeats 4000000 in
/-- where a speaker sees it -/
theorem ct_laysSeeing (s0 b0 r0 kd : Nat) (hs : s0 < 600) (hk : known (8 + 3 * s0 + 0) = nI kd) (hkd : kd < 2 ^ 31) (hb : b0 < 85) (hr : r0 < 85) (hne : ¬ b0 = r0) (hW : wOK pairs xs ys) : CT l D cl tys yX10_laysSeeing cX10_laysSeeing 5 none ({ frames := 3, cells := 0, slots := 0, locals := 70 } : Room) [.ref (ma 0), .int (nI s0), .int (nI b0), .int (nI r0)] (HM D cl tys mi cI cJ cZ ma known fresh_ saved images isImage thrown tape taped size_ at_ begin_ token value open_ bad badPlace faultKind faultPlace xs ys pairs rows top heaps endsBehind path order firstOrder ordersMany tSort tMany numbers) (Qv (fun (u : (Nat → Nat) × (Nat → Int64)) => rowsUp rows u.2 r0 pairs (seeF pairs (slW kd xs ys) (rbt rows b0) (rbt rows r0))) (fun (u : (Nat → Nat) × (Nat → Int64)) => HM D cl tys mi cI cJ cZ ma known fresh_ saved images isImage thrown tape taped size_ at_ begin_ token value open_ bad badPlace faultKind faultPlace xs ys pairs u.2 top u.1 endsBehind path order firstOrder ordersMany tSort tMany numbers) (AM ma)) (AM ma) := by
  have hP : pairs ≤ 1830 := hW.1
  refine CT.of (L := [(0, .ref (ma 0)), (1, .int (nI s0)), (2, .int (nI b0)), (3, .int (nI r0))]) rfl (by decide +kernel) rfl (Nat.le_of_ble_eq_true rfl) ?_
  refine g_aload_n 0 dX10_laysSeeing_0 rfl rfl ?_
  refine g_iload_n 1 dX10_laysSeeing_1 rfl rfl ?_
  refine g_iload_n 2 dX10_laysSeeing_2 rfl rfl ?_
  refine g_iload_n 3 dX10_laysSeeing_3 rfl rfl ?_
  refine m_cVv (ct_heapUpW _ _ kd _ (by omega) hk hkd (by omega) (by omega) hW) hvX10_heapUp hyX10_heapUp rfl ⟨Nat.le_of_ble_eq_true rfl, Nat.le_of_ble_eq_true rfl⟩ ⟨Nat.zero_le _, Nat.zero_le _⟩ rfl (Nat.le_of_ble_eq_true rfl) dX10_laysSeeing_4 m_rec (fun heaps1 hh => ?_)
  refine g_iconst (v := nI 0) dX10_laysSeeing_7 (by decide +kernel) ?_
  refine g_istore (L' := [(0, _), (1, _), (2, _), (3, _), (4, _)]) dX10_laysSeeing_8 (by decide) rfl rfl ?_
  have loop10 : ∀ (q10 : Nat) (w : Nat) (rows1 : Nat → Int64), pairs - w < q10 → (w ≤ pairs) → (rowsUp rows rows1 r0 w (seeF pairs (slW kd xs ys) (rbt rows b0) (rbt rows r0))) → GG l D cl tys cX10_laysSeeing 5 none RX10 ({ frames := 3, cells := 0, slots := 0, locals := 70 } : Room) (AM ma) MT (QM (Qv (fun (u : (Nat → Nat) × (Nat → Int64)) => rowsUp rows u.2 r0 pairs (seeF pairs (slW kd xs ys) (rbt rows b0) (rbt rows r0))) (fun (u : (Nat → Nat) × (Nat → Int64)) => HM D cl tys mi cI cJ cZ ma known fresh_ saved images isImage thrown tape taped size_ at_ begin_ token value open_ bad badPlace faultKind faultPlace xs ys pairs u.2 top u.1 endsBehind path order firstOrder ordersMany tSort tMany numbers) (AM ma)) 0 0 (AM ma)) (HM D cl tys mi cI cJ cZ ma known fresh_ saved images isImage thrown tape taped size_ at_ begin_ token value open_ bad badPlace faultKind faultPlace xs ys pairs rows1 top heaps1 endsBehind path order firstOrder ordersMany tSort tMany numbers) 0 0 10 [(0, .ref (ma 0)), (1, .int (nI s0)), (2, .int (nI b0)), (3, .int (nI r0)), (4, .int (nI w))] [] := by
    intro q10
    induction q10 with
    | zero => intro w rows1 hq10; exact absurd hq10 (Nat.not_lt_zero _)
    | succ q10 ih10 =>
      intro w rows1 hq10 hw hi
      refine g_iload dX10_laysSeeing_10 rfl ?_
      refine g_aload_n 0 dX10_laysSeeing_12 rfl rfl ?_
      refine m_get_pairs dX10_laysSeeing_13 ?_
      refine g_icmp_ge_n (tgt := 52) dX10_laysSeeing_16 (by decide) (by omega) (by omega) (fun c16 => ?_) (fun c16 => ?_)
      · skip
        exact g_vret (heaps1, rows1) dX10_laysSeeing_52 (Nat.le_refl _) (Nat.le_refl _) (by have e9 : w = pairs := (by omega); rw [e9] at hi; exact hi) (fun _ h => h)
      · skip
        refine g_aload_n 0 dX10_laysSeeing_19 rfl rfl ?_
        refine g_iload_n 3 dX10_laysSeeing_20 rfl rfl ?_
        refine g_iload dX10_laysSeeing_21 rfl ?_
        refine g_aload_n 0 dX10_laysSeeing_23 rfl rfl ?_
        refine m_get_heaps dX10_laysSeeing_24 ?_
        refine g_aload_n 0 dX10_laysSeeing_27 rfl rfl ?_
        refine g_iload_n 1 dX10_laysSeeing_28 rfl rfl ?_
        refine g_iload dX10_laysSeeing_29 rfl ?_
        refine m_cVi (ct_slip _ _ kd (by omega) hk hkd (by omega) hW) hvX10_slip hyX10_slip rfl ⟨Nat.le_of_ble_eq_true rfl, Nat.le_of_ble_eq_true rfl⟩ ⟨Nat.zero_le _, Nat.zero_le _⟩ rfl (Nat.le_of_ble_eq_true rfl) dX10_laysSeeing_31 m_rec (fun r u hp => ?_)
        obtain rfl := hp
        refine m_ld_heaps dX10_laysSeeing_34 (slW_lt hW c16) ?_
        refine g_if_ne_n (tgt := 42) dX10_laysSeeing_35 (by decide) (by rw [hh w c16]; have := likeN_le pairs (slW kd xs ys) (fun v => rbt rows b0 v && !rbt rows r0 v) w; omega) (fun c35 => ?_) (fun c35 => ?_)
        · skip
          refine g_iconst (v := nI 0) dX10_laysSeeing_42 (by decide +kernel) ?_
          refine m_cVv (ct_puts _ _ false (by omega) (by omega)) hvX10_puts hyX10_puts rfl ⟨Nat.le_of_ble_eq_true rfl, Nat.le_of_ble_eq_true rfl⟩ ⟨Nat.zero_le _, Nat.zero_le _⟩ rfl (Nat.le_of_ble_eq_true rfl) dX10_laysSeeing_43 m_rec (fun rows2 hp => ?_)
          refine g_iinc_n (b := 1) (L' := [(0, _), (1, _), (2, _), (3, _), (4, _)]) dX10_laysSeeing_46 rfl rfl (by decide) rfl rfl ?_
          refine g_goto (tgt := 10) dX10_laysSeeing_49 (by decide) ?_
          refine ih10 (w + 1) rows2 (by omega) (by omega) (rowsUp_step hi hp ?_)
          rw [hh w c16] at c35
          first | exact (decide_eq_true c35).symm | exact (decide_eq_false c35).symm
        · skip
          refine g_iconst (v := nI 1) dX10_laysSeeing_38 (by decide +kernel) ?_
          refine g_goto (tgt := 43) dX10_laysSeeing_39 (by decide) ?_
          refine m_cVv (ct_puts _ _ true (by omega) (by omega)) hvX10_puts hyX10_puts rfl ⟨Nat.le_of_ble_eq_true rfl, Nat.le_of_ble_eq_true rfl⟩ ⟨Nat.zero_le _, Nat.zero_le _⟩ rfl (Nat.le_of_ble_eq_true rfl) dX10_laysSeeing_43 m_rec (fun rows2 hp => ?_)
          refine g_iinc_n (b := 1) (L' := [(0, _), (1, _), (2, _), (3, _), (4, _)]) dX10_laysSeeing_46 rfl rfl (by decide) rfl rfl ?_
          refine g_goto (tgt := 10) dX10_laysSeeing_49 (by decide) ?_
          refine ih10 (w + 1) rows2 (by omega) (by omega) (rowsUp_step hi hp ?_)
          rw [hh w c16] at c35
          first | exact (decide_eq_true c35).symm | exact (decide_eq_false c35).symm
  exact loop10 (pairs + 1) 0 rows (by omega) (by omega) rowsUp_0
end
