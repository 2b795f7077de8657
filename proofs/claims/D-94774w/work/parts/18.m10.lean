/-! SPEC: small laws for the rows sought -/
set_option maxRecDepth 100000
theorem knowF_env {P w0 kd : Nat} {xs ys : Nat → Nat} {T : Talk} {f g : Nat → Bool} {s : Nat} (hl : layd xs ys P (tW T)) (hw : w0 < tP T) (hk : kd = tKind T s) (hf : ∀ v, v < tP T → f v = g v) : knowF P (slW kd xs ys) f w0 = knowF (tP T) (tSl T s) g w0 := by
  have hPT : P = tP T := hl.1
  subst hk
  rw [hPT]
  exact knowF_congr hw (fun v hv => slW_congr (layd_XY hl (by omega))) hf
theorem ansW_env {P kd : Nat} {xs ys : Nat → Nat} {T : Talk} {f g : Nat → Bool} {s : Nat} {b : Bool} (hl : layd xs ys P (tW T)) (hk : kd = tKind T s) (hf : ∀ v, v < tP T → f v = g v) : ∀ v, v < tP T → ansW P (slW kd xs ys) f b v = ansW (tP T) (tSl T s) g b v := by
  intro v hv
  have hPT : P = tP T := hl.1
  subst hk
  rw [hPT]
  exact ansW_congr hv (fun v hv => slW_congr (layd_XY hl (by omega))) hf
theorem pow2_Ns {n : Nat} (h : n ≤ 6) : (nI 1 <<< (nI n &&& 31)) = nI (2 ^ n) := by
  have : ∀ k, k < 7 → (nI 1 <<< (nI k &&& 31)) = nI (2 ^ k) := by decide +kernel
  exact this n (by omega)
/-! THE MODEL, 10: soonest, shortest -/
set_option maxRecDepth 100000
theorem went_none {path path1 : Nat → Nat} {rows rows1 : Nat → Int64} {P a0 d : Nat} (h1 : ∀ r' w', r' ≤ a0 → w' < 1856 → rbt rows1 r' w' = rbt rows r' w') (h2 : ∀ j, j < a0 → path1 j = path j) : went path path1 rows rows1 P a0 d none := ⟨h1, h2, fun p S h => by cases h⟩
theorem went_refl {path : Nat → Nat} {rows : Nat → Int64} {P a0 d : Nat} : went path path rows rows P a0 d none := went_none (fun _ _ _ _ => rfl) (fun _ _ => rfl)
theorem went_here {path : Nat → Nat} {rows : Nat → Int64} {P a0 : Nat} {f : Nat → Bool} (hf : ∀ v, v < P → rbt rows a0 v = f v) (b : Bool) : bI b = bI (if b = true then some (([] : List Nat), f) else none).isSome ∧ went path path rows rows P a0 0 (if b = true then some ([], f) else none) := by
  cases b with
  | false => exact ⟨rfl, went_refl⟩
  | true => exact ⟨rfl, fun _ _ _ _ => rfl, fun _ _ => rfl, fun p S h => by
      have h : some (([] : List Nat), f) = some (p, S) := h
      cases h
      exact ⟨rfl, fun i hi => absurd hi (Nat.not_lt_zero _), fun v hv => hf v hv⟩⟩
theorem path_cons {path1 path5 : Nat → Nat} {pp : List Nat} {a0 s d : Nat} (h1 : ∀ j, j < a0 + 1 → path5 j = up path1 a0 s j) (g2 : ∀ i, i < d → path5 (a0 + 1 + i) = pp.getD i 0) (i : Nat) (hi9 : i < d + 1) : path5 (a0 + i) = (s :: pp).getD i 0 := by
  cases i with
  | zero => rw [Nat.add_zero, h1 a0 (by omega), up_s]; rfl
  | succ i => rw [show a0 + (i + 1) = a0 + 1 + i by omega, g2 i (by omega)]; rfl
theorem went_cons {path path1 path5 : Nat → Nat} {rows rows1 rows4 rows5 : Nat → Int64} {P a0 d s : Nat} {pp : List Nat} {SS g : Nat → Bool} {o : Option (List Nat × (Nat → Bool))} (hrk : ∀ r' w', r' ≤ a0 → w' < 1856 → rbt rows1 r' w' = rbt rows r' w') (hpk : ∀ j, j < a0 → path1 j = path j) (ha : rowsUp rows1 rows4 (a0 + 1) P g) (hg9 : went (up path1 a0 s) path5 rows4 rows5 P (a0 + 1) d o) (ho : o = some (pp, SS)) {P2 : Nat} (hP2 : P2 = P) : went path path5 rows rows5 P2 a0 (d + 1) (some (s :: pp, SS)) := by
  subst hP2
  refine ⟨fun r' w' a b => ?_, fun j hj => ?_, fun p S h => ?_⟩
  · rw [hg9.1 r' w' (by omega) b, rowsUp_ne ha (by omega) b, hrk r' w' a b]
  · rw [hg9.2.1 j (by omega), up_n (by omega), hpk j hj]
  · cases h
    obtain ⟨g1, g2, g3⟩ := hg9.2.2 pp SS ho
    exact ⟨by rw [List.length_cons, g1], fun i hi9 => path_cons hg9.2.1 g2 i hi9, fun v hv => by rw [show a0 + (d + 1) = a0 + 1 + d by omega]; exact g3 v hv⟩
section
variable {l : Launch} {D : va_G} {cl : List vw_C} {tys : List (ClassId × FieldType)} {mi : Nat} {cI cJ cZ : ClassId} {ma : Nat → Nat} {known fresh_ saved images : Nat → Int32} {isImage : Nat → Bool} {thrown : Nat} {tape : Nat → Nat} {taped size_ at_ begin_ token value open_ bad badPlace faultKind : Nat} {faultPlace : Int32} {xs ys : Nat → Nat} {pairs : Nat} {rows : Nat → Int64} {top : Nat} {heaps : Nat → Nat} {endsBehind : Nat → Int32} {path order firstOrder : Nat → Nat} {ordersMany : Nat} {tSort : Nat → Int32} {tMany : Nat → Nat} {numbers : Nat → Int64}
set_option maxHeartbeats 4000000 in
/-- does one know at a row -/
theorem ct_knowsAt (T : Talk) (s0 b0 w0 : Nat) (hK : KIs known T) (hl : layd xs ys pairs (tW T)) (hs : s0 < tNS T) (hb : b0 < 85) (hw : w0 < tP T) : CT l D cl tys yX10_knowsAt cX10_knowsAt 4 (some .boolean) ({ frames := 3, cells := 0, slots := 0, locals := 70 } : Room) [.ref (ma 0), .int (nI s0), .int (nI b0), .int (nI w0)] (HM D cl tys mi cI cJ cZ ma known fresh_ saved images isImage thrown tape taped size_ at_ begin_ token value open_ bad badPlace faultKind faultPlace xs ys pairs rows top heaps endsBehind path order firstOrder ordersMany tSort tMany numbers) (Qi (fun (v : Int32) (u : (Nat → Nat)) => v = bI (knowF pairs (slW (tKind T s0) xs ys) (rbt rows b0) w0)) (fun (u : (Nat → Nat)) => HM D cl tys mi cI cJ cZ ma known fresh_ saved images isImage thrown tape taped size_ at_ begin_ token value open_ bad badPlace faultKind faultPlace xs ys pairs rows top u endsBehind path order firstOrder ordersMany tSort tMany numbers) (AM ma)) (AM ma) := by
  obtain ⟨⟨o1, o2, o3, o4, o5, o6, o7, o8, o9, o10⟩, k0, k1, k2, k3, k4, k5, k6, k7, k8⟩ := id hK
  have hW := layd_OK hl o1 o3
  have hP : pairs ≤ 1830 := hW.1
  have hPT : pairs = tP T := hl.1
  refine CT.of (L := [(0, .ref (ma 0)), (1, .int (nI s0)), (2, .int (nI b0)), (3, .int (nI w0))]) rfl (by decide +kernel) rfl (Nat.le_of_ble_eq_true rfl) ?_
  refine g_aload_n 0 dX10_knowsAt_0 rfl rfl ?_
  refine g_iload_n 1 dX10_knowsAt_1 rfl rfl ?_
  refine g_iload_n 2 dX10_knowsAt_2 rfl rfl ?_
  refine g_iconst (v := -1) dX10_knowsAt_3 (by decide +kernel) ?_
  refine m_cVv (ct_heapUpN s0 _ (tKind T s0) (by omega) (k7 s0 hs).1 (by have := o8 s0 hs; omega) (by omega) hW) hvX10_heapUp hyX10_heapUp rfl ⟨Nat.le_of_ble_eq_true rfl, Nat.le_of_ble_eq_true rfl⟩ ⟨Nat.zero_le _, Nat.zero_le _⟩ rfl (Nat.le_of_ble_eq_true rfl) dX10_knowsAt_4 m_rec (fun heapsH hh => ?_)
  refine g_aload_n 0 dX10_knowsAt_7 rfl rfl ?_
  refine m_get_heaps dX10_knowsAt_8 ?_
  refine g_aload_n 0 dX10_knowsAt_11 rfl rfl ?_
  refine g_iload_n 1 dX10_knowsAt_12 rfl rfl ?_
  refine g_iload_n 3 dX10_knowsAt_13 rfl rfl ?_
  refine m_cVi (ct_slip _ _ (tKind T s0) (by omega) (k7 s0 hs).1 (by have := o8 s0 hs; omega) (by omega) hW) hvX10_slip hyX10_slip rfl ⟨Nat.le_of_ble_eq_true rfl, Nat.le_of_ble_eq_true rfl⟩ ⟨Nat.zero_le _, Nat.zero_le _⟩ rfl (Nat.le_of_ble_eq_true rfl) dX10_knowsAt_14 m_rec (fun r u9 hp => ?_)
  obtain rfl := hp
  have hlt : heapsH (slW (tKind T s0) xs ys w0) < 2 ^ 31 := by rw [hh w0 (by omega)]; have := likeN_le pairs (slW (tKind T s0) xs ys) (rbt rows b0) w0; omega
  refine m_ld_heaps dX10_knowsAt_17 (slW_lt hW (by omega)) ?_
  refine g_aload_n 0 dX10_knowsAt_18 rfl rfl ?_
  refine g_iload_n 2 dX10_knowsAt_19 rfl rfl ?_
  refine g_iload_n 3 dX10_knowsAt_20 rfl rfl ?_
  refine m_cVi (ct_has _ _ (by omega) (by omega)) hvX10_has hyX10_has rfl ⟨Nat.le_of_ble_eq_true rfl, Nat.le_of_ble_eq_true rfl⟩ ⟨Nat.zero_le _, Nat.zero_le _⟩ rfl (Nat.le_of_ble_eq_true rfl) dX10_knowsAt_21 m_rec (fun r u hp => ?_)
  obtain rfl := hp
  refine g_if_eq_b (tgt := 31) dX10_knowsAt_24 (by decide) (fun c24 => ?_) (fun c24 => ?_)
  · skip
    refine g_iconst (v := nI 0) dX10_knowsAt_31 (by decide +kernel) ?_
    refine g_isub dX10_knowsAt_32 ?_
    refine g_if_ne (tgt := 40) dX10_knowsAt_33 (by decide) (fun c33 => ?_) (fun c33 => ?_)
    · skip
      have q33 := fun e9 => c33 (sub_nI_0 hlt (by decide) e9)
      refine g_iconst (v := nI 0) dX10_knowsAt_40 (by decide +kernel) ?_
      exact g_zret (b := false) heapsH dX10_knowsAt_41 (Nat.le_refl _) (Nat.le_refl _) (by unfold knowF; rw [← hh w0 (by omega), c24]; first | exact congrArg bI (decide_eq_true q33).symm | exact congrArg bI (decide_eq_false q33).symm) (fun _ h => h)
    · skip
      have q33 := sub_nI_0i hlt (by decide) c33
      refine g_iconst (v := nI 1) dX10_knowsAt_36 (by decide +kernel) ?_
      refine g_goto (tgt := 41) dX10_knowsAt_37 (by decide) ?_
      exact g_zret (b := true) heapsH dX10_knowsAt_41 (Nat.le_refl _) (Nat.le_refl _) (by unfold knowF; rw [← hh w0 (by omega), c24]; first | exact congrArg bI (decide_eq_true q33).symm | exact congrArg bI (decide_eq_false q33).symm) (fun _ h => h)
  · skip
    refine g_iconst (v := nI 1) dX10_knowsAt_27 (by decide +kernel) ?_
    refine g_goto (tgt := 32) dX10_knowsAt_28 (by decide) ?_
    refine g_isub dX10_knowsAt_32 ?_
    refine g_if_ne (tgt := 40) dX10_knowsAt_33 (by decide) (fun c33 => ?_) (fun c33 => ?_)
    · skip
      have q33 := fun e9 => c33 (sub_nI_0 hlt (by decide) e9)
      refine g_iconst (v := nI 0) dX10_knowsAt_40 (by decide +kernel) ?_
      exact g_zret (b := false) heapsH dX10_knowsAt_41 (Nat.le_refl _) (Nat.le_refl _) (by unfold knowF; rw [← hh w0 (by omega), c24]; first | exact congrArg bI (decide_eq_true q33).symm | exact congrArg bI (decide_eq_false q33).symm) (fun _ h => h)
    · skip
      have q33 := sub_nI_0i hlt (by decide) c33
      refine g_iconst (v := nI 1) dX10_knowsAt_36 (by decide +kernel) ?_
      refine g_goto (tgt := 41) dX10_knowsAt_37 (by decide) ?_
      exact g_zret (b := true) heapsH dX10_knowsAt_41 (Nat.le_refl _) (Nat.le_refl _) (by unfold knowF; rw [← hh w0 (by omega), c24]; first | exact congrArg bI (decide_eq_true q33).symm | exact congrArg bI (decide_eq_false q33).symm) (fun _ h => h)
set_option maxHeartbeats 4000000 in
/-- whether none of a set know -/
theorem ct_none (T : Talk) (x0 : Int32) (b0 w0 : Nat) (hK : KIs known T) (hl : layd xs ys pairs (tW T)) (hb : b0 < 85) (hw : w0 < tP T) : CT l D cl tys yX10_none cX10_none 5 (some .boolean) ({ frames := 4, cells := 0, slots := 0, locals := 93 } : Room) [.ref (ma 0), .int x0, .int (nI b0), .int (nI w0)] (HM D cl tys mi cI cJ cZ ma known fresh_ saved images isImage thrown tape taped size_ at_ begin_ token value open_ bad badPlace faultKind faultPlace xs ys pairs rows top heaps endsBehind path order firstOrder ordersMany tSort tMany numbers) (Qi (fun (v : Int32) (u : (Nat → Nat)) => v = bI (decide (∀ s, s < tNS T → sBit x0 s = true → knowF pairs (slW (tKind T s) xs ys) (rbt rows b0) w0 = false))) (fun (u : (Nat → Nat)) => HM D cl tys mi cI cJ cZ ma known fresh_ saved images isImage thrown tape taped size_ at_ begin_ token value open_ bad badPlace faultKind faultPlace xs ys pairs rows top u endsBehind path order firstOrder ordersMany tSort tMany numbers) (AM ma)) (AM ma) := by
  obtain ⟨⟨o1, o2, o3, o4, o5, o6, o7, o8, o9, o10⟩, k0, k1, k2, k3, k4, k5, k6, k7, k8⟩ := id hK
  have hW := layd_OK hl o1 o3
  have hP : pairs ≤ 1830 := hW.1
  have hPT : pairs = tP T := hl.1
  refine CT.of (L := [(0, .ref (ma 0)), (1, .int x0), (2, .int (nI b0)), (3, .int (nI w0))]) rfl (by decide +kernel) rfl (Nat.le_of_ble_eq_true rfl) ?_
  refine g_iconst (v := nI 0) dX10_none_0 (by decide +kernel) ?_
  refine g_istore (L' := [(0, _), (1, _), (2, _), (3, _), (4, _)]) dX10_none_1 (by decide) rfl rfl ?_
  have loop3 : ∀ (q3 : Nat) (s : Nat) (heaps1 : Nat → Nat), tNS T - s < q3 → (s ≤ tNS T) → (∀ z, z < s → sBit x0 z = true → knowF pairs (slW (tKind T z) xs ys) (rbt rows b0) w0 = false) → GG l D cl tys cX10_none 5 (some .boolean) RX10 ({ frames := 4, cells := 0, slots := 0, locals := 93 } : Room) (AM ma) MT (QM (Qi (fun (v : Int32) (u : (Nat → Nat)) => v = bI (decide (∀ s, s < tNS T → sBit x0 s = true → knowF pairs (slW (tKind T s) xs ys) (rbt rows b0) w0 = false))) (fun (u : (Nat → Nat)) => HM D cl tys mi cI cJ cZ ma known fresh_ saved images isImage thrown tape taped size_ at_ begin_ token value open_ bad badPlace faultKind faultPlace xs ys pairs rows top u endsBehind path order firstOrder ordersMany tSort tMany numbers) (AM ma)) 0 0 (AM ma)) (HM D cl tys mi cI cJ cZ ma known fresh_ saved images isImage thrown tape taped size_ at_ begin_ token value open_ bad badPlace faultKind faultPlace xs ys pairs rows top heaps1 endsBehind path order firstOrder ordersMany tSort tMany numbers) 0 0 3 [(0, .ref (ma 0)), (1, .int x0), (2, .int (nI b0)), (3, .int (nI w0)), (4, .int (nI s))] [] := by
    intro q3
    induction q3 with
    | zero => intro s heaps1 hq3; exact absurd hq3 (Nat.not_lt_zero _)
    | succ q3 ih3 =>
      intro s heaps1 hq3 hs hi
      refine g_iload dX10_none_3 rfl ?_
      refine g_aload_n 0 dX10_none_5 rfl rfl ?_
      refine m_get_known dX10_none_6 ?_
      refine g_iconst (v := nI 5) dX10_none_9 (by decide +kernel) ?_
      refine m_ld_known dX10_none_10 (by omega) ?_
      refine GG.topi k5 ?_
      refine g_icmp_ge_n (tgt := 43) dX10_none_11 (by decide) (by omega) (by omega) (fun c11 => ?_) (fun c11 => ?_)
      · skip
        refine g_iconst (v := nI 1) dX10_none_43 (by decide +kernel) ?_
        exact g_zret (b := true) _ dX10_none_44 (Nat.le_refl _) (Nat.le_refl _) (by exact congrArg bI (decide_eq_true (fun z hz hb => hi z (by omega) hb)).symm) (fun _ h => h)
      · skip
        refine g_iload_n 1 dX10_none_14 rfl rfl ?_
        refine g_iload dX10_none_15 rfl ?_
        refine g_ishr dX10_none_17 ?_
        refine g_iconst (v := nI 1) dX10_none_18 (by decide +kernel) ?_
        refine g_iand dX10_none_19 ?_
        refine g_iconst (v := nI 1) dX10_none_20 (by decide +kernel) ?_
        refine g_icmp_ne (tgt := 37) dX10_none_21 (by decide) (fun c21 => ?_) (fun c21 => ?_)
        · skip
          refine g_iinc_n (b := 1) (L' := [(0, _), (1, _), (2, _), (3, _), (4, _)]) dX10_none_37 rfl rfl (by decide) rfl rfl ?_
          refine g_goto (tgt := 3) dX10_none_40 (by decide) ?_
          refine ih3 (s + 1) _ (by omega) (by omega) (fun z hz hb9 => ?_)
          rcases Nat.lt_succ_iff_lt_or_eq.mp hz with q | q
          · exact hi z q hb9
          · first | exact absurd (of_decide_eq_true (by rw [q] at hb9; exact hb9)) c21 | (rw [q]; exact c32)
        · skip
          refine g_aload_n 0 dX10_none_24 rfl rfl ?_
          refine g_iload dX10_none_25 rfl ?_
          refine g_iload_n 2 dX10_none_27 rfl rfl ?_
          refine g_iload_n 3 dX10_none_28 rfl rfl ?_
          refine m_cVi (ct_knowsAt T _ _ _ hK hl (by omega) (by omega) (by omega)) hvX10_knowsAt hyX10_knowsAt rfl ⟨Nat.le_of_ble_eq_true rfl, Nat.le_of_ble_eq_true rfl⟩ ⟨Nat.zero_le _, Nat.zero_le _⟩ rfl (Nat.le_of_ble_eq_true rfl) dX10_none_29 m_rec (fun r heapsK hp => ?_)
          obtain rfl := hp
          refine g_if_eq_b (tgt := 37) dX10_none_32 (by decide) (fun c32 => ?_) (fun c32 => ?_)
          · skip
            refine g_iinc_n (b := 1) (L' := [(0, _), (1, _), (2, _), (3, _), (4, _)]) dX10_none_37 rfl rfl (by decide) rfl rfl ?_
            refine g_goto (tgt := 3) dX10_none_40 (by decide) ?_
            refine ih3 (s + 1) _ (by omega) (by omega) (fun z hz hb9 => ?_)
            rcases Nat.lt_succ_iff_lt_or_eq.mp hz with q | q
            · exact hi z q hb9
            · first | exact absurd (of_decide_eq_true (by rw [q] at hb9; exact hb9)) c21 | (rw [q]; exact c32)
          · skip
            refine g_iconst (v := nI 0) dX10_none_35 (by decide +kernel) ?_
            exact g_zret (b := false) _ dX10_none_36 (Nat.le_refl _) (Nat.le_refl _) (by exact congrArg bI (decide_eq_false (fun q => by have q2 := q s (by omega) (decide_eq_true c21); rw [c32] at q2; cases q2)).symm) (fun _ h => h)
  exact loop3 (tNS T + 1) 0 heaps (by omega) (by omega) (fun z hz => absurd hz (Nat.not_lt_zero _))
set_option maxHeartbeats 4000000 in
/-- whether all of a set know -/
theorem ct_all (T : Talk) (x0 : Int32) (b0 w0 : Nat) (hK : KIs known T) (hl : layd xs ys pairs (tW T)) (hb : b0 < 85) (hw : w0 < tP T) : CT l D cl tys yX10_all cX10_all 5 (some .boolean) ({ frames := 4, cells := 0, slots := 0, locals := 93 } : Room) [.ref (ma 0), .int x0, .int (nI b0), .int (nI w0)] (HM D cl tys mi cI cJ cZ ma known fresh_ saved images isImage thrown tape taped size_ at_ begin_ token value open_ bad badPlace faultKind faultPlace xs ys pairs rows top heaps endsBehind path order firstOrder ordersMany tSort tMany numbers) (Qi (fun (v : Int32) (u : (Nat → Nat)) => v = bI (decide (∀ s, s < tNS T → sBit x0 s = true → knowF pairs (slW (tKind T s) xs ys) (rbt rows b0) w0 = true))) (fun (u : (Nat → Nat)) => HM D cl tys mi cI cJ cZ ma known fresh_ saved images isImage thrown tape taped size_ at_ begin_ token value open_ bad badPlace faultKind faultPlace xs ys pairs rows top u endsBehind path order firstOrder ordersMany tSort tMany numbers) (AM ma)) (AM ma) := by
  obtain ⟨⟨o1, o2, o3, o4, o5, o6, o7, o8, o9, o10⟩, k0, k1, k2, k3, k4, k5, k6, k7, k8⟩ := id hK
  have hW := layd_OK hl o1 o3
  have hP : pairs ≤ 1830 := hW.1
  have hPT : pairs = tP T := hl.1
  refine CT.of (L := [(0, .ref (ma 0)), (1, .int x0), (2, .int (nI b0)), (3, .int (nI w0))]) rfl (by decide +kernel) rfl (Nat.le_of_ble_eq_true rfl) ?_
  refine g_iconst (v := nI 0) dX10_all_0 (by decide +kernel) ?_
  refine g_istore (L' := [(0, _), (1, _), (2, _), (3, _), (4, _)]) dX10_all_1 (by decide) rfl rfl ?_
  have loop3 : ∀ (q3 : Nat) (s : Nat) (heaps1 : Nat → Nat), tNS T - s < q3 → (s ≤ tNS T) → (∀ z, z < s → sBit x0 z = true → knowF pairs (slW (tKind T z) xs ys) (rbt rows b0) w0 = true) → GG l D cl tys cX10_all 5 (some .boolean) RX10 ({ frames := 4, cells := 0, slots := 0, locals := 93 } : Room) (AM ma) MT (QM (Qi (fun (v : Int32) (u : (Nat → Nat)) => v = bI (decide (∀ s, s < tNS T → sBit x0 s = true → knowF pairs (slW (tKind T s) xs ys) (rbt rows b0) w0 = true))) (fun (u : (Nat → Nat)) => HM D cl tys mi cI cJ cZ ma known fresh_ saved images isImage thrown tape taped size_ at_ begin_ token value open_ bad badPlace faultKind faultPlace xs ys pairs rows top u endsBehind path order firstOrder ordersMany tSort tMany numbers) (AM ma)) 0 0 (AM ma)) (HM D cl tys mi cI cJ cZ ma known fresh_ saved images isImage thrown tape taped size_ at_ begin_ token value open_ bad badPlace faultKind faultPlace xs ys pairs rows top heaps1 endsBehind path order firstOrder ordersMany tSort tMany numbers) 0 0 3 [(0, .ref (ma 0)), (1, .int x0), (2, .int (nI b0)), (3, .int (nI w0)), (4, .int (nI s))] [] := by
    intro q3
    induction q3 with
    | zero => intro s heaps1 hq3; exact absurd hq3 (Nat.not_lt_zero _)
    | succ q3 ih3 =>
      intro s heaps1 hq3 hs hi
      refine g_iload dX10_all_3 rfl ?_
      refine g_aload_n 0 dX10_all_5 rfl rfl ?_
      refine m_get_known dX10_all_6 ?_
      refine g_iconst (v := nI 5) dX10_all_9 (by decide +kernel) ?_
      refine m_ld_known dX10_all_10 (by omega) ?_
      refine GG.topi k5 ?_
      refine g_icmp_ge_n (tgt := 43) dX10_all_11 (by decide) (by omega) (by omega) (fun c11 => ?_) (fun c11 => ?_)
      · skip
        refine g_iconst (v := nI 1) dX10_all_43 (by decide +kernel) ?_
        exact g_zret (b := true) _ dX10_all_44 (Nat.le_refl _) (Nat.le_refl _) (by exact congrArg bI (decide_eq_true (fun z hz hb => hi z (by omega) hb)).symm) (fun _ h => h)
      · skip
        refine g_iload_n 1 dX10_all_14 rfl rfl ?_
        refine g_iload dX10_all_15 rfl ?_
        refine g_ishr dX10_all_17 ?_
        refine g_iconst (v := nI 1) dX10_all_18 (by decide +kernel) ?_
        refine g_iand dX10_all_19 ?_
        refine g_iconst (v := nI 1) dX10_all_20 (by decide +kernel) ?_
        refine g_icmp_ne (tgt := 37) dX10_all_21 (by decide) (fun c21 => ?_) (fun c21 => ?_)
        · skip
          refine g_iinc_n (b := 1) (L' := [(0, _), (1, _), (2, _), (3, _), (4, _)]) dX10_all_37 rfl rfl (by decide) rfl rfl ?_
          refine g_goto (tgt := 3) dX10_all_40 (by decide) ?_
          refine ih3 (s + 1) _ (by omega) (by omega) (fun z hz hb9 => ?_)
          rcases Nat.lt_succ_iff_lt_or_eq.mp hz with q | q
          · exact hi z q hb9
          · first | exact absurd (of_decide_eq_true (by rw [q] at hb9; exact hb9)) c21 | (rw [q]; exact c32)
        · skip
          refine g_aload_n 0 dX10_all_24 rfl rfl ?_
          refine g_iload dX10_all_25 rfl ?_
          refine g_iload_n 2 dX10_all_27 rfl rfl ?_
          refine g_iload_n 3 dX10_all_28 rfl rfl ?_
          refine m_cVi (ct_knowsAt T _ _ _ hK hl (by omega) (by omega) (by omega)) hvX10_knowsAt hyX10_knowsAt rfl ⟨Nat.le_of_ble_eq_true rfl, Nat.le_of_ble_eq_true rfl⟩ ⟨Nat.zero_le _, Nat.zero_le _⟩ rfl (Nat.le_of_ble_eq_true rfl) dX10_all_29 m_rec (fun r heapsK hp => ?_)
          obtain rfl := hp
          refine g_if_ne_b (tgt := 37) dX10_all_32 (by decide) (fun c32 => ?_) (fun c32 => ?_)
          · skip
            refine g_iinc_n (b := 1) (L' := [(0, _), (1, _), (2, _), (3, _), (4, _)]) dX10_all_37 rfl rfl (by decide) rfl rfl ?_
            refine g_goto (tgt := 3) dX10_all_40 (by decide) ?_
            refine ih3 (s + 1) _ (by omega) (by omega) (fun z hz hb9 => ?_)
            rcases Nat.lt_succ_iff_lt_or_eq.mp hz with q | q
            · exact hi z q hb9
            · first | exact absurd (of_decide_eq_true (by rw [q] at hb9; exact hb9)) c21 | (rw [q]; exact c32)
          · skip
            refine g_iconst (v := nI 0) dX10_all_35 (by decide +kernel) ?_
            exact g_zret (b := false) _ dX10_all_36 (Nat.le_refl _) (Nat.le_refl _) (by exact congrArg bI (decide_eq_false (fun q => by have q2 := q s (by omega) (decide_eq_true c21); rw [c32] at q2; cases q2)).symm) (fun _ h => h)
  exact loop3 (tNS T + 1) 0 heaps (by omega) (by omega) (fun z hz => absurd hz (Nat.not_lt_zero _))
abbrev SnOK (l : Launch) (D : va_G) (cl : List vw_C) (tys : List (ClassId × FieldType)) (mi : Nat) (cI cJ cZ : ClassId) (ma : Nat → Nat) (T : Talk) (wan hid : Int32) (w0 d : Nat) : Prop := ∀ {known fresh_ saved images : Nat → Int32} {isImage : Nat → Bool} {thrown : Nat} {tape : Nat → Nat} {taped size_ at_ begin_ token value open_ bad badPlace faultKind : Nat} {faultPlace : Int32} {xs ys : Nat → Nat} {pairs : Nat} {rows : Nat → Int64} {top : Nat} {heaps : Nat → Nat} {endsBehind : Nat → Int32} {path order firstOrder : Nat → Nat} {ordersMany : Nat} {tSort : Nat → Int32} {tMany : Nat → Nat} {numbers : Nat → Int64} (a0 : Nat) (f : Nat → Bool), KIs known T → layd xs ys pairs (tW T) → w0 < tP T → a0 + d ≤ 5 → (∀ v, v < tP T → rbt rows a0 v = f v) → CT l D cl tys yX10_soon cX10_soon 7 (some .boolean) ({ frames := 5 + (d), cells := 0, slots := 0, locals := 119 + 40 * (d) } : Room) [.ref (ma 0), .int (nI w0), .int wan, .int hid, .int (nI a0), .int (nI d)] (HM D cl tys mi cI cJ cZ ma known fresh_ saved images isImage thrown tape taped size_ at_ begin_ token value open_ bad badPlace faultKind faultPlace xs ys pairs rows top heaps endsBehind path order firstOrder ordersMany tSort tMany numbers) (Qi (fun (v : Int32) (u : (Nat → Nat) × (Nat → Int64) × (Nat → Nat)) => v = bI (snF T wan hid w0 d f).isSome ∧ went path u.2.2 rows u.2.1 (tP T) a0 d (snF T wan hid w0 d f)) (fun (u : (Nat → Nat) × (Nat → Int64) × (Nat → Nat)) => HM D cl tys mi cI cJ cZ ma known fresh_ saved images isImage thrown tape taped size_ at_ begin_ token value open_ bad badPlace faultKind faultPlace xs ys pairs u.2.1 top u.1 endsBehind u.2.2 order firstOrder ordersMany tSort tMany numbers) (AM ma)) (AM ma)
set_option maxHeartbeats 4000000 in
/-- whether no more turn does -/
theorem ct_soon0 (T : Talk) (wan hid : Int32) (w0 a0 : Nat) (f : Nat → Bool) (hK : KIs known T) (hl : layd xs ys pairs (tW T)) (hw : w0 < tP T) (had : a0 + 0 ≤ 5) (hf : ∀ v, v < tP T → rbt rows a0 v = f v) : CT l D cl tys yX10_soon cX10_soon 7 (some .boolean) ({ frames := 5 + (0), cells := 0, slots := 0, locals := 119 + 40 * (0) } : Room) [.ref (ma 0), .int (nI w0), .int wan, .int hid, .int (nI a0), .int (nI 0)] (HM D cl tys mi cI cJ cZ ma known fresh_ saved images isImage thrown tape taped size_ at_ begin_ token value open_ bad badPlace faultKind faultPlace xs ys pairs rows top heaps endsBehind path order firstOrder ordersMany tSort tMany numbers) (Qi (fun (v : Int32) (u : (Nat → Nat) × (Nat → Int64) × (Nat → Nat)) => v = bI (snF T wan hid w0 0 f).isSome ∧ went path u.2.2 rows u.2.1 (tP T) a0 0 (snF T wan hid w0 0 f)) (fun (u : (Nat → Nat) × (Nat → Int64) × (Nat → Nat)) => HM D cl tys mi cI cJ cZ ma known fresh_ saved images isImage thrown tape taped size_ at_ begin_ token value open_ bad badPlace faultKind faultPlace xs ys pairs u.2.1 top u.1 endsBehind u.2.2 order firstOrder ordersMany tSort tMany numbers) (AM ma)) (AM ma) := by
  obtain ⟨⟨o1, o2, o3, o4, o5, o6, o7, o8, o9, o10⟩, k0, k1, k2, k3, k4, k5, k6, k7, k8⟩ := id hK
  have hW := layd_OK hl o1 o3
  have hP : pairs ≤ 1830 := hW.1
  have hPT : pairs = tP T := hl.1
  refine CT.of (L := [(0, .ref (ma 0)), (1, .int (nI w0)), (2, .int wan), (3, .int hid), (4, .int (nI a0)), (5, .int (nI 0))]) rfl (by decide +kernel) rfl (Nat.le_of_ble_eq_true rfl) ?_
  refine g_aload_n 0 dX10_soon_0 rfl rfl ?_
  refine g_iload_n 3 dX10_soon_1 rfl rfl ?_
  refine g_iload dX10_soon_2 rfl ?_
  refine g_iload_n 1 dX10_soon_4 rfl rfl ?_
  refine m_cVi (ct_none T hid _ _ hK hl (by omega) (by omega)) hvX10_none hyX10_none rfl ⟨by dsimp only; omega, by dsimp only; omega⟩ ⟨Nat.zero_le _, Nat.zero_le _⟩ rfl (Nat.le_of_ble_eq_true rfl) dX10_soon_5 m_rec (fun r heapsN hp => ?_)
  obtain rfl := hp
  refine GG.topi (y := bI (snGood T hid w0 f)) (congrArg bI (by unfold snGood; congr 1; exact propext ⟨fun h s a b => by rw [← knowF_env hl hw rfl hf]; exact h s a b, fun h s a b => by rw [knowF_env hl hw rfl hf]; exact h s a b⟩)) ?_
  refine g_if_ne_b (tgt := 13) dX10_soon_8 (by decide) (fun c8 => ?_) (fun c8 => ?_)
  · skip
    refine g_iload dX10_soon_13 rfl ?_
    refine g_if_ne_n (tgt := 27) dX10_soon_15 (by decide) (by decide) (fun h => absurd h (by decide)) (fun _ => ?_)
    refine g_aload_n 0 dX10_soon_18 rfl rfl ?_
    refine g_iload_n 2 dX10_soon_19 rfl rfl ?_
    refine g_iload dX10_soon_20 rfl ?_
    refine g_iload_n 1 dX10_soon_22 rfl rfl ?_
    refine m_cVi (ct_all T wan _ _ hK hl (by omega) (by omega)) hvX10_all hyX10_all rfl ⟨by dsimp only; omega, by dsimp only; omega⟩ ⟨Nat.zero_le _, Nat.zero_le _⟩ rfl (Nat.le_of_ble_eq_true rfl) dX10_soon_23 m_rec (fun r heapsA hp => ?_)
    obtain rfl := hp
    refine GG.topi (y := bI (snFin T wan w0 f)) (congrArg bI (by unfold snFin; congr 1; exact propext ⟨fun h s a b => by rw [← knowF_env hl hw rfl hf]; exact h s a b, fun h s a b => by rw [knowF_env hl hw rfl hf]; exact h s a b⟩)) ?_
    exact g_zret (heapsA, rows, path) dX10_soon_26 (Nat.le_refl _) (Nat.le_refl _) (by rw [show snF T wan hid w0 0 f = if snFin T wan w0 f = true then some ([], f) else none by unfold snF seekF; rw [c8]; rfl]; exact went_here hf (snFin T wan w0 f)) (fun _ h => h)
  · skip
    refine g_iconst (v := nI 0) dX10_soon_11 (by decide +kernel) ?_
    exact g_zret (b := false) (heapsN, rows, path) dX10_soon_12 (Nat.le_refl _) (Nat.le_refl _) (by rw [show snF T wan hid w0 0 f = none by unfold snF seekF; rw [c8]; rfl]; exact ⟨rfl, went_refl⟩) (fun _ h => h)
set_option maxHeartbeats 4000000 in
/-- whether some more turns do -/
theorem ct_soonS (T : Talk) (wan hid : Int32) (d w0 a0 : Nat) (f : Nat → Bool) (ih : SnOK l D cl tys mi cI cJ cZ ma T wan hid w0 d) (hK : KIs known T) (hl : layd xs ys pairs (tW T)) (hw : w0 < tP T) (had : a0 + (d + 1) ≤ 5) (hf : ∀ v, v < tP T → rbt rows a0 v = f v) : CT l D cl tys yX10_soon cX10_soon 7 (some .boolean) ({ frames := 5 + (d + 1), cells := 0, slots := 0, locals := 119 + 40 * (d + 1) } : Room) [.ref (ma 0), .int (nI w0), .int wan, .int hid, .int (nI a0), .int (nI (d + 1))] (HM D cl tys mi cI cJ cZ ma known fresh_ saved images isImage thrown tape taped size_ at_ begin_ token value open_ bad badPlace faultKind faultPlace xs ys pairs rows top heaps endsBehind path order firstOrder ordersMany tSort tMany numbers) (Qi (fun (v : Int32) (u : (Nat → Nat) × (Nat → Int64) × (Nat → Nat)) => v = bI (snF T wan hid w0 (d + 1) f).isSome ∧ went path u.2.2 rows u.2.1 (tP T) a0 (d + 1) (snF T wan hid w0 (d + 1) f)) (fun (u : (Nat → Nat) × (Nat → Int64) × (Nat → Nat)) => HM D cl tys mi cI cJ cZ ma known fresh_ saved images isImage thrown tape taped size_ at_ begin_ token value open_ bad badPlace faultKind faultPlace xs ys pairs u.2.1 top u.1 endsBehind u.2.2 order firstOrder ordersMany tSort tMany numbers) (AM ma)) (AM ma) := by
  obtain ⟨⟨o1, o2, o3, o4, o5, o6, o7, o8, o9, o10⟩, k0, k1, k2, k3, k4, k5, k6, k7, k8⟩ := id hK
  have hW := layd_OK hl o1 o3
  have hP : pairs ≤ 1830 := hW.1
  have hPT : pairs = tP T := hl.1
  refine CT.of (L := [(0, .ref (ma 0)), (1, .int (nI w0)), (2, .int wan), (3, .int hid), (4, .int (nI a0)), (5, .int (nI (d + 1)))]) rfl (by decide +kernel) rfl (Nat.le_of_ble_eq_true rfl) ?_
  refine g_aload_n 0 dX10_soon_0 rfl rfl ?_
  refine g_iload_n 3 dX10_soon_1 rfl rfl ?_
  refine g_iload dX10_soon_2 rfl ?_
  refine g_iload_n 1 dX10_soon_4 rfl rfl ?_
  refine m_cVi (ct_none T hid _ _ hK hl (by omega) (by omega)) hvX10_none hyX10_none rfl ⟨by dsimp only; omega, by dsimp only; omega⟩ ⟨Nat.zero_le _, Nat.zero_le _⟩ rfl (Nat.le_of_ble_eq_true rfl) dX10_soon_5 m_rec (fun r heapsN hp => ?_)
  obtain rfl := hp
  refine GG.topi (y := bI (snGood T hid w0 f)) (congrArg bI (by unfold snGood; congr 1; exact propext ⟨fun h s a b => by rw [← knowF_env hl hw rfl hf]; exact h s a b, fun h s a b => by rw [knowF_env hl hw rfl hf]; exact h s a b⟩)) ?_
  refine g_if_ne_b (tgt := 13) dX10_soon_8 (by decide) (fun c8 => ?_) (fun c8 => ?_)
  · skip
    have hgd := c8
    refine g_iload dX10_soon_13 rfl ?_
    refine g_if_ne_n (tgt := 27) dX10_soon_15 (by decide) (by omega) (fun c15 => ?_) (fun c15 => ?_)
    · skip
      refine g_iconst (v := nI 0) dX10_soon_27 (by decide +kernel) ?_
      refine g_istore (L' := [(0, _), (1, _), (2, _), (3, _), (4, _), (5, _), (6, _)]) dX10_soon_28 (by decide) rfl rfl ?_
      have loop30 : ∀ (q30 : Nat) (s : Nat) (heaps1 : Nat → Nat) (rows1 : Nat → Int64) (path1 : Nat → Nat), tNS T - s < q30 → (s ≤ tNS T) → (srchF (fun k => snF T wan hid w0 d (snStep T w0 k f)) s = none) → (∀ r' w', r' ≤ a0 → w' < 1856 → rbt rows1 r' w' = rbt rows r' w') → (∀ j, j < a0 → path1 j = path j) → GG l D cl tys cX10_soon 7 (some .boolean) RX10 ({ frames := 5 + (d + 1), cells := 0, slots := 0, locals := 119 + 40 * (d + 1) } : Room) (AM ma) MT (QM (Qi (fun (v : Int32) (u : (Nat → Nat) × (Nat → Int64) × (Nat → Nat)) => v = bI (snF T wan hid w0 (d + 1) f).isSome ∧ went path u.2.2 rows u.2.1 (tP T) a0 (d + 1) (snF T wan hid w0 (d + 1) f)) (fun (u : (Nat → Nat) × (Nat → Int64) × (Nat → Nat)) => HM D cl tys mi cI cJ cZ ma known fresh_ saved images isImage thrown tape taped size_ at_ begin_ token value open_ bad badPlace faultKind faultPlace xs ys pairs u.2.1 top u.1 endsBehind u.2.2 order firstOrder ordersMany tSort tMany numbers) (AM ma)) 0 0 (AM ma)) (HM D cl tys mi cI cJ cZ ma known fresh_ saved images isImage thrown tape taped size_ at_ begin_ token value open_ bad badPlace faultKind faultPlace xs ys pairs rows1 top heaps1 endsBehind path1 order firstOrder ordersMany tSort tMany numbers) 0 0 30 [(0, .ref (ma 0)), (1, .int (nI w0)), (2, .int wan), (3, .int hid), (4, .int (nI a0)), (5, .int (nI (d + 1))), (6, .int (nI s))] [] := by
        intro q30
        induction q30 with
        | zero => intro s heaps1 rows1 path1 hq30; exact absurd hq30 (Nat.not_lt_zero _)
        | succ q30 ih30 =>
          intro s heaps1 rows1 path1 hq30 hs hi hrk hpk
          refine g_iload dX10_soon_30 rfl ?_
          refine g_aload_n 0 dX10_soon_32 rfl rfl ?_
          refine m_get_known dX10_soon_33 ?_
          refine g_iconst (v := nI 5) dX10_soon_36 (by decide +kernel) ?_
          refine m_ld_known dX10_soon_37 (by omega) ?_
          refine GG.topi k5 ?_
          refine g_icmp_ge_n (tgt := 97) dX10_soon_38 (by decide) (by omega) (by omega) (fun c38 => ?_) (fun c38 => ?_)
          · skip
            refine g_iconst (v := nI 0) dX10_soon_97 (by decide +kernel) ?_
            exact g_zret (b := false) (heaps1, rows1, path1) dX10_soon_98 (Nat.le_refl _) (Nat.le_refl _) (by have e9 : s = tNS T := (by omega); rw [show snF T wan hid w0 (d + 1) f = none by unfold snF seekF; rw [if_pos hgd]; rw [e9] at hi; exact hi]; exact ⟨rfl, went_none hrk hpk⟩) (fun _ h => h)
          · skip
            refine g_aload_n 0 dX10_soon_41 rfl rfl ?_
            refine g_iload dX10_soon_42 rfl ?_
            refine g_iload dX10_soon_44 rfl ?_
            refine g_aload_n 0 dX10_soon_46 rfl rfl ?_
            refine g_iload dX10_soon_47 rfl ?_
            refine g_iload dX10_soon_49 rfl ?_
            refine g_iload_n 1 dX10_soon_51 rfl rfl ?_
            refine m_cVi (ct_knowsAt T _ _ _ hK hl (by omega) (by omega) (by omega)) hvX10_knowsAt hyX10_knowsAt rfl ⟨by dsimp only; omega, by dsimp only; omega⟩ ⟨Nat.zero_le _, Nat.zero_le _⟩ rfl (Nat.le_of_ble_eq_true rfl) dX10_soon_52 m_rec (fun r heapsK hp => ?_)
            obtain rfl := hp
            have hk9 : knowF pairs (slW (tKind T s) xs ys) (rbt rows1 a0) w0 = knowF (tP T) (tSl T s) f w0 := knowF_env hl hw rfl (fun v hv => by rw [hrk a0 v (Nat.le_refl _) (by omega)]; exact hf v hv)
            refine g_iload dX10_soon_55 rfl ?_
            refine g_iconst (v := nI 1) dX10_soon_57 (by decide +kernel) ?_
            refine g_iadd_n dX10_soon_58 ?_
            refine m_cVv (ct_laysAnswers s a0 (a0 + 1) (tKind T s) _ (by omega) (k7 s (by omega)).1 (by have := o8 s (by omega); omega) (by omega) (by omega) (by omega) hW) hvX10_laysAnswers hyX10_laysAnswers rfl ⟨by dsimp only; omega, by dsimp only; omega⟩ ⟨Nat.zero_le _, Nat.zero_le _⟩ rfl (Nat.le_of_ble_eq_true rfl) dX10_soon_59 m_rec (fun ua ha => ?_)
            obtain ⟨heaps4, rows4⟩ := ua
            dsimp only
            have ha : rowsUp rows1 rows4 (a0 + 1) pairs _ := ha
            have hst : ∀ v, v < tP T → rbt rows4 (a0 + 1) v = snStep T w0 s f v := fun v hv => by
              rw [rowsUp_in ha hP (by omega), hk9]
              exact ansW_env hl rfl (fun v hv => by rw [hrk a0 v (Nat.le_refl _) (by omega)]; exact hf v hv) v hv
            refine g_aload_n 0 dX10_soon_62 rfl rfl ?_
            refine m_get_path dX10_soon_63 ?_
            refine g_iload dX10_soon_66 rfl ?_
            refine g_iload dX10_soon_68 rfl ?_
            refine m_st_path dX10_soon_70 (by omega) ?_
            refine g_aload_n 0 dX10_soon_71 rfl rfl ?_
            refine g_iload_n 1 dX10_soon_72 rfl rfl ?_
            refine g_iload_n 2 dX10_soon_73 rfl rfl ?_
            refine g_iload_n 3 dX10_soon_74 rfl rfl ?_
            refine g_iload dX10_soon_75 rfl ?_
            refine g_iconst (v := nI 1) dX10_soon_77 (by decide +kernel) ?_
            refine g_iadd_n dX10_soon_78 ?_
            refine g_iload dX10_soon_79 rfl ?_
            refine g_iconst (v := nI 1) dX10_soon_81 (by decide +kernel) ?_
            refine g_isub_n dX10_soon_82 (by omega) ?_
            refine m_cVi (ih (a0 + 1) (snStep T w0 s f) hK hl hw (by omega) hst) hvX10_soon hyX10_soon rfl ⟨by dsimp only; omega, by dsimp only; omega⟩ ⟨Nat.zero_le _, Nat.zero_le _⟩ rfl (Nat.le_of_ble_eq_true rfl) dX10_soon_83 m_rec (fun r us hus => ?_)
            obtain ⟨heaps5, rows5, path5⟩ := us
            dsimp only
            obtain ⟨hr9, hg9⟩ := hus
            subst hr9
            have hg9 : went (up path1 a0 s) path5 rows4 rows5 (tP T) (a0 + 1) d _ := hg9
            refine g_if_eq_b (tgt := 91) dX10_soon_86 (by decide) (fun c86 => ?_) (fun c86 => ?_)
            · skip
              refine g_iinc_n (b := 1) (L' := [(0, _), (1, _), (2, _), (3, _), (4, _), (5, _), (6, _)]) dX10_soon_91 rfl rfl (by decide) rfl rfl ?_
              refine g_goto (tgt := 30) dX10_soon_94 (by decide) ?_
              exact ih30 (s + 1) heaps5 rows5 path5 (by omega) (by omega) (srchF_none hi (Option.isSome_eq_false_iff.mp c86 |> Option.isNone_iff_eq_none.mp)) (fun r' w' a b => by rw [hg9.1 r' w' (by omega) b, rowsUp_ne ha (by omega) b, hrk r' w' a b]) (fun j hj => by rw [hg9.2.1 j (by omega), up_n (by omega), hpk j hj])
            · skip
              refine g_iconst (v := nI 1) dX10_soon_89 (by decide +kernel) ?_
              have hsm := Option.isSome_iff_exists.mp c86
              obtain ⟨⟨pp, SS⟩, hps⟩ := hsm
              have hsr := srchF_some hi hps c38
              exact g_zret (b := true) (heaps5, rows5, path5) dX10_soon_90 (Nat.le_refl _) (Nat.le_refl _) (by rw [show snF T wan hid w0 (d + 1) f = some (s :: pp, SS) by unfold snF seekF; rw [if_pos hgd]; exact hsr]; exact ⟨rfl, went_cons hrk hpk (by rw [← hPT]; exact ha) hg9 hps rfl⟩) (fun _ h => h)
      exact loop30 (tNS T + 1) 0 _ rows path (by omega) (by omega) rfl (fun _ _ _ _ => rfl) (fun _ _ => rfl)
    · skip
      exact absurd c15 (by omega)
  · skip
    refine g_iconst (v := nI 0) dX10_soon_11 (by decide +kernel) ?_
    exact g_zret (b := false) (heapsN, rows, path) dX10_soon_12 (Nat.le_refl _) (Nat.le_refl _) (by rw [show snF T wan hid w0 (d + 1) f = none by unfold snF seekF; rw [if_neg (by rw [c8]; decide)]]; exact ⟨rfl, went_refl⟩) (fun _ h => h)
theorem sn_all (T : Talk) (wan hid : Int32) (w0 : Nat) : ∀ d : Nat, SnOK l D cl tys mi cI cJ cZ ma T wan hid w0 d
  | 0 => fun a0 f h1 h2 h3 h4 h5 => ct_soon0 T wan hid w0 a0 f h1 h2 h3 h4 h5
  | d + 1 => fun a0 f h1 h2 h3 h4 h5 => ct_soonS T wan hid d w0 a0 f (sn_all T wan hid w0 d) h1 h2 h3 h4 h5
end
