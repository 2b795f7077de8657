/-! THE MODEL, 1: leaves; rows of bits -/
set_option maxRecDepth 100000
section
variable {l : Launch} {D : va_G} {cl : List vw_C} {tys : List (ClassId × FieldType)} {mi : Nat} {cI cJ cZ : ClassId} {ma : Nat → Nat} {known fresh_ saved images : Nat → Int32} {isImage : Nat → Bool} {thrown : Nat} {tape : Nat → Nat} {taped size_ at_ begin_ token value open_ bad badPlace faultKind : Nat} {faultPlace : Int32} {xs ys : Nat → Nat} {pairs : Nat} {rows : Nat → Int64} {top : Nat} {heaps : Nat → Nat} {endsBehind : Nat → Int32} {path order firstOrder : Nat → Nat} {ordersMany : Nat} {tSort : Nat → Int32} {tMany : Nat → Nat} {numbers : Nat → Int64}
def wIn (v low high : Int64) : Bool := decide (low.toInt ≤ v.toInt ∧ v.toInt ≤ high.toInt)
theorem nI_m1 {n : Nat} (h : n < 2 ^ 31) : ¬ nI n = -1 := by
  intro e
  have := congrArg Int32.toInt e
  rw [nI_toInt h] at this
  have h2 : (-1 : Int32).toInt = -1 := by decide
  omega
def isFst (f : Nat → Bool) (n : Nat) (r : Int32) : Prop := (∃ w, w < n ∧ f w = true ∧ (∀ v, v < w → f v = false) ∧ r = nI w) ∨ ((∀ w, w < n → f w = false) ∧ r = -1)
def slipN (kd x y : Nat) : Nat := match kd with
  | 0 => x + y
  | 1 => x * y
  | 2 => y
  | 3 => x
  | 4 => y - x
  | 5 => x * x + y * y
  | 6 => (x + y) % 2
  | 7 => (x + y) % 10
  | _ => 0
theorem slipN_8 {kd x y : Nat} (h : 8 ≤ kd) : slipN kd x y = 0 := by
  match kd, h with
  | k + 8, _ => rfl
theorem slipN_lt {kd x y : Nat} (hx : x ≤ 60) (hy : y ≤ 60) : slipN kd x y < 7201 := by
  have h1 : x * x ≤ 60 * 60 := Nat.mul_le_mul hx hx
  have h2 : y * y ≤ 60 * 60 := Nat.mul_le_mul hy hy
  have h3 : x * y ≤ 60 * 60 := Nat.mul_le_mul hx hy
  match kd with
  | 0 => show x + y < 7201; omega
  | 1 => show x * y < 7201; omega
  | 2 => show y < 7201; omega
  | 3 => show x < 7201; omega
  | 4 => show y - x < 7201; omega
  | 5 => show x * x + y * y < 7201; omega
  | 6 => show (x + y) % 2 < 7201; omega
  | 7 => show (x + y) % 10 < 7201; omega
  | k + 8 => show 0 < 7201; omega
def wOK (P : Nat) (xs ys : Nat → Nat) : Prop := P ≤ 1830 ∧ ∀ w, w < P → xs w ≤ 60 ∧ ys w ≤ 60 ∧ xs w ≤ ys w
/-- one bit of a row put -/
def rowPut (rows rows2 : Nat → Int64) (r w : Nat) (b : Bool) : Prop := ∀ r' w', w' < 1856 → rbt rows2 r' w' = if r' = r ∧ w' = w then b else rbt rows r' w'
/-- a row's first P bits as g says, all else as before -/
def rowsUp (rows rows2 : Nat → Int64) (row P : Nat) (g : Nat → Bool) : Prop := ∀ r' w', w' < 1856 → rbt rows2 r' w' = if r' = row ∧ w' < P then g w' else rbt rows r' w'
theorem rowsUp_0 {rows : Nat → Int64} {row : Nat} {g : Nat → Bool} : rowsUp rows rows row 0 g := fun r' w' _ => by rw [if_neg (fun h => Nat.not_lt_zero _ h.2)]
theorem rowsUp_step {rows r1 r2 : Nat → Int64} {row w : Nat} {g : Nat → Bool} {b : Bool} (h : rowsUp rows r1 row w g) (hp : rowPut r1 r2 row w b) (hb : b = g w) : rowsUp rows r2 row (w + 1) g := by
  intro r' w' hw'
  rw [hp r' w' hw', h r' w' hw']
  by_cases h1 : r' = row
  · by_cases h2 : w' = w
    · subst h2; subst h1
      rw [if_pos ⟨rfl, rfl⟩, if_pos ⟨rfl, Nat.lt_succ_self _⟩, hb]
    · by_cases h3 : w' < w
      · rw [if_neg (fun q => h2 q.2), if_pos ⟨h1, h3⟩, if_pos ⟨h1, Nat.lt_succ_of_lt h3⟩]
      · rw [if_neg (fun q => h2 q.2), if_neg (fun q => h3 q.2), if_neg (fun q => by omega)]
  · rw [if_neg (fun q => h1 q.1), if_neg (fun q => h1 q.1), if_neg (fun q => h1 q.1)]
theorem rowsUp_in {rows r2 : Nat → Int64} {row P w : Nat} {g : Nat → Bool} (h : rowsUp rows r2 row P g) (hP : P ≤ 1830) (hw : w < P) : rbt r2 row w = g w := by
  rw [h row w (by omega), if_pos ⟨rfl, hw⟩]
theorem rowsUp_ne {rows r2 : Nat → Int64} {row P r w : Nat} {g : Nat → Bool} (h : rowsUp rows r2 row P g) (hr : ¬ r = row) (hw : w < 1856) : rbt r2 r w = rbt rows r w := by
  rw [h r w hw, if_neg (fun q => hr q.1)]
set_option maxHeartbeats 4000000 in
/-- low <= v <= high -/
theorem ct_within {HP : Heap → Prop} (v0 low high : Int64)  : CT l D cl tys yX10_within cX10_within 6 (some .boolean) ({ frames := 0, cells := 0, slots := 0, locals := 0 } : Room) [.long v0, .long low, .long high] (HP) (Qi (fun (v : Int32) (u : Unit) => v = bI (wIn v0 low high)) (fun (u : Unit) => HP) (AM ma)) (AM ma) := by
  refine CT.of (L := [(0, .long v0), (2, .long low), (4, .long high)]) rfl (by decide +kernel) rfl (Nat.le_of_ble_eq_true rfl) ?_
  refine g_lload_n 0 dX10_within_0 rfl rfl ?_
  refine g_lload_n 2 dX10_within_1 rfl rfl ?_
  refine g_lcmp dX10_within_2 ?_
  refine g_if_lt (tgt := 17) dX10_within_3 (by decide) (fun c3 => ?_) (fun c3 => ?_)
  · skip
    have q3 := (lg_cmp_lt v0 low).mp c3
    have e3 : wIn v0 low high = false := decide_eq_false (fun q => by have := Int64.lt_iff_toInt_lt.mp q3; omega)
    refine g_iconst (v := nI 0) dX10_within_17 (by decide +kernel) ?_
    exact g_zret (b := false) () dX10_within_18 (Nat.le_refl _) (Nat.le_refl _) (by first | rw [e10] | rw [e3]) (fun _ h => h)
  · skip
    have q3 := mt (lg_cmp_lt v0 low).mpr c3
    refine g_lload_n 0 dX10_within_6 rfl rfl ?_
    refine g_lload dX10_within_7 rfl ?_
    refine g_lcmp dX10_within_9 ?_
    refine g_if_gt (tgt := 17) dX10_within_10 (by decide) (fun c10 => ?_) (fun c10 => ?_)
    · skip
      have q10 := (lg_cmp_gt v0 high).mp c10
      have e10 : wIn v0 low high = false := decide_eq_false (fun q => by have := Int64.lt_iff_toInt_lt.mp q10; omega)
      refine g_iconst (v := nI 0) dX10_within_17 (by decide +kernel) ?_
      exact g_zret (b := false) () dX10_within_18 (Nat.le_refl _) (Nat.le_refl _) (by first | rw [e10] | rw [e3]) (fun _ h => h)
    · skip
      have q10 := mt (lg_cmp_gt v0 high).mpr c10
      have e10 : wIn v0 low high = true := decide_eq_true ⟨by have := mt Int64.lt_iff_toInt_lt.mpr q3; omega, by have := mt Int64.lt_iff_toInt_lt.mpr q10; omega⟩
      refine g_iconst (v := nI 1) dX10_within_13 (by decide +kernel) ?_
      refine g_goto (tgt := 18) dX10_within_14 (by decide) ?_
      exact g_zret (b := true) () dX10_within_18 (Nat.le_refl _) (Nat.le_refl _) (by rw [e10]) (fun _ h => h)
set_option maxHeartbeats 4000000 in
/-- what the last call threw -/
theorem ct_thrown   : CT l D cl tys yX10_thrown cX10_thrown 1 (some .int) ({ frames := 0, cells := 0, slots := 0, locals := 0 } : Room) [.ref (ma 0)] (HM D cl tys mi cI cJ cZ ma known fresh_ saved images isImage thrown tape taped size_ at_ begin_ token value open_ bad badPlace faultKind faultPlace xs ys pairs rows top heaps endsBehind path order firstOrder ordersMany tSort tMany numbers) (Qi (fun (v : Int32) (u : Unit) => v = nI thrown) (fun (u : Unit) => HM D cl tys mi cI cJ cZ ma known fresh_ saved images isImage thrown tape taped size_ at_ begin_ token value open_ bad badPlace faultKind faultPlace xs ys pairs rows top heaps endsBehind path order firstOrder ordersMany tSort tMany numbers) (AM ma)) (AM ma) := by
  refine CT.of (L := [(0, .ref (ma 0))]) rfl (by decide +kernel) rfl (Nat.le_of_ble_eq_true rfl) ?_
  refine g_aload_n 0 dX10_thrown_0 rfl rfl ?_
  refine m_get_thrown dX10_thrown_1 ?_
  exact g_iret () dX10_thrown_4 (Nat.le_refl _) (Nat.le_refl _) (rfl) (fun _ h => h)
set_option maxHeartbeats 4000000 in
/-- throws k -/
theorem ct_fails (k0 : Nat)  : CT l D cl tys yX10_fails cX10_fails 2 (some .int) ({ frames := 0, cells := 0, slots := 0, locals := 0 } : Room) [.ref (ma 0), .int (nI k0)] (HM D cl tys mi cI cJ cZ ma known fresh_ saved images isImage thrown tape taped size_ at_ begin_ token value open_ bad badPlace faultKind faultPlace xs ys pairs rows top heaps endsBehind path order firstOrder ordersMany tSort tMany numbers) (Qi (fun (v : Int32) (u : Unit) => v = nI 0) (fun (u : Unit) => HM D cl tys mi cI cJ cZ ma known fresh_ saved images isImage k0 tape taped size_ at_ begin_ token value open_ bad badPlace faultKind faultPlace xs ys pairs rows top heaps endsBehind path order firstOrder ordersMany tSort tMany numbers) (AM ma)) (AM ma) := by
  refine CT.of (L := [(0, .ref (ma 0)), (1, .int (nI k0))]) rfl (by decide +kernel) rfl (Nat.le_of_ble_eq_true rfl) ?_
  refine g_aload_n 0 dX10_fails_0 rfl rfl ?_
  refine g_iload_n 1 dX10_fails_1 rfl rfl ?_
  refine m_put_thrown dX10_fails_2 ?_
  refine g_iconst (v := nI 0) dX10_fails_5 (by decide +kernel) ?_
  exact g_iret () dX10_fails_6 (Nat.le_refl _) (Nat.le_refl _) (rfl) (fun _ h => h)
set_option maxHeartbeats 4000000 in
/-- of a speaker -/
theorem ct_of (s0 w0 : Nat) (h0 : 8 + 3 * s0 + w0 < 1868) : CT l D cl tys yX10_of cX10_of 3 (some .int) ({ frames := 0, cells := 0, slots := 0, locals := 0 } : Room) [.ref (ma 0), .int (nI s0), .int (nI w0)] (HM D cl tys mi cI cJ cZ ma known fresh_ saved images isImage thrown tape taped size_ at_ begin_ token value open_ bad badPlace faultKind faultPlace xs ys pairs rows top heaps endsBehind path order firstOrder ordersMany tSort tMany numbers) (Qi (fun (v : Int32) (u : Unit) => v = known (8 + 3 * s0 + w0)) (fun (u : Unit) => HM D cl tys mi cI cJ cZ ma known fresh_ saved images isImage thrown tape taped size_ at_ begin_ token value open_ bad badPlace faultKind faultPlace xs ys pairs rows top heaps endsBehind path order firstOrder ordersMany tSort tMany numbers) (AM ma)) (AM ma) := by
  refine CT.of (L := [(0, .ref (ma 0)), (1, .int (nI s0)), (2, .int (nI w0))]) rfl (by decide +kernel) rfl (Nat.le_of_ble_eq_true rfl) ?_
  refine g_aload_n 0 dX10_of_0 rfl rfl ?_
  refine m_get_known dX10_of_1 ?_
  refine g_bipush (v := nI 8) dX10_of_4 (by decide +kernel) ?_
  refine g_iconst (v := nI 3) dX10_of_6 (by decide +kernel) ?_
  refine g_iload_n 1 dX10_of_7 rfl rfl ?_
  refine g_imul_n dX10_of_8 ?_
  refine g_iadd_n dX10_of_9 ?_
  refine g_iload_n 2 dX10_of_10 rfl rfl ?_
  refine g_iadd_n dX10_of_11 ?_
  refine m_ld_known dX10_of_12 (by omega) ?_
  exact g_iret () dX10_of_13 (Nat.le_refl _) (Nat.le_refl _) (rfl) (fun _ h => h)
set_option maxHeartbeats 4000000 in
/-- who says a turn -/
theorem ct_who (t0 : Nat) (h0 : 26 + 2 * t0 < 1868) : CT l D cl tys yX10_who cX10_who 2 (some .int) ({ frames := 0, cells := 0, slots := 0, locals := 0 } : Room) [.ref (ma 0), .int (nI t0)] (HM D cl tys mi cI cJ cZ ma known fresh_ saved images isImage thrown tape taped size_ at_ begin_ token value open_ bad badPlace faultKind faultPlace xs ys pairs rows top heaps endsBehind path order firstOrder ordersMany tSort tMany numbers) (Qi (fun (v : Int32) (u : Unit) => v = known (26 + 2 * t0)) (fun (u : Unit) => HM D cl tys mi cI cJ cZ ma known fresh_ saved images isImage thrown tape taped size_ at_ begin_ token value open_ bad badPlace faultKind faultPlace xs ys pairs rows top heaps endsBehind path order firstOrder ordersMany tSort tMany numbers) (AM ma)) (AM ma) := by
  refine CT.of (L := [(0, .ref (ma 0)), (1, .int (nI t0))]) rfl (by decide +kernel) rfl (Nat.le_of_ble_eq_true rfl) ?_
  refine g_aload_n 0 dX10_who_0 rfl rfl ?_
  refine m_get_known dX10_who_1 ?_
  refine g_bipush (v := nI 26) dX10_who_4 (by decide +kernel) ?_
  refine g_iconst (v := nI 2) dX10_who_6 (by decide +kernel) ?_
  refine g_iload_n 1 dX10_who_7 rfl rfl ?_
  refine g_imul_n dX10_who_8 ?_
  refine g_iadd_n dX10_who_9 ?_
  refine m_ld_known dX10_who_10 (by omega) ?_
  exact g_iret () dX10_who_11 (Nat.le_refl _) (Nat.le_refl _) (rfl) (fun _ h => h)
set_option maxHeartbeats 4000000 in
/-- of a mark -/
theorem ct_markOf (m0 w0 : Nat) (h0 : 66 + 4 * m0 + w0 < 1868) : CT l D cl tys yX10_markOf cX10_markOf 3 (some .int) ({ frames := 0, cells := 0, slots := 0, locals := 0 } : Room) [.ref (ma 0), .int (nI m0), .int (nI w0)] (HM D cl tys mi cI cJ cZ ma known fresh_ saved images isImage thrown tape taped size_ at_ begin_ token value open_ bad badPlace faultKind faultPlace xs ys pairs rows top heaps endsBehind path order firstOrder ordersMany tSort tMany numbers) (Qi (fun (v : Int32) (u : Unit) => v = known (66 + 4 * m0 + w0)) (fun (u : Unit) => HM D cl tys mi cI cJ cZ ma known fresh_ saved images isImage thrown tape taped size_ at_ begin_ token value open_ bad badPlace faultKind faultPlace xs ys pairs rows top heaps endsBehind path order firstOrder ordersMany tSort tMany numbers) (AM ma)) (AM ma) := by
  refine CT.of (L := [(0, .ref (ma 0)), (1, .int (nI m0)), (2, .int (nI w0))]) rfl (by decide +kernel) rfl (Nat.le_of_ble_eq_true rfl) ?_
  refine g_aload_n 0 dX10_markOf_0 rfl rfl ?_
  refine m_get_known dX10_markOf_1 ?_
  refine g_bipush (v := nI 66) dX10_markOf_4 (by decide +kernel) ?_
  refine g_iconst (v := nI 4) dX10_markOf_6 (by decide +kernel) ?_
  refine g_iload_n 1 dX10_markOf_7 rfl rfl ?_
  refine g_imul_n dX10_markOf_8 ?_
  refine g_iadd_n dX10_markOf_9 ?_
  refine g_iload_n 2 dX10_markOf_10 rfl rfl ?_
  refine g_iadd_n dX10_markOf_11 ?_
  refine m_ld_known dX10_markOf_12 (by omega) ?_
  exact g_iret () dX10_markOf_13 (Nat.le_refl _) (Nat.le_refl _) (rfl) (fun _ h => h)
set_option maxHeartbeats 4000000 in
/-- a new row -/
theorem ct_pushes   : CT l D cl tys yX10_pushes cX10_pushes 1 (some .int) ({ frames := 0, cells := 0, slots := 0, locals := 0 } : Room) [.ref (ma 0)] (HM D cl tys mi cI cJ cZ ma known fresh_ saved images isImage thrown tape taped size_ at_ begin_ token value open_ bad badPlace faultKind faultPlace xs ys pairs rows top heaps endsBehind path order firstOrder ordersMany tSort tMany numbers) (Qi (fun (v : Int32) (u : Unit) => v = nI top) (fun (u : Unit) => HM D cl tys mi cI cJ cZ ma known fresh_ saved images isImage thrown tape taped size_ at_ begin_ token value open_ bad badPlace faultKind faultPlace xs ys pairs rows (top + 1) heaps endsBehind path order firstOrder ordersMany tSort tMany numbers) (AM ma)) (AM ma) := by
  refine CT.of (L := [(0, .ref (ma 0))]) rfl (by decide +kernel) rfl (Nat.le_of_ble_eq_true rfl) ?_
  refine g_aload_n 0 dX10_pushes_0 rfl rfl ?_
  refine g_dup dX10_pushes_1 rfl ?_
  refine m_get_top dX10_pushes_2 ?_
  refine g_iconst (v := nI 1) dX10_pushes_5 (by decide +kernel) ?_
  refine g_iadd_n dX10_pushes_6 ?_
  refine m_put_top dX10_pushes_7 ?_
  refine g_aload_n 0 dX10_pushes_10 rfl rfl ?_
  refine m_get_top dX10_pushes_11 ?_
  refine g_iconst (v := nI 1) dX10_pushes_14 (by decide +kernel) ?_
  refine g_isub_n dX10_pushes_15 (by omega) ?_
  exact g_iret () dX10_pushes_16 (Nat.le_refl _) (Nat.le_refl _) (rfl) (fun _ h => h)
set_option maxHeartbeats 4000000 in
/-- a bit -/
theorem ct_has (r0 w0 : Nat) (h0 : r0 < 85) (h1 : w0 < 1856) : CT l D cl tys yX10_has cX10_has 3 (some .boolean) ({ frames := 0, cells := 0, slots := 0, locals := 0 } : Room) [.ref (ma 0), .int (nI r0), .int (nI w0)] (HM D cl tys mi cI cJ cZ ma known fresh_ saved images isImage thrown tape taped size_ at_ begin_ token value open_ bad badPlace faultKind faultPlace xs ys pairs rows top heaps endsBehind path order firstOrder ordersMany tSort tMany numbers) (Qi (fun (v : Int32) (u : Unit) => v = bI (rbt rows r0 w0)) (fun (u : Unit) => HM D cl tys mi cI cJ cZ ma known fresh_ saved images isImage thrown tape taped size_ at_ begin_ token value open_ bad badPlace faultKind faultPlace xs ys pairs rows top heaps endsBehind path order firstOrder ordersMany tSort tMany numbers) (AM ma)) (AM ma) := by
  refine CT.of (L := [(0, .ref (ma 0)), (1, .int (nI r0)), (2, .int (nI w0))]) rfl (by decide +kernel) rfl (Nat.le_of_ble_eq_true rfl) ?_
  refine g_aload_n 0 dX10_has_0 rfl rfl ?_
  refine m_get_rows dX10_has_1 ?_
  refine g_bipush (v := nI 29) dX10_has_4 (by decide +kernel) ?_
  refine g_iload_n 1 dX10_has_6 rfl rfl ?_
  refine g_imul_n dX10_has_7 ?_
  refine g_iload_n 2 dX10_has_8 rfl rfl ?_
  refine g_bipush (v := nI 6) dX10_has_9 (by decide +kernel) ?_
  refine g_ishr6 dX10_has_11 (by omega) ?_
  refine g_iadd_n dX10_has_12 ?_
  refine m_ld_rows dX10_has_13 (by omega) ?_
  refine g_iload_n 2 dX10_has_14 rfl rfl ?_
  refine g_bipush (v := nI 63) dX10_has_15 (by decide +kernel) ?_
  refine g_iand63 dX10_has_17 (by omega) ?_
  refine g_lshr dX10_has_18 rfl ?_
  refine g_lconst (v := lN 1) dX10_has_19 (by decide +kernel) ?_
  refine g_land dX10_has_20 ?_
  refine GG.topl (bit_ld _ (Nat.mod_lt _ (by decide))) ?_
  refine g_lconst (v := lN 1) dX10_has_21 (by decide +kernel) ?_
  refine g_lcmp dX10_has_22 ?_
  generalize hb : (rows (29 * r0 + w0 / 64)).toBitVec.getLsbD (w0 % 64) = b at *
  refine g_if_ne (tgt := 30) dX10_has_23 (by decide) (fun c23 => ?_) (fun c23 => ?_)
  · skip
    have e9 : b = false := by
      cases b
      · rfl
      · exact absurd (by decide +kernel) c23
    refine g_iconst (v := nI 0) dX10_has_30 (by decide +kernel) ?_
    exact g_zret (b := false) () dX10_has_31 (Nat.le_refl _) (Nat.le_refl _) (by unfold rbt; rw [hb, e9]) (fun _ h => h)
  · skip
    have e9 : b = true := by
      cases b
      · exact absurd c23 (by decide +kernel)
      · rfl
    refine g_iconst (v := nI 1) dX10_has_26 (by decide +kernel) ?_
    refine g_goto (tgt := 31) dX10_has_27 (by decide) ?_
    exact g_zret (b := true) () dX10_has_31 (Nat.le_refl _) (Nat.le_refl _) (by unfold rbt; rw [hb, e9]) (fun _ h => h)
set_option maxHeartbeats 4000000 in
/-- a bit put -/
theorem ct_puts (r0 w0 : Nat) (b0 : Bool) (h0 : r0 < 85) (h1 : w0 < 1856) : CT l D cl tys yX10_puts cX10_puts 7 none ({ frames := 0, cells := 0, slots := 0, locals := 0 } : Room) [.ref (ma 0), .int (nI r0), .int (nI w0), .int (bI b0)] (HM D cl tys mi cI cJ cZ ma known fresh_ saved images isImage thrown tape taped size_ at_ begin_ token value open_ bad badPlace faultKind faultPlace xs ys pairs rows top heaps endsBehind path order firstOrder ordersMany tSort tMany numbers) (Qv (fun (u : Nat → Int64) => rowPut rows u r0 w0 b0) (fun (u : Nat → Int64) => HM D cl tys mi cI cJ cZ ma known fresh_ saved images isImage thrown tape taped size_ at_ begin_ token value open_ bad badPlace faultKind faultPlace xs ys pairs u top heaps endsBehind path order firstOrder ordersMany tSort tMany numbers) (AM ma)) (AM ma) := by
  refine CT.of (L := [(0, .ref (ma 0)), (1, .int (nI r0)), (2, .int (nI w0)), (3, .int (bI b0))]) rfl (by decide +kernel) rfl (Nat.le_of_ble_eq_true rfl) ?_
  refine g_bipush (v := nI 29) dX10_puts_0 (by decide +kernel) ?_
  refine g_iload_n 1 dX10_puts_2 rfl rfl ?_
  refine g_imul_n dX10_puts_3 ?_
  refine g_iload_n 2 dX10_puts_4 rfl rfl ?_
  refine g_bipush (v := nI 6) dX10_puts_5 (by decide +kernel) ?_
  refine g_ishr6 dX10_puts_7 (by omega) ?_
  refine g_iadd_n dX10_puts_8 ?_
  refine g_istore (L' := [(0, _), (1, _), (2, _), (3, _), (4, _)]) dX10_puts_9 (by decide) rfl rfl ?_
  refine g_lconst (v := lN 1) dX10_puts_11 (by decide +kernel) ?_
  refine g_iload_n 2 dX10_puts_12 rfl rfl ?_
  refine g_bipush (v := nI 63) dX10_puts_13 (by decide +kernel) ?_
  refine g_iand63 dX10_puts_15 (by omega) ?_
  refine g_lshl dX10_puts_16 rfl ?_
  refine g_lstore (L' := [(0, _), (1, _), (2, _), (3, _), (4, _), (5, _)]) dX10_puts_17 (by decide) rfl rfl ?_
  refine g_aload_n 0 dX10_puts_19 rfl rfl ?_
  refine m_get_rows dX10_puts_20 ?_
  refine g_iload dX10_puts_23 rfl ?_
  refine g_iload_n 3 dX10_puts_25 rfl rfl ?_
  refine g_if_eq_b (tgt := 42) dX10_puts_26 (by decide) (fun c26 => ?_) (fun c26 => ?_)
  · skip
    refine g_aload_n 0 dX10_puts_42 rfl rfl ?_
    refine m_get_rows dX10_puts_43 ?_
    refine g_iload dX10_puts_46 rfl ?_
    refine m_ld_rows dX10_puts_48 (by omega) ?_
    refine g_lload dX10_puts_49 rfl ?_
    refine g_ldc2 (v := -1) dX10_puts_51 q2183 ?_
    refine g_lxor dX10_puts_54 ?_
    refine g_land dX10_puts_55 ?_
    refine m_st_rows dX10_puts_56 (by omega) ?_
    exact g_vret _ dX10_puts_57 (Nat.le_refl _) (Nat.le_refl _) (rbt_put h1 (fun i hi => by first | (rw [bit_or _ (Nat.mod_lt _ (by decide)) hi, c26]; by_cases hq : i = w0 % 64 <;> simp [hq]) | (rw [bit_andn _ (Nat.mod_lt _ (by decide)) hi, c26]; by_cases hq : i = w0 % 64 <;> simp [hq]))) (fun _ h => h)
  · skip
    refine g_aload_n 0 dX10_puts_29 rfl rfl ?_
    refine m_get_rows dX10_puts_30 ?_
    refine g_iload dX10_puts_33 rfl ?_
    refine m_ld_rows dX10_puts_35 (by omega) ?_
    refine g_lload dX10_puts_36 rfl ?_
    refine g_lor dX10_puts_38 ?_
    refine g_goto (tgt := 56) dX10_puts_39 (by decide) ?_
    refine m_st_rows dX10_puts_56 (by omega) ?_
    exact g_vret _ dX10_puts_57 (Nat.le_refl _) (Nat.le_refl _) (rbt_put h1 (fun i hi => by first | (rw [bit_or _ (Nat.mod_lt _ (by decide)) hi, c26]; by_cases hq : i = w0 % 64 <;> simp [hq]) | (rw [bit_andn _ (Nat.mod_lt _ (by decide)) hi, c26]; by_cases hq : i = w0 % 64 <;> simp [hq]))) (fun _ h => h)
set_option maxHeartbeats 4000000 in
/-- all bits of a row -/
theorem ct_fills (r0 : Nat) (b0 : Bool) (h0 : r0 < 85) (hP : pairs ≤ 1830) : CT l D cl tys yX10_fills cX10_fills 4 none ({ frames := 1, cells := 0, slots := 0, locals := 26 } : Room) [.ref (ma 0), .int (nI r0), .int (bI b0)] (HM D cl tys mi cI cJ cZ ma known fresh_ saved images isImage thrown tape taped size_ at_ begin_ token value open_ bad badPlace faultKind faultPlace xs ys pairs rows top heaps endsBehind path order firstOrder ordersMany tSort tMany numbers) (Qv (fun (u : Nat → Int64) => rowsUp rows u r0 pairs (fun _ => b0)) (fun (u : Nat → Int64) => HM D cl tys mi cI cJ cZ ma known fresh_ saved images isImage thrown tape taped size_ at_ begin_ token value open_ bad badPlace faultKind faultPlace xs ys pairs u top heaps endsBehind path order firstOrder ordersMany tSort tMany numbers) (AM ma)) (AM ma) := by
  refine CT.of (L := [(0, .ref (ma 0)), (1, .int (nI r0)), (2, .int (bI b0))]) rfl (by decide +kernel) rfl (Nat.le_of_ble_eq_true rfl) ?_
  refine g_iconst (v := nI 0) dX10_fills_0 (by decide +kernel) ?_
  refine g_istore_n (L' := [(0, _), (1, _), (2, _), (3, _)]) 3 dX10_fills_1 rfl (by decide) rfl rfl ?_
  have loop2 : ∀ (q2 : Nat) (w : Nat) (rows1 : Nat → Int64), pairs - w < q2 → (w ≤ pairs) → (rowsUp rows rows1 r0 w (fun _ => b0)) → GG l D cl tys cX10_fills 4 none RX10 ({ frames := 1, cells := 0, slots := 0, locals := 26 } : Room) (AM ma) MT (QM (Qv (fun (u : Nat → Int64) => rowsUp rows u r0 pairs (fun _ => b0)) (fun (u : Nat → Int64) => HM D cl tys mi cI cJ cZ ma known fresh_ saved images isImage thrown tape taped size_ at_ begin_ token value open_ bad badPlace faultKind faultPlace xs ys pairs u top heaps endsBehind path order firstOrder ordersMany tSort tMany numbers) (AM ma)) 0 0 (AM ma)) (HM D cl tys mi cI cJ cZ ma known fresh_ saved images isImage thrown tape taped size_ at_ begin_ token value open_ bad badPlace faultKind faultPlace xs ys pairs rows1 top heaps endsBehind path order firstOrder ordersMany tSort tMany numbers) 0 0 2 [(0, .ref (ma 0)), (1, .int (nI r0)), (2, .int (bI b0)), (3, .int (nI w))] [] := by
    intro q2
    induction q2 with
    | zero => intro w rows1 hq2; exact absurd hq2 (Nat.not_lt_zero _)
    | succ q2 ih2 =>
      intro w rows1 hq2 hw hi
      refine g_iload_n 3 dX10_fills_2 rfl rfl ?_
      refine g_aload_n 0 dX10_fills_3 rfl rfl ?_
      refine m_get_pairs dX10_fills_4 ?_
      refine g_icmp_ge_n (tgt := 23) dX10_fills_7 (by decide) (by omega) (by omega) (fun c7 => ?_) (fun c7 => ?_)
      · skip
        exact g_vret rows1 dX10_fills_23 (Nat.le_refl _) (Nat.le_refl _) (by have e9 : w = pairs := (by omega); subst e9; exact hi) (fun _ h => h)
      · skip
        refine g_aload_n 0 dX10_fills_10 rfl rfl ?_
        refine g_iload_n 1 dX10_fills_11 rfl rfl ?_
        refine g_iload_n 3 dX10_fills_12 rfl rfl ?_
        refine g_iload_n 2 dX10_fills_13 rfl rfl ?_
        refine m_cVv (ct_puts _ _ _ (by omega) (by omega)) hvX10_puts hyX10_puts rfl ⟨Nat.le_of_ble_eq_true rfl, Nat.le_of_ble_eq_true rfl⟩ ⟨Nat.zero_le _, Nat.zero_le _⟩ rfl (Nat.le_of_ble_eq_true rfl) dX10_fills_14 m_rec (fun rows2 hp => ?_)
        refine g_iinc_n (b := 1) (L' := [(0, _), (1, _), (2, _), (3, _)]) dX10_fills_17 rfl rfl (by decide) rfl rfl ?_
        refine g_goto (tgt := 2) dX10_fills_20 (by decide) ?_
        exact ih2 (w + 1) rows2 (by omega) (by omega) (rowsUp_step hi hp rfl)
  exact loop2 (pairs + 1) 0 rows (by omega) (by omega) rowsUp_0
set_option maxHeartbeats 4000000 in
/-- how many bits -/
theorem ct_manyOf (r0 : Nat) (h0 : r0 < 85) (hP : pairs ≤ 1830) : CT l D cl tys yX10_manyOf cX10_manyOf 4 (some .int) ({ frames := 1, cells := 0, slots := 0, locals := 22 } : Room) [.ref (ma 0), .int (nI r0)] (HM D cl tys mi cI cJ cZ ma known fresh_ saved images isImage thrown tape taped size_ at_ begin_ token value open_ bad badPlace faultKind faultPlace xs ys pairs rows top heaps endsBehind path order firstOrder ordersMany tSort tMany numbers) (Qi (fun (v : Int32) (u : Unit) => v = nI (cnt (rbt rows r0) pairs)) (fun (u : Unit) => HM D cl tys mi cI cJ cZ ma known fresh_ saved images isImage thrown tape taped size_ at_ begin_ token value open_ bad badPlace faultKind faultPlace xs ys pairs rows top heaps endsBehind path order firstOrder ordersMany tSort tMany numbers) (AM ma)) (AM ma) := by
  refine CT.of (L := [(0, .ref (ma 0)), (1, .int (nI r0))]) rfl (by decide +kernel) rfl (Nat.le_of_ble_eq_true rfl) ?_
  refine g_iconst (v := nI 0) dX10_manyOf_0 (by decide +kernel) ?_
  refine g_istore_n (L' := [(0, _), (1, _), (2, _)]) 2 dX10_manyOf_1 rfl (by decide) rfl rfl ?_
  refine g_iconst (v := nI 0) dX10_manyOf_2 (by decide +kernel) ?_
  refine g_istore_n (L' := [(0, _), (1, _), (2, _), (3, _)]) 3 dX10_manyOf_3 rfl (by decide) rfl rfl ?_
  have loop4 : ∀ (q4 : Nat) (w : Nat), pairs - w < q4 → (w ≤ pairs) → GG l D cl tys cX10_manyOf 4 (some .int) RX10 ({ frames := 1, cells := 0, slots := 0, locals := 22 } : Room) (AM ma) MT (QM (Qi (fun (v : Int32) (u : Unit) => v = nI (cnt (rbt rows r0) pairs)) (fun (u : Unit) => HM D cl tys mi cI cJ cZ ma known fresh_ saved images isImage thrown tape taped size_ at_ begin_ token value open_ bad badPlace faultKind faultPlace xs ys pairs rows top heaps endsBehind path order firstOrder ordersMany tSort tMany numbers) (AM ma)) 0 0 (AM ma)) (HM D cl tys mi cI cJ cZ ma known fresh_ saved images isImage thrown tape taped size_ at_ begin_ token value open_ bad badPlace faultKind faultPlace xs ys pairs rows top heaps endsBehind path order firstOrder ordersMany tSort tMany numbers) 0 0 4 [(0, .ref (ma 0)), (1, .int (nI r0)), (2, .int (nI (cnt (rbt rows r0) w))), (3, .int (nI w))] [] := by
    intro q4
    induction q4 with
    | zero => intro w hq4; exact absurd hq4 (Nat.not_lt_zero _)
    | succ q4 ih4 =>
      intro w hq4 hw
      refine g_iload_n 3 dX10_manyOf_4 rfl rfl ?_
      refine g_aload_n 0 dX10_manyOf_5 rfl rfl ?_
      refine m_get_pairs dX10_manyOf_6 ?_
      refine g_icmp_ge_n (tgt := 35) dX10_manyOf_9 (by decide) (by omega) (by omega) (fun c9 => ?_) (fun c9 => ?_)
      · skip
        refine g_iload_n 2 dX10_manyOf_35 rfl rfl ?_
        exact g_iret () dX10_manyOf_36 (Nat.le_refl _) (Nat.le_refl _) (by have e9 : w = pairs := (by omega); subst e9; rfl) (fun _ h => h)
      · skip
        refine g_iload_n 2 dX10_manyOf_12 rfl rfl ?_
        refine g_aload_n 0 dX10_manyOf_13 rfl rfl ?_
        refine g_iload_n 1 dX10_manyOf_14 rfl rfl ?_
        refine g_iload_n 3 dX10_manyOf_15 rfl rfl ?_
        refine m_cVi (ct_has _ _ (by omega) (by omega)) hvX10_has hyX10_has rfl ⟨Nat.le_of_ble_eq_true rfl, Nat.le_of_ble_eq_true rfl⟩ ⟨Nat.zero_le _, Nat.zero_le _⟩ rfl (Nat.le_of_ble_eq_true rfl) dX10_manyOf_16 m_rec (fun r u hp => ?_)
        obtain rfl := hp
        refine g_if_eq_b (tgt := 26) dX10_manyOf_19 (by decide) (fun c19 => ?_) (fun c19 => ?_)
        · skip
          refine g_iconst (v := nI 0) dX10_manyOf_26 (by decide +kernel) ?_
          refine g_iadd_n dX10_manyOf_27 ?_
          refine g_istore_n (L' := [(0, _), (1, _), (2, _), (3, _)]) 2 dX10_manyOf_28 rfl (by decide) rfl rfl ?_
          refine g_iinc_n (b := 1) (L' := [(0, _), (1, _), (2, _), (3, _)]) dX10_manyOf_29 rfl rfl (by decide) rfl rfl ?_
          refine g_goto (tgt := 4) dX10_manyOf_32 (by decide) ?_
          have e9 : cnt (rbt rows r0) (w + 1) = cnt (rbt rows r0) w + (if rbt rows r0 w = true then 1 else 0) := rfl
          rw [c19] at e9
          have e9 : cnt (rbt rows r0) (w + 1) = cnt (rbt rows r0) w + _ := e9
          first | (rw [if_pos rfl] at e9; rw [← e9]; exact ih4 (w + 1) (by omega) (by omega)) | (rw [if_neg (by decide)] at e9; rw [← e9]; exact ih4 (w + 1) (by omega) (by omega))
        · skip
          refine g_iconst (v := nI 1) dX10_manyOf_22 (by decide +kernel) ?_
          refine g_goto (tgt := 27) dX10_manyOf_23 (by decide) ?_
          refine g_iadd_n dX10_manyOf_27 ?_
          refine g_istore_n (L' := [(0, _), (1, _), (2, _), (3, _)]) 2 dX10_manyOf_28 rfl (by decide) rfl rfl ?_
          refine g_iinc_n (b := 1) (L' := [(0, _), (1, _), (2, _), (3, _)]) dX10_manyOf_29 rfl rfl (by decide) rfl rfl ?_
          refine g_goto (tgt := 4) dX10_manyOf_32 (by decide) ?_
          have e9 : cnt (rbt rows r0) (w + 1) = cnt (rbt rows r0) w + (if rbt rows r0 w = true then 1 else 0) := rfl
          rw [c19] at e9
          have e9 : cnt (rbt rows r0) (w + 1) = cnt (rbt rows r0) w + _ := e9
          first | (rw [if_pos rfl] at e9; rw [← e9]; exact ih4 (w + 1) (by omega) (by omega)) | (rw [if_neg (by decide)] at e9; rw [← e9]; exact ih4 (w + 1) (by omega) (by omega))
  exact loop4 (pairs + 1) 0 (by omega) (by omega)
set_option maxHeartbeats 4000000 in
/-- the first bit -/
theorem ct_first (r0 : Nat) (h0 : r0 < 85) (hP : pairs ≤ 1830) : CT l D cl tys yX10_first cX10_first 3 (some .int) ({ frames := 1, cells := 0, slots := 0, locals := 22 } : Room) [.ref (ma 0), .int (nI r0)] (HM D cl tys mi cI cJ cZ ma known fresh_ saved images isImage thrown tape taped size_ at_ begin_ token value open_ bad badPlace faultKind faultPlace xs ys pairs rows top heaps endsBehind path order firstOrder ordersMany tSort tMany numbers) (Qi (fun (v : Int32) (u : Unit) => isFst (rbt rows r0) pairs v) (fun (u : Unit) => HM D cl tys mi cI cJ cZ ma known fresh_ saved images isImage thrown tape taped size_ at_ begin_ token value open_ bad badPlace faultKind faultPlace xs ys pairs rows top heaps endsBehind path order firstOrder ordersMany tSort tMany numbers) (AM ma)) (AM ma) := by
  refine CT.of (L := [(0, .ref (ma 0)), (1, .int (nI r0))]) rfl (by decide +kernel) rfl (Nat.le_of_ble_eq_true rfl) ?_
  refine g_iconst (v := nI 0) dX10_first_0 (by decide +kernel) ?_
  refine g_istore_n (L' := [(0, _), (1, _), (2, _)]) 2 dX10_first_1 rfl (by decide) rfl rfl ?_
  have loop2 : ∀ (q2 : Nat) (w : Nat), pairs - w < q2 → (w ≤ pairs) → (∀ v, v < w → rbt rows r0 v = false) → GG l D cl tys cX10_first 3 (some .int) RX10 ({ frames := 1, cells := 0, slots := 0, locals := 22 } : Room) (AM ma) MT (QM (Qi (fun (v : Int32) (u : Unit) => isFst (rbt rows r0) pairs v) (fun (u : Unit) => HM D cl tys mi cI cJ cZ ma known fresh_ saved images isImage thrown tape taped size_ at_ begin_ token value open_ bad badPlace faultKind faultPlace xs ys pairs rows top heaps endsBehind path order firstOrder ordersMany tSort tMany numbers) (AM ma)) 0 0 (AM ma)) (HM D cl tys mi cI cJ cZ ma known fresh_ saved images isImage thrown tape taped size_ at_ begin_ token value open_ bad badPlace faultKind faultPlace xs ys pairs rows top heaps endsBehind path order firstOrder ordersMany tSort tMany numbers) 0 0 2 [(0, .ref (ma 0)), (1, .int (nI r0)), (2, .int (nI w))] [] := by
    intro q2
    induction q2 with
    | zero => intro w hq2; exact absurd hq2 (Nat.not_lt_zero _)
    | succ q2 ih2 =>
      intro w hq2 hw hi
      refine g_iload_n 2 dX10_first_2 rfl rfl ?_
      refine g_aload_n 0 dX10_first_3 rfl rfl ?_
      refine m_get_pairs dX10_first_4 ?_
      refine g_icmp_ge_n (tgt := 27) dX10_first_7 (by decide) (by omega) (by omega) (fun c7 => ?_) (fun c7 => ?_)
      · skip
        refine g_iconst (v := -1) dX10_first_27 (by decide +kernel) ?_
        exact g_iret () dX10_first_28 (Nat.le_refl _) (Nat.le_refl _) (Or.inr ⟨fun v hv => hi v (by omega), rfl⟩) (fun _ h => h)
      · skip
        refine g_aload_n 0 dX10_first_10 rfl rfl ?_
        refine g_iload_n 1 dX10_first_11 rfl rfl ?_
        refine g_iload_n 2 dX10_first_12 rfl rfl ?_
        refine m_cVi (ct_has _ _ (by omega) (by omega)) hvX10_has hyX10_has rfl ⟨Nat.le_of_ble_eq_true rfl, Nat.le_of_ble_eq_true rfl⟩ ⟨Nat.zero_le _, Nat.zero_le _⟩ rfl (Nat.le_of_ble_eq_true rfl) dX10_first_13 m_rec (fun r u hp => ?_)
        obtain rfl := hp
        refine g_if_eq_b (tgt := 21) dX10_first_16 (by decide) (fun c16 => ?_) (fun c16 => ?_)
        · skip
          refine g_iinc_n (b := 1) (L' := [(0, _), (1, _), (2, _)]) dX10_first_21 rfl rfl (by decide) rfl rfl ?_
          refine g_goto (tgt := 2) dX10_first_24 (by decide) ?_
          exact ih2 (w + 1) (by omega) (by omega) (fun v hv => by
            rcases Nat.lt_succ_iff_lt_or_eq.mp hv with h9 | h9
            · exact hi v h9
            · rw [h9]; exact c16)
        · skip
          refine g_iload_n 2 dX10_first_19 rfl rfl ?_
          exact g_iret () dX10_first_20 (Nat.le_refl _) (Nat.le_refl _) (Or.inl ⟨w, c7, c16, hi, rfl⟩) (fun _ h => h)
  exact loop2 (pairs + 1) 0 (by omega) (by omega) (fun v hv => absurd hv (Nat.not_lt_zero _))
end
