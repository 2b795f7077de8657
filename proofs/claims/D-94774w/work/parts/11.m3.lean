/-! SPEC: the worlds of a talk -/
set_option maxRecDepth 100000
def wRow (x mo : Nat) : Nat → Nat → List (Nat × Nat)
  | 0, _ => []
  | n + 1, y => if x + y ≤ mo then (x, y) :: wRow x mo n (y + 1) else wRow x mo n (y + 1)
def wAll (hi mo u : Nat) : Nat → Nat → List (Nat × Nat)
  | 0, _ => []
  | n + 1, x => wRow x mo (hi + 1 - (x + u)) (x + u) ++ wAll hi mo u n (x + 1)
def wList (lo hi mo u : Nat) : List (Nat × Nat) := wAll hi mo u (hi + 1 - lo) lo
theorem wRow_nil {x mo : Nat} : ∀ (n y : Nat), mo < x + y → wRow x mo n y = []
  | 0, _, _ => rfl
  | n + 1, y, h => by
    unfold wRow
    rw [if_neg (by omega)]
    exact wRow_nil n (y + 1) (by omega)
theorem wRow_step {x mo hi y : Nat} (h : y ≤ hi) (hs : x + y ≤ mo) : wRow x mo (hi + 1 - y) y = (x, y) :: wRow x mo (hi + 1 - (y + 1)) (y + 1) := by
  rw [show hi + 1 - y = (hi + 1 - (y + 1)) + 1 by omega]
  show (if x + y ≤ mo then _ else _) = _
  rw [if_pos hs]
theorem wRow_skip {x mo hi y : Nat} (h : y ≤ hi) (hs : ¬ x + y ≤ mo) : wRow x mo (hi + 1 - y) y = wRow x mo (hi + 1 - (y + 1)) (y + 1) := by
  rw [show hi + 1 - y = (hi + 1 - (y + 1)) + 1 by omega]
  show (if x + y ≤ mo then _ else _) = _
  rw [if_neg hs]
theorem wRow_end {x mo hi y : Nat} (h : hi < y) : wRow x mo (hi + 1 - y) y = [] := by
  rw [show hi + 1 - y = 0 by omega]; rfl
theorem wAll_step {hi mo u x : Nat} (h : x ≤ hi) : wAll hi mo u (hi + 1 - x) x = wRow x mo (hi + 1 - (x + u)) (x + u) ++ wAll hi mo u (hi + 1 - (x + 1)) (x + 1) := by
  rw [show hi + 1 - x = (hi + 1 - (x + 1)) + 1 by omega]; rfl
theorem wAll_end {hi mo u x : Nat} (h : hi < x) : wAll hi mo u (hi + 1 - x) x = [] := by
  rw [show hi + 1 - x = 0 by omega]; rfl
theorem wRow_len {x mo : Nat} : ∀ (n y : Nat), (wRow x mo n y).length ≤ n
  | 0, _ => Nat.le_refl _
  | n + 1, y => by
    unfold wRow
    split
    · exact Nat.succ_le_succ (wRow_len n (y + 1))
    · exact Nat.le_succ_of_le (wRow_len n (y + 1))
def wBd : Nat → Nat
  | 0 => 0
  | x + 1 => wBd x + (61 - x)
theorem wBd_mono : ∀ (n x : Nat), wBd x ≤ wBd (x + n)
  | 0, x => Nat.le_refl _
  | n + 1, x => Nat.le_trans (wBd_mono n x) (Nat.le_add_right _ _)
theorem wAll_len {hi mo u : Nat} (hhi : hi ≤ 60) : ∀ (n x : Nat), (wAll hi mo u n x).length + wBd x ≤ wBd (x + n)
  | 0, x => by show 0 + wBd x ≤ wBd x; omega
  | n + 1, x => by
    have h1 := wAll_len hhi (mo := mo) (u := u) n (x + 1)
    have h2 := wRow_len (x := x) (mo := mo) (hi + 1 - (x + u)) (x + u)
    have h3 : wBd (x + 1) = wBd x + (61 - x) := rfl
    rw [show x + (n + 1) = x + 1 + n by omega]
    show (wRow x mo _ _ ++ wAll hi mo u n (x + 1)).length + wBd x ≤ _
    rw [List.length_append]
    omega
theorem wList_len {lo hi mo u : Nat} (h1 : 1 ≤ lo) (hhi : hi ≤ 60) : (wList lo hi mo u).length ≤ 1830 := by
  have h := wAll_len (mo := mo) (u := u) hhi (hi + 1 - lo) lo
  have hb : wBd 1 ≤ wBd lo := by
    have := wBd_mono (lo - 1) 1
    rwa [show 1 + (lo - 1) = lo by omega] at this
  have h1b : wBd 1 = 61 := by decide +kernel
  unfold wList
  rcases Nat.lt_or_ge hi lo with h2 | h2
  · rw [show hi + 1 - lo = 0 by omega]; exact Nat.zero_le _
  · have h3 : wBd (lo + (hi + 1 - lo)) ≤ wBd 61 := by
      have := wBd_mono (60 - hi) (lo + (hi + 1 - lo))
      rwa [show lo + (hi + 1 - lo) + (60 - hi) = 61 by omega] at this
    have h61 : wBd 61 = 1891 := by decide +kernel
    omega
theorem wRow_mem {x mo : Nat} {p : Nat × Nat} : ∀ (n y : Nat), p ∈ wRow x mo n y → p.1 = x ∧ y ≤ p.2 ∧ p.2 < y + n ∧ x + p.2 ≤ mo
  | 0, _, h => absurd h List.not_mem_nil
  | n + 1, y, h => by
    unfold wRow at h
    split at h
    · rename_i hs
      rcases List.mem_cons.mp h with e | e
      · subst e; exact ⟨rfl, Nat.le_refl _, by show y < y + (n + 1); omega, hs⟩
      · have := wRow_mem n (y + 1) e; omega
    · have := wRow_mem n (y + 1) h; omega
theorem wAll_mem {hi mo u : Nat} {p : Nat × Nat} : ∀ (n x : Nat), p ∈ wAll hi mo u n x → x ≤ p.1 ∧ p.1 + u ≤ p.2 ∧ p.2 ≤ hi ∧ p.1 + p.2 ≤ mo
  | 0, _, h => absurd h List.not_mem_nil
  | n + 1, x, h => by
    rcases List.mem_append.mp h with e | e
    · have := wRow_mem _ _ e; omega
    · have := wAll_mem n (x + 1) e; omega
/-- the worlds lie in the two rows -/
def layd (xs ys : Nat → Nat) (P : Nat) (Wd : List (Nat × Nat)) : Prop := P = Wd.length ∧ ∀ (w : Nat) (p : Nat × Nat), Wd[w]? = some p → xs w = p.1 ∧ ys w = p.2
theorem layd_push {xs ys : Nat → Nat} {P x y : Nat} {Wd : List (Nat × Nat)} (h : layd xs ys P Wd) : layd (up xs P x) (up ys P y) (P + 1) (Wd ++ [(x, y)]) := by
  obtain ⟨h1, h2⟩ := h
  refine ⟨by rw [List.length_append, h1]; rfl, fun w p hw => ?_⟩
  rcases Nat.lt_trichotomy w Wd.length with q | q | q
  · rw [List.getElem?_append_left q] at hw
    rw [up_n (by omega), up_n (by omega)]
    exact h2 w p hw
  · rw [List.getElem?_append_right (by omega), q, Nat.sub_self] at hw
    cases hw
    rw [q, ← h1, up_s, up_s]
    exact ⟨rfl, rfl⟩
  · rw [List.getElem?_eq_none (by rw [List.length_append]; show Wd.length + 1 ≤ w; omega)] at hw
    cases hw
theorem layd_OK {xs ys : Nat → Nat} {P lo hi mo u : Nat} (h : layd xs ys P (wList lo hi mo u)) (h1 : 1 ≤ lo) (hhi : hi ≤ 60) : wOK P xs ys := by
  refine ⟨by rw [h.1]; exact wList_len h1 hhi, fun w hw => ?_⟩
  rw [h.1] at hw
  have e := List.getElem?_eq_getElem hw
  have h2 := h.2 w _ e
  have h3 := wAll_mem _ _ (List.getElem_mem hw)
  rw [h2.1, h2.2]
  omega
def wX (Wd : List (Nat × Nat)) (w : Nat) : Nat := (Wd.getD w (0, 0)).1
def wY (Wd : List (Nat × Nat)) (w : Nat) : Nat := (Wd.getD w (0, 0)).2
theorem layd_XY {xs ys : Nat → Nat} {P : Nat} {Wd : List (Nat × Nat)} (h : layd xs ys P Wd) {w : Nat} (hw : w < P) : xs w = wX Wd w ∧ ys w = wY Wd w := by
  have hw' : w < Wd.length := by rw [← h.1]; exact hw
  have e := List.getElem?_eq_getElem hw'
  have h2 := h.2 w _ e
  unfold wX wY
  rw [List.getD_eq_getElem?_getD, e]
  exact h2
/-- an int that is a place below n -/
def iR (v : Int32) (n : Nat) : Option Nat := if 0 ≤ v.toInt ∧ v.toInt < (n : Int) then some v.toNatClampNeg else none
theorem iR_some {v : Int32} {n j : Nat} (h : iR v n = some j) : j < n ∧ v = nI j := by
  unfold iR at h
  split at h
  · rename_i q
    have hb := v.toInt_lt
    have e : (v.toNatClampNeg : Int) = v.toInt := by
      show ((v.toInt.toNat : Nat) : Int) = _
      omega
    have hj : v.toNatClampNeg = j := Option.some.inj h
    have hj2 : (j : Int) = v.toInt := by rw [← hj]; exact e
    refine ⟨by omega, ?_⟩
    apply Int32.toInt_inj.mp
    rw [nI_toInt (by omega), hj2]
  · cases h
theorem iR_none {v : Int32} {n : Nat} (h : iR v n = none) : ¬ (0 ≤ v.toInt ∧ v.toInt < (n : Int)) := by
  unfold iR at h
  split at h
  · cases h
  · assumption
theorem iR_nI {n j : Nat} (h : j < n) (hn : n ≤ 2 ^ 31) : iR (nI j) n = some j := by
  unfold iR
  rw [nI_toInt (by omega), if_pos ⟨by omega, by omega⟩, nI_clamp (by omega)]
theorem i2l_int (v : Int32) : v.toInt64.toInt = v.toInt := Int32.toInt_toInt64 v
theorem lN_toInt' {n : Nat} (h : n < 2 ^ 31) : (lN n).toInt = (n : Int) := lN_toInt h
/-- a place below n, as the code asks it -/
theorem wIn_iR (v : Int32) {n : Nat} (hn : n < 2 ^ 31) : wIn v.toInt64 (lN 0) (nI n - nI 1).toInt64 = (iR v n).isSome := by
  have e1 : (nI n - nI 1).toInt64.toInt = (n : Int) - 1 := by
    rw [i2l_int]
    rcases Nat.eq_zero_or_pos n with h | h
    · subst h; decide +kernel
    · rw [pk_sub h, nI_toInt (by omega)]; omega
  unfold wIn iR
  rw [i2l_int, e1, lN_toInt (by decide)]
  by_cases h : 0 ≤ v.toInt ∧ v.toInt < (n : Int)
  · rw [if_pos h]; exact decide_eq_true ⟨by omega, by omega⟩
  · rw [if_neg h]; exact decide_eq_false (fun q => h ⟨by omega, by omega⟩)
theorem wIn_iR1 (v : Int32) {n : Nat} (hn : n < 2 ^ 31) : wIn v.toInt64 (lN 0) (lN n) = (iR v (n + 1)).isSome := by
  unfold wIn iR
  rw [i2l_int, lN_toInt hn, lN_toInt (by decide)]
  by_cases h : 0 ≤ v.toInt ∧ v.toInt < ((n + 1 : Nat) : Int)
  · rw [if_pos h]; exact decide_eq_true ⟨by omega, by omega⟩
  · rw [if_neg h]; exact decide_eq_false (fun q => h ⟨by omega, by omega⟩)
/-! THE MODEL, 3: worlds -/
set_option maxRecDepth 100000
section
variable {l : Launch} {D : va_G} {cl : List vw_C} {tys : List (ClassId × FieldType)} {mi : Nat} {cI cJ cZ : ClassId} {ma : Nat → Nat} {known fresh_ saved images : Nat → Int32} {isImage : Nat → Bool} {thrown : Nat} {tape : Nat → Nat} {taped size_ at_ begin_ token value open_ bad badPlace faultKind : Nat} {faultPlace : Int32} {xs ys : Nat → Nat} {pairs : Nat} {rows : Nat → Int64} {top : Nat} {heaps : Nat → Nat} {endsBehind : Nat → Int32} {path order firstOrder : Nat → Nat} {ordersMany : Nat} {tSort : Nat → Int32} {tMany : Nat → Nat} {numbers : Nat → Int64}
set_option maxHeartbeats 4000000 in
/-- lays the worlds -/
theorem ct_layPairs (lo hi mo un : Nat) (hl1 : known 1 = nI lo) (hl2 : known 2 = nI hi) (hl3 : known 3 = nI mo) (hl4 : known 4 = nI un) (hlo : 1 ≤ lo) (hlo2 : lo ≤ 60) (hhi : hi ≤ 60) (hmo : mo ≤ 120) (hun : un ≤ 1) : CT l D cl tys yX10_layPairs cX10_layPairs 3 none ({ frames := 0, cells := 0, slots := 0, locals := 0 } : Room) [.ref (ma 0)] (HM D cl tys mi cI cJ cZ ma known fresh_ saved images isImage thrown tape taped size_ at_ begin_ token value open_ bad badPlace faultKind faultPlace xs ys pairs rows top heaps endsBehind path order firstOrder ordersMany tSort tMany numbers) (Qv (fun (u : (Nat → Nat) × (Nat → Nat) × Nat) => layd u.1 u.2.1 u.2.2 (wList lo hi mo un)) (fun (u : (Nat → Nat) × (Nat → Nat) × Nat) => HM D cl tys mi cI cJ cZ ma known fresh_ saved images isImage thrown tape taped size_ at_ begin_ token value open_ bad badPlace faultKind faultPlace u.1 u.2.1 u.2.2 rows top heaps endsBehind path order firstOrder ordersMany tSort tMany numbers) (AM ma)) (AM ma) := by
  refine CT.of (L := [(0, .ref (ma 0))]) rfl (by decide +kernel) rfl (Nat.le_of_ble_eq_true rfl) ?_
  refine g_aload_n 0 dX10_layPairs_0 rfl rfl ?_
  refine g_iconst (v := nI 0) dX10_layPairs_1 (by decide +kernel) ?_
  refine m_put_pairs dX10_layPairs_2 ?_
  refine g_aload_n 0 dX10_layPairs_5 rfl rfl ?_
  refine m_get_known dX10_layPairs_6 ?_
  refine g_iconst (v := nI 1) dX10_layPairs_9 (by decide +kernel) ?_
  refine m_ld_known dX10_layPairs_10 (by omega) ?_
  refine GG.topi hl1 ?_
  refine g_istore_n (L' := [(0, _), (1, _)]) 1 dX10_layPairs_11 rfl (by decide) rfl rfl ?_
  have loop12 : ∀ (q12 : Nat) (x : Nat) (xs1 ys1 : Nat → Nat) (p1 : Nat) (dn : List (Nat × Nat)), hi + 1 - x < q12 → (lo ≤ x) → (x ≤ 61) → (layd xs1 ys1 p1 dn) → (dn ++ wAll hi mo un (hi + 1 - x) x = wList lo hi mo un) → GG l D cl tys cX10_layPairs 3 none RX10 ({ frames := 0, cells := 0, slots := 0, locals := 0 } : Room) (AM ma) MT (QM (Qv (fun (u : (Nat → Nat) × (Nat → Nat) × Nat) => layd u.1 u.2.1 u.2.2 (wList lo hi mo un)) (fun (u : (Nat → Nat) × (Nat → Nat) × Nat) => HM D cl tys mi cI cJ cZ ma known fresh_ saved images isImage thrown tape taped size_ at_ begin_ token value open_ bad badPlace faultKind faultPlace u.1 u.2.1 u.2.2 rows top heaps endsBehind path order firstOrder ordersMany tSort tMany numbers) (AM ma)) 0 0 (AM ma)) (HM D cl tys mi cI cJ cZ ma known fresh_ saved images isImage thrown tape taped size_ at_ begin_ token value open_ bad badPlace faultKind faultPlace xs1 ys1 p1 rows top heaps endsBehind path order firstOrder ordersMany tSort tMany numbers) 0 0 12 [(0, .ref (ma 0)), (1, .int (nI x))] [] := by
    intro q12
    induction q12 with
    | zero => intro x xs1 ys1 p1 dn hq12; exact absurd hq12 (Nat.not_lt_zero _)
    | succ q12 ih12 =>
      intro x xs1 ys1 p1 dn hq12 hx hx2 hd he
      refine g_iload_n 1 dX10_layPairs_12 rfl rfl ?_
      refine g_aload_n 0 dX10_layPairs_13 rfl rfl ?_
      refine m_get_known dX10_layPairs_14 ?_
      refine g_iconst (v := nI 2) dX10_layPairs_17 (by decide +kernel) ?_
      refine m_ld_known dX10_layPairs_18 (by omega) ?_
      refine GG.topi hl2 ?_
      refine g_icmp_gt_n (tgt := 95) dX10_layPairs_19 (by decide) (by omega) (by omega) (fun c19 => ?_) (fun c19 => ?_)
      · skip
        exact g_vret (xs1, ys1, p1) dX10_layPairs_95 (Nat.le_refl _) (Nat.le_refl _) (by rw [← he, wAll_end c19, List.append_nil]; exact hd) (fun _ h => h)
      · skip
        refine g_iload_n 1 dX10_layPairs_22 rfl rfl ?_
        refine g_aload_n 0 dX10_layPairs_23 rfl rfl ?_
        refine m_get_known dX10_layPairs_24 ?_
        refine g_iconst (v := nI 4) dX10_layPairs_27 (by decide +kernel) ?_
        refine m_ld_known dX10_layPairs_28 (by omega) ?_
        refine GG.topi hl4 ?_
        refine g_iadd_n dX10_layPairs_29 ?_
        refine g_istore_n (L' := [(0, _), (1, _), (2, _)]) 2 dX10_layPairs_30 rfl (by decide) rfl rfl ?_
        have loop31 : ∀ (q31 : Nat) (y : Nat) (xs2 ys2 : Nat → Nat) (p2 : Nat) (dn2 : List (Nat × Nat)), hi + 1 - y < q31 → (x ≤ y) → (y ≤ 62) → (layd xs2 ys2 p2 dn2) → (dn2 ++ (wRow x mo (hi + 1 - y) y ++ wAll hi mo un (hi + 1 - (x + 1)) (x + 1)) = wList lo hi mo un) → GG l D cl tys cX10_layPairs 3 none RX10 ({ frames := 0, cells := 0, slots := 0, locals := 0 } : Room) (AM ma) MT (QM (Qv (fun (u : (Nat → Nat) × (Nat → Nat) × Nat) => layd u.1 u.2.1 u.2.2 (wList lo hi mo un)) (fun (u : (Nat → Nat) × (Nat → Nat) × Nat) => HM D cl tys mi cI cJ cZ ma known fresh_ saved images isImage thrown tape taped size_ at_ begin_ token value open_ bad badPlace faultKind faultPlace u.1 u.2.1 u.2.2 rows top heaps endsBehind path order firstOrder ordersMany tSort tMany numbers) (AM ma)) 0 0 (AM ma)) (HM D cl tys mi cI cJ cZ ma known fresh_ saved images isImage thrown tape taped size_ at_ begin_ token value open_ bad badPlace faultKind faultPlace xs2 ys2 p2 rows top heaps endsBehind path order firstOrder ordersMany tSort tMany numbers) 0 0 31 [(0, .ref (ma 0)), (1, .int (nI x)), (2, .int (nI y))] [] := by
          intro q31
          induction q31 with
          | zero => intro y xs2 ys2 p2 dn2 hq31; exact absurd hq31 (Nat.not_lt_zero _)
          | succ q31 ih31 =>
            intro y xs2 ys2 p2 dn2 hq31 hy hy2 hd2 he2
            refine g_iload_n 2 dX10_layPairs_31 rfl rfl ?_
            refine g_aload_n 0 dX10_layPairs_32 rfl rfl ?_
            refine m_get_known dX10_layPairs_33 ?_
            refine g_iconst (v := nI 2) dX10_layPairs_36 (by decide +kernel) ?_
            refine m_ld_known dX10_layPairs_37 (by omega) ?_
            refine GG.topi hl2 ?_
            refine g_icmp_gt_n (tgt := 89) dX10_layPairs_38 (by decide) (by omega) (by omega) (fun c38 => ?_) (fun c38 => ?_)
            · skip
              refine g_iinc_n (b := 1) (L' := [(0, _), (1, _), (2, _)]) dX10_layPairs_89 rfl rfl (by decide) rfl rfl ?_
              refine g_goto (tgt := 12) dX10_layPairs_92 (by decide) ?_
              refine GG.locals [0, 1] rfl ?_
              exact ih12 (x + 1) xs2 ys2 p2 dn2 (by omega) (by omega) (by omega) hd2 (by rw [← he2]; congr 1; first | (rw [wRow_end c38]; rfl) | (rw [wRow_nil _ _ c50]; rfl))
            · skip
              refine g_iload_n 1 dX10_layPairs_41 rfl rfl ?_
              refine g_iload_n 2 dX10_layPairs_42 rfl rfl ?_
              refine g_iadd_n dX10_layPairs_43 ?_
              refine g_aload_n 0 dX10_layPairs_44 rfl rfl ?_
              refine m_get_known dX10_layPairs_45 ?_
              refine g_iconst (v := nI 3) dX10_layPairs_48 (by decide +kernel) ?_
              refine m_ld_known dX10_layPairs_49 (by omega) ?_
              refine GG.topi hl3 ?_
              refine g_icmp_gt_n (tgt := 89) dX10_layPairs_50 (by decide) (by omega) (by omega) (fun c50 => ?_) (fun c50 => ?_)
              · skip
                refine g_iinc_n (b := 1) (L' := [(0, _), (1, _), (2, _)]) dX10_layPairs_89 rfl rfl (by decide) rfl rfl ?_
                refine g_goto (tgt := 12) dX10_layPairs_92 (by decide) ?_
                refine GG.locals [0, 1] rfl ?_
                exact ih12 (x + 1) xs2 ys2 p2 dn2 (by omega) (by omega) (by omega) hd2 (by rw [← he2]; congr 1; first | (rw [wRow_end c38]; rfl) | (rw [wRow_nil _ _ c50]; rfl))
              · skip
                refine g_aload_n 0 dX10_layPairs_53 rfl rfl ?_
                refine m_get_xs dX10_layPairs_54 ?_
                refine g_aload_n 0 dX10_layPairs_57 rfl rfl ?_
                refine m_get_pairs dX10_layPairs_58 ?_
                refine g_iload_n 1 dX10_layPairs_61 rfl rfl ?_
                refine m_st_xs dX10_layPairs_62 (by have h7 := congrArg List.length he2; have h8 := wList_len (u := un) (mo := mo) hlo hhi; rw [wRow_step c38 c50, List.length_append, List.length_append, List.length_cons] at h7; have h9 := hd2.1; omega) ?_
                refine g_aload_n 0 dX10_layPairs_63 rfl rfl ?_
                refine m_get_ys dX10_layPairs_64 ?_
                refine g_aload_n 0 dX10_layPairs_67 rfl rfl ?_
                refine m_get_pairs dX10_layPairs_68 ?_
                refine g_iload_n 2 dX10_layPairs_71 rfl rfl ?_
                refine m_st_ys dX10_layPairs_72 (by have h7 := congrArg List.length he2; have h8 := wList_len (u := un) (mo := mo) hlo hhi; rw [wRow_step c38 c50, List.length_append, List.length_append, List.length_cons] at h7; have h9 := hd2.1; omega) ?_
                refine g_aload_n 0 dX10_layPairs_73 rfl rfl ?_
                refine g_dup dX10_layPairs_74 rfl ?_
                refine m_get_pairs dX10_layPairs_75 ?_
                refine g_iconst (v := nI 1) dX10_layPairs_78 (by decide +kernel) ?_
                refine g_iadd_n dX10_layPairs_79 ?_
                refine m_put_pairs dX10_layPairs_80 ?_
                refine g_iinc_n (b := 1) (L' := [(0, _), (1, _), (2, _)]) dX10_layPairs_83 rfl rfl (by decide) rfl rfl ?_
                refine g_goto (tgt := 31) dX10_layPairs_86 (by decide) ?_
                exact ih31 (y + 1) _ _ _ (dn2 ++ [(x, y)]) (by omega) (by omega) (by omega) (layd_push hd2) (by rw [← he2, wRow_step c38 c50]; simp)
        exact loop31 (hi + 2) (x + un) xs1 ys1 p1 dn (by omega) (by omega) (by omega) hd (by rw [← he, wAll_step c19])
  exact loop12 (hi + 2) lo xs ys 0 [] (by omega) (Nat.le_refl _) (by omega) ⟨rfl, fun w p h => by simp at h⟩ rfl
set_option maxHeartbeats 4000000 in
/-- is it a world -/
theorem ct_isWorld (v0 : Int32) (lo hi mo un : Nat) (hl1 : known 1 = nI lo) (hl2 : known 2 = nI hi) (hl3 : known 3 = nI mo) (hl4 : known 4 = nI un) (hlo : 1 ≤ lo) (hlo2 : lo ≤ 60) (hhi : hi ≤ 60) (hmo : mo ≤ 120) (hun : un ≤ 1) : CT l D cl tys yX10_isWorld cX10_isWorld 2 (some .boolean) ({ frames := 1, cells := 0, slots := 0, locals := 25 } : Room) [.ref (ma 0), .int v0] (HM D cl tys mi cI cJ cZ ma known fresh_ saved images isImage thrown tape taped size_ at_ begin_ token value open_ bad badPlace faultKind faultPlace xs ys pairs rows top heaps endsBehind path order firstOrder ordersMany tSort tMany numbers) (Qi (fun (v : Int32) (u : (Nat → Nat) × (Nat → Nat) × Nat) => layd u.1 u.2.1 u.2.2 (wList lo hi mo un) ∧ v = bI (iR v0 (wList lo hi mo un).length).isSome) (fun (u : (Nat → Nat) × (Nat → Nat) × Nat) => HM D cl tys mi cI cJ cZ ma known fresh_ saved images isImage thrown tape taped size_ at_ begin_ token value open_ bad badPlace faultKind faultPlace u.1 u.2.1 u.2.2 rows top heaps endsBehind path order firstOrder ordersMany tSort tMany numbers) (AM ma)) (AM ma) := by
  refine CT.of (L := [(0, .ref (ma 0)), (1, .int v0)]) rfl (by decide +kernel) rfl (Nat.le_of_ble_eq_true rfl) ?_
  refine g_aload_n 0 dX10_isWorld_0 rfl rfl ?_
  refine m_cVv (ct_layPairs lo hi mo un hl1 hl2 hl3 hl4 hlo hlo2 hhi hmo hun) hvX10_layPairs hyX10_layPairs rfl ⟨Nat.le_of_ble_eq_true rfl, Nat.le_of_ble_eq_true rfl⟩ ⟨Nat.zero_le _, Nat.zero_le _⟩ rfl (Nat.le_of_ble_eq_true rfl) dX10_isWorld_1 m_rec (fun ul hld => ?_)
  obtain ⟨xsL, ysL, pairsL⟩ := ul
  have hld : layd xsL ysL pairsL (wList lo hi mo un) := hld
  have hW := layd_OK hld hlo hhi
  refine g_iload_n 1 dX10_isWorld_4 rfl rfl ?_
  refine g_i2l dX10_isWorld_5 rfl ?_
  refine g_lconst (v := lN 0) dX10_isWorld_6 (by decide +kernel) ?_
  refine g_aload_n 0 dX10_isWorld_7 rfl rfl ?_
  refine m_get_pairs dX10_isWorld_8 ?_
  refine g_iconst (v := nI 1) dX10_isWorld_11 (by decide +kernel) ?_
  refine g_isub dX10_isWorld_12 ?_
  refine g_i2l dX10_isWorld_13 rfl ?_
  refine m_cSi (ct_within _ _ _) hsX10_within hyX10_within rfl ⟨Nat.le_of_ble_eq_true rfl, Nat.le_of_ble_eq_true rfl⟩ ⟨Nat.zero_le _, Nat.zero_le _⟩ rfl (Nat.le_of_ble_eq_true rfl) dX10_isWorld_14 (fun r u hp => ?_)
  obtain rfl := hp
  exact g_zret (xsL, ysL, pairsL) dX10_isWorld_17 (Nat.le_refl _) (Nat.le_refl _) (⟨hld, by rw [← hld.1, ← wIn_iR v0 (by have := hW.1; omega)]⟩) (fun _ h => h)
set_option maxHeartbeats 4000000 in
/-- a place -/
theorem ct_isSpeaker (v0 : Int32) (nS : Nat) (hnS : known 5 = nI nS) (hnS2 : nS < 2 ^ 31) : CT l D cl tys yX10_isSpeaker cX10_isSpeaker 2 (some .boolean) ({ frames := 1, cells := 0, slots := 0, locals := 25 } : Room) [.ref (ma 0), .int v0] (HM D cl tys mi cI cJ cZ ma known fresh_ saved images isImage thrown tape taped size_ at_ begin_ token value open_ bad badPlace faultKind faultPlace xs ys pairs rows top heaps endsBehind path order firstOrder ordersMany tSort tMany numbers) (Qi (fun (v : Int32) (u : Unit) => v = bI (iR v0 nS).isSome) (fun (u : Unit) => HM D cl tys mi cI cJ cZ ma known fresh_ saved images isImage thrown tape taped size_ at_ begin_ token value open_ bad badPlace faultKind faultPlace xs ys pairs rows top heaps endsBehind path order firstOrder ordersMany tSort tMany numbers) (AM ma)) (AM ma) := by
  refine CT.of (L := [(0, .ref (ma 0)), (1, .int v0)]) rfl (by decide +kernel) rfl (Nat.le_of_ble_eq_true rfl) ?_
  refine g_iload_n 1 dX10_isSpeaker_0 rfl rfl ?_
  refine g_i2l dX10_isSpeaker_1 rfl ?_
  refine g_lconst (v := lN 0) dX10_isSpeaker_2 (by decide +kernel) ?_
  refine g_aload_n 0 dX10_isSpeaker_3 rfl rfl ?_
  refine m_get_known dX10_isSpeaker_4 ?_
  refine g_iconst (v := nI 5) dX10_isSpeaker_7 (by decide +kernel) ?_
  refine m_ld_known dX10_isSpeaker_8 (by omega) ?_
  refine GG.topi hnS ?_
  refine g_iconst (v := nI 1) dX10_isSpeaker_9 (by decide +kernel) ?_
  refine g_isub dX10_isSpeaker_10 ?_
  refine g_i2l dX10_isSpeaker_11 rfl ?_
  refine m_cSi (ct_within _ _ _) hsX10_within hyX10_within rfl ⟨Nat.le_of_ble_eq_true rfl, Nat.le_of_ble_eq_true rfl⟩ ⟨Nat.zero_le _, Nat.zero_le _⟩ rfl (Nat.le_of_ble_eq_true rfl) dX10_isSpeaker_12 (fun r u hp => ?_)
  obtain rfl := hp
  exact g_zret () dX10_isSpeaker_15 (Nat.le_refl _) (Nat.le_refl _) (by rw [← wIn_iR v0 hnS2]) (fun _ h => h)
set_option maxHeartbeats 4000000 in
/-- a place -/
theorem ct_isTurn (v0 : Int32) (nT : Nat) (hnT : known 6 = nI nT) (hnT2 : nT < 2 ^ 31) : CT l D cl tys yX10_isTurn cX10_isTurn 2 (some .boolean) ({ frames := 1, cells := 0, slots := 0, locals := 25 } : Room) [.ref (ma 0), .int v0] (HM D cl tys mi cI cJ cZ ma known fresh_ saved images isImage thrown tape taped size_ at_ begin_ token value open_ bad badPlace faultKind faultPlace xs ys pairs rows top heaps endsBehind path order firstOrder ordersMany tSort tMany numbers) (Qi (fun (v : Int32) (u : Unit) => v = bI (iR v0 nT).isSome) (fun (u : Unit) => HM D cl tys mi cI cJ cZ ma known fresh_ saved images isImage thrown tape taped size_ at_ begin_ token value open_ bad badPlace faultKind faultPlace xs ys pairs rows top heaps endsBehind path order firstOrder ordersMany tSort tMany numbers) (AM ma)) (AM ma) := by
  refine CT.of (L := [(0, .ref (ma 0)), (1, .int v0)]) rfl (by decide +kernel) rfl (Nat.le_of_ble_eq_true rfl) ?_
  refine g_iload_n 1 dX10_isTurn_0 rfl rfl ?_
  refine g_i2l dX10_isTurn_1 rfl ?_
  refine g_lconst (v := lN 0) dX10_isTurn_2 (by decide +kernel) ?_
  refine g_aload_n 0 dX10_isTurn_3 rfl rfl ?_
  refine m_get_known dX10_isTurn_4 ?_
  refine g_bipush (v := nI 6) dX10_isTurn_7 (by decide +kernel) ?_
  refine m_ld_known dX10_isTurn_9 (by omega) ?_
  refine GG.topi hnT ?_
  refine g_iconst (v := nI 1) dX10_isTurn_10 (by decide +kernel) ?_
  refine g_isub dX10_isTurn_11 ?_
  refine g_i2l dX10_isTurn_12 rfl ?_
  refine m_cSi (ct_within _ _ _) hsX10_within hyX10_within rfl ⟨Nat.le_of_ble_eq_true rfl, Nat.le_of_ble_eq_true rfl⟩ ⟨Nat.zero_le _, Nat.zero_le _⟩ rfl (Nat.le_of_ble_eq_true rfl) dX10_isTurn_13 (fun r u hp => ?_)
  obtain rfl := hp
  exact g_zret () dX10_isTurn_16 (Nat.le_refl _) (Nat.le_refl _) (by rw [← wIn_iR v0 hnT2]) (fun _ h => h)
set_option maxHeartbeats 4000000 in
/-- behind a turn -/
theorem ct_isBehind (v0 : Int32) (nT : Nat) (hnT : known 6 = nI nT) (hnT2 : nT < 2 ^ 31) : CT l D cl tys yX10_isBehind cX10_isBehind 2 (some .boolean) ({ frames := 1, cells := 0, slots := 0, locals := 25 } : Room) [.ref (ma 0), .int v0] (HM D cl tys mi cI cJ cZ ma known fresh_ saved images isImage thrown tape taped size_ at_ begin_ token value open_ bad badPlace faultKind faultPlace xs ys pairs rows top heaps endsBehind path order firstOrder ordersMany tSort tMany numbers) (Qi (fun (v : Int32) (u : Unit) => v = bI (iR v0 (nT + 1)).isSome) (fun (u : Unit) => HM D cl tys mi cI cJ cZ ma known fresh_ saved images isImage thrown tape taped size_ at_ begin_ token value open_ bad badPlace faultKind faultPlace xs ys pairs rows top heaps endsBehind path order firstOrder ordersMany tSort tMany numbers) (AM ma)) (AM ma) := by
  refine CT.of (L := [(0, .ref (ma 0)), (1, .int v0)]) rfl (by decide +kernel) rfl (Nat.le_of_ble_eq_true rfl) ?_
  refine g_iload_n 1 dX10_isBehind_0 rfl rfl ?_
  refine g_i2l dX10_isBehind_1 rfl ?_
  refine g_lconst (v := lN 0) dX10_isBehind_2 (by decide +kernel) ?_
  refine g_aload_n 0 dX10_isBehind_3 rfl rfl ?_
  refine m_get_known dX10_isBehind_4 ?_
  refine g_bipush (v := nI 6) dX10_isBehind_7 (by decide +kernel) ?_
  refine m_ld_known dX10_isBehind_9 (by omega) ?_
  refine GG.topi hnT ?_
  refine g_i2l_n dX10_isBehind_10 (by omega) ?_
  refine m_cSi (ct_within _ _ _) hsX10_within hyX10_within rfl ⟨Nat.le_of_ble_eq_true rfl, Nat.le_of_ble_eq_true rfl⟩ ⟨Nat.zero_le _, Nat.zero_le _⟩ rfl (Nat.le_of_ble_eq_true rfl) dX10_isBehind_11 (fun r u hp => ?_)
  obtain rfl := hp
  exact g_zret () dX10_isBehind_14 (Nat.le_refl _) (Nat.le_refl _) (by rw [← wIn_iR1 v0 hnT2]) (fun _ h => h)
end
