/-! SPEC: other numbers, answers, I don't know -/
set_option maxRecDepth 100000
theorem ChM_congr {say say2 : Sem → Nat → Prop} {K K2 : Nat → Int32} (hs : ∀ g r, say g r → say2 g r) (hK : ∀ i, 66 ≤ i → K2 i = K i) : ∀ {gs : List Sem} {p : Int32}, ChM say K gs p → ChM say2 K2 gs p
  | [], _, h => h
  | g :: gs, p, h => by
    obtain ⟨q, r, h1, h2, h3, h4, h5⟩ := h
    exact ⟨q, r, h1, h2, by rw [hK _ (by omega)]; exact h3, hs g r h4, by rw [hK _ (by omega)]; exact ChM_congr hs hK h5⟩
theorem SayM_congr {nS : Nat} {K K2 : Nat → Int32} (hK : ∀ i, 66 ≤ i → K2 i = K i) : ∀ {d : Nat} {f : Sem} {m : Nat}, SayM nS d f m K → SayM nS d f m K2
  | 0, _, _, h => h
  | d + 1, f, m, h => by
    obtain ⟨h1, h2⟩ := h
    have e0 := hK (66 + 4 * m + 0) (by omega)
    have e1 := hK (66 + 4 * m + 1) (by omega)
    have e2 := hK (66 + 4 * m + 2) (by omega)
    refine ⟨h1, ?_⟩
    rw [e0, e1, e2]
    rcases h2 with h | h | h | h | ⟨s, p, g, a1, a2, a3, a4, a5, a6⟩ | ⟨s, p, g, a1, a2, a3, a4, a5, a6⟩ | ⟨p, g, a1, a2, a3, a4⟩ | ⟨gs, a1, a2, a3⟩ | ⟨gs, a1, a2, a3⟩
    · exact Or.inl h
    · exact Or.inr (Or.inl h)
    · exact Or.inr (Or.inr (Or.inl h))
    · exact Or.inr (Or.inr (Or.inr (Or.inl h)))
    · exact Or.inr (Or.inr (Or.inr (Or.inr (Or.inl ⟨s, p, g, a1, a2, a3, a4, SayM_congr hK a5, a6⟩))))
    · exact Or.inr (Or.inr (Or.inr (Or.inr (Or.inr (Or.inl ⟨s, p, g, a1, a2, a3, a4, SayM_congr hK a5, a6⟩)))))
    · exact Or.inr (Or.inr (Or.inr (Or.inr (Or.inr (Or.inr (Or.inl ⟨p, g, a1, a2, SayM_congr hK a3, a4⟩))))))
    · exact Or.inr (Or.inr (Or.inr (Or.inr (Or.inr (Or.inr (Or.inr (Or.inl ⟨gs, a1, ChM_congr (fun g r h => SayM_congr hK h) hK a2, a3⟩)))))))
    · exact Or.inr (Or.inr (Or.inr (Or.inr (Or.inr (Or.inr (Or.inr (Or.inr ⟨gs, a1, ChM_congr (fun g r h => SayM_congr hK h) hK a2, a3⟩)))))))
/-- the talk, if its numbers went from a to b -/
def tLH (T : Talk) (a b : Nat) : Talk := (tLines T, a, b, tMost T, tUn T, tNS T, tKind T, tLiar T, tDeaf T, tNT T, tWho T, tSem T)
theorem TOK.lh {T : Talk} (h : TOK T) {a b : Nat} (h1 : 1 ≤ a) (h2 : a ≤ 60) (h3 : b ≤ 60) : TOK (tLH T a b) := by
  obtain ⟨o1, o2, o3, o4, o5, o6, o7, o8, o9, o10⟩ := h
  exact ⟨h1, h2, h3, o4, o5, o6, o7, o8, o9, o10⟩
theorem KIs.lh {K : Nat → Int32} {T : Talk} (h : KIs K T) {a b : Nat} (h1 : 1 ≤ a) (h2 : a ≤ 60) (h3 : b ≤ 60) : KIs (up (up K 1 (nI a)) 2 (nI b)) (tLH T a b) := by
  obtain ⟨ho, k0, k1, k2, k3, k4, k5, k6, k7, k8⟩ := h
  have e : ∀ i, ¬ i = 1 → ¬ i = 2 → up (up K 1 (nI a)) 2 (nI b) i = K i := fun i q1 q2 => by rw [up_n q2, up_n q1]
  refine ⟨ho.lh h1 h2 h3, ?_, ?_, ?_, ?_, ?_, ?_, ?_, ?_, ?_⟩
  · rw [e 0 (by decide) (by decide)]; exact k0
  · rw [up_n (by decide), up_s]; rfl
  · rw [up_s]; rfl
  · rw [e 3 (by decide) (by decide)]; exact k3
  · rw [e 4 (by decide) (by decide)]; exact k4
  · rw [e 5 (by decide) (by decide)]; exact k5
  · rw [e 6 (by decide) (by decide)]; exact k6
  · intro s hs
    rw [e _ (by omega) (by omega), e _ (by omega) (by omega), e _ (by omega) (by omega)]
    exact k7 s hs
  · intro t ht
    rw [e _ (by omega) (by omega), e _ (by omega) (by omega)]
    obtain ⟨a1, m, a2, a3⟩ := k8 t ht
    exact ⟨a1, m, a2, SayM_congr (fun i hi => e i (by omega) (by omega)) a3⟩
theorem up4 (K : Nat → Int32) (a b : Int32) : up (up (up (up K 1 a) 2 b) 1 (K 1)) 2 (K 2) = K := by
  funext j
  unfold up
  by_cases h2 : j = 2
  · rw [if_pos h2, h2]
  · rw [if_neg h2]
    by_cases h1 : j = 1
    · rw [if_pos h1, h1]
    · rw [if_neg h1, if_neg h2, if_neg h1]
def aEnds (T : Talk) (a b : Int32) : Nat × Int32 := if 1 ≤ a.toInt ∧ a.toInt ≤ 60 ∧ a.toInt ≤ b.toInt ∧ b.toInt ≤ 60 then (0, nI (leftN (tLH T a.toNatClampNeg b.toNatClampNeg) (tNT T))) else (1, 0)
/-- up to which number just one world is left: the first (wh = 0) or the last one -/
def isUpTo (T : Talk) (wh : Int32) (thr : Nat) (v : Int32) : Prop :=
  if wh = 0 then thr = 0 ∧ ((∃ h, tLow T ≤ h ∧ h ≤ 60 ∧ leftN (tLH T (tLow T) h) (tNT T) = 1 ∧ (∀ g, tLow T ≤ g → g < h → ¬ leftN (tLH T (tLow T) g) (tNT T) = 1) ∧ v = nI h) ∨ ((∀ g, tLow T ≤ g → g ≤ 60 → ¬ leftN (tLH T (tLow T) g) (tNT T) = 1) ∧ v = -1))
  else if wh = 1 then thr = 0 ∧ ((∃ h, tLow T ≤ h ∧ h ≤ 60 ∧ leftN (tLH T (tLow T) h) (tNT T) = 1 ∧ (∀ g, h < g → g ≤ 60 → ¬ leftN (tLH T (tLow T) g) (tNT T) = 1) ∧ v = nI h) ∨ ((∀ g, tLow T ≤ g → g ≤ 60 → ¬ leftN (tLH T (tLow T) g) (tNT T) = 1) ∧ v = -1))
  else thr = 1
/-- a row of worlds behind an answer -/
def ansW (P : Nat) (sl : Nat → Nat) (f : Nat → Bool) (kb : Bool) (w : Nat) : Bool := f w && decide (knowF P sl f w = kb)
theorem ansW_congr {P : Nat} {sl sl2 : Nat → Nat} {f f2 : Nat → Bool} {kb : Bool} {w : Nat} (hw : w < P) (hs : ∀ v, v < P → sl v = sl2 v) (hf : ∀ v, v < P → f v = f2 v) : ansW P sl f kb w = ansW P sl2 f2 kb w := by
  unfold ansW; rw [knowF_congr hw hs hf, hf w hw]
theorem rowsUp_trans {r0 r1 r2 : Nat → Int64} {row P : Nat} {g h : Nat → Bool} (h1 : rowsUp r0 r1 row P g) (h2 : rowsUp r1 r2 row P h) : rowsUp r0 r2 row P h := by
  intro r' w' hw'
  rw [h2 r' w' hw', h1 r' w' hw']
  by_cases q : r' = row ∧ w' < P
  · rw [if_pos q, if_pos q]
  · rw [if_neg q, if_neg q, if_neg q]
theorem rowsUp_congr {r0 r1 : Nat → Int64} {row P : Nat} {g h : Nat → Bool} (h1 : rowsUp r0 r1 row P g) (hg : ∀ w, w < P → g w = h w) : rowsUp r0 r1 row P h := by
  intro r' w' hw'
  rw [h1 r' w' hw']
  by_cases q : r' = row ∧ w' < P
  · rw [if_pos q, if_pos q, hg w' q.2]
  · rw [if_neg q, if_neg q]
/-- the k-th one of two who say by turns that they don't know -/
def muS (T : Talk) (a b : Nat) : Nat → Nat → Bool
  | 0 => fun _ => true
  | k + 1 => fun w => ansW (tP T) (tSl T (if k % 2 = 0 then a else b)) (muS T a b k) false w
def muD (T : Talk) (a b k : Nat) (w : Nat) : Bool := muS T a b k w && !muS T a b (k + 1) w
def muWhen (T : Talk) (a b : Nat) : Nat → Nat → Int32
  | 0, _ => -1
  | k + 1, w => if muD T a b k w = true then nI k else muWhen T a b k w
def muIdle (T : Talk) (a b : Nat) : Nat → Nat
  | 0 => 0
  | k + 1 => if 0 < cnt (muD T a b k) (tP T) then 0 else muIdle T a b k + 1
def muEnd (T : Talk) (a b K : Nat) : Prop := 2 ≤ muIdle T a b K ∧ ∀ k, k < K → muIdle T a b k < 2
theorem muEnd_uniq {T : Talk} {a b K K2 : Nat} (h : muEnd T a b K) (h2 : muEnd T a b K2) : K = K2 := by
  rcases Nat.lt_trichotomy K K2 with q | q | q
  · have := h2.2 K q; have := h.1; omega
  · exact q
  · have := h.2 K2 q; have := h2.1; omega
theorem muS_sub {T : Talk} {a b k w : Nat} (h : muS T a b (k + 1) w = true) : muS T a b k w = true := by
  have h2 : (muS T a b k w && _) = true := h
  exact (Bool.and_eq_true _ _ ▸ h2).1
theorem cnt_diff {f g : Nat → Bool} (hs : ∀ w, g w = true → f w = true) (n : Nat) : cnt g n + cnt (fun w => f w && !g w) n = cnt f n := by
  induction n with
  | zero => rfl
  | succ n ih =>
    unfold cnt
    have h1 := hs n
    cases hf : f n <;> cases hg : g n <;> simp_all <;> omega
theorem mu_cnt (T : Talk) (a b k : Nat) : cnt (muS T a b (k + 1)) (tP T) + cnt (muD T a b k) (tP T) = cnt (muS T a b k) (tP T) := cnt_diff (fun w h => muS_sub h) (tP T)
theorem muWhen_ge (T : Talk) (a b : Nat) : ∀ k w, muWhen T a b k w = -1 ∨ ∃ j, j < k ∧ muWhen T a b k w = nI j
  | 0, _ => Or.inl rfl
  | k + 1, w => by
    unfold muWhen
    split
    · exact Or.inr ⟨k, by omega, rfl⟩
    · rcases muWhen_ge T a b k w with h | ⟨j, h1, h2⟩
      · exact Or.inl h
      · exact Or.inr ⟨j, by omega, h2⟩
def aTwo (T : Talk) (a b : Int32) : Nat := match iR a (tNS T), iR b (tNS T) with
  | some i, some j => if i = j then 2 else 0
  | _, _ => 1
def isRest (T : Talk) (a b : Int32) (thr : Nat) (v : Int32) : Prop := thr = aTwo T a b ∧ (aTwo T a b = 0 → ∃ K, muEnd T a.toNatClampNeg b.toNatClampNeg K ∧ v = nI (cnt (muS T a.toNatClampNeg b.toNatClampNeg K) (tP T)))
def isWhen (T : Talk) (a b w : Int32) (thr : Nat) (v : Int32) : Prop := match iR w (tP T) with
  | none => thr = 1
  | some j => thr = aTwo T a b ∧ (aTwo T a b = 0 → ∃ K, muEnd T a.toNatClampNeg b.toNatClampNeg K ∧ v = muWhen T a.toNatClampNeg b.toNatClampNeg K j)
def bestE (e : Nat → Int32) : Nat → Option Nat
  | 0 => none
  | n + 1 => match bestE e n with
    | none => if e n = -1 then none else some n
    | some b => if e n = -1 then some b else if e b < e n then some n else some b
theorem bestE_lt {e : Nat → Int32} : ∀ {n b : Nat}, bestE e n = some b → b < n ∧ ¬ e b = -1
  | n + 1, b, h => by
    unfold bestE at h
    cases hq : bestE e n with
    | none =>
      rw [hq] at h
      dsimp only at h
      split at h
      · cases h
      · rename_i q; cases h; exact ⟨Nat.lt_succ_self _, q⟩
    | some c =>
      rw [hq] at h
      dsimp only at h
      obtain ⟨h1, h2⟩ := bestE_lt hq
      split at h
      · cases h; exact ⟨by omega, h2⟩
      · rename_i q
        split at h
        · cases h; exact ⟨Nat.lt_succ_self _, q⟩
        · cases h; exact ⟨by omega, h2⟩
def bestB (o : Option Nat) : Int32 := match o with | none => -1 | some x => nI x
def bestV (e : Nat → Int32) (o : Option Nat) : Int32 := match o with | none => -1 | some x => e x
theorem bestE_congr {e e2 : Nat → Int32} : ∀ {n : Nat}, (∀ w, w < n → e w = e2 w) → bestE e n = bestE e2 n
  | 0, _ => rfl
  | n + 1, h => by
    unfold bestE
    rw [bestE_congr (fun w hw => h w (Nat.lt_succ_of_lt hw)), h n (Nat.lt_succ_self n)]
    cases hq : bestE e2 n with
    | none => rfl
    | some b => dsimp only; rw [h b (by have := (bestE_lt hq).1; omega)]
def isLongest (T : Talk) (a b wh : Int32) (thr : Nat) (v : Int32) : Prop :=
  if aTwo T a b = 0 then (if wh = 0 then thr = 0 ∧ ∃ K, muEnd T a.toNatClampNeg b.toNatClampNeg K ∧ v = bestV (muWhen T a.toNatClampNeg b.toNatClampNeg K) (bestE (muWhen T a.toNatClampNeg b.toNatClampNeg K) (tP T))
    else if wh = 1 then thr = 0 ∧ ∃ K, muEnd T a.toNatClampNeg b.toNatClampNeg K ∧ v = bestB (bestE (muWhen T a.toNatClampNeg b.toNatClampNeg K) (tP T)) else thr = 2)
  else thr = aTwo T a b
theorem two_mod (k : Nat) : k % 2 = 0 ∨ k % 2 = 1 := by omega
/-! THE MODEL, 8: other numbers, answers, I don't know -/
set_option maxRecDepth 100000
section
variable {l : Launch} {D : va_G} {cl : List vw_C} {tys : List (ClassId × FieldType)} {mi : Nat} {cI cJ cZ : ClassId} {ma : Nat → Nat} {known fresh_ saved images : Nat → Int32} {isImage : Nat → Bool} {thrown : Nat} {tape : Nat → Nat} {taped size_ at_ begin_ token value open_ bad badPlace faultKind : Nat} {faultPlace : Int32} {xs ys : Nat → Nat} {pairs : Nat} {rows : Nat → Int64} {top : Nat} {heaps : Nat → Nat} {endsBehind : Nat → Int32} {path order firstOrder : Nat → Nat} {ordersMany : Nat} {tSort : Nat → Int32} {tMany : Nat → Nat} {numbers : Nat → Int64}
set_option maxHeartbeats 4000000 in
/-- how many would be left with other numbers -/
theorem ct_leftWith (T : Talk) (a0 b0 : Nat) (hK : KIs known T) (h1 : 1 ≤ a0) (h2 : a0 ≤ 60) (h3 : b0 ≤ 60) : CT l D cl tys yX10_leftWith cX10_leftWith 6 (some .int) ({ frames := 88, cells := 0, slots := 0, locals := 2590 } : Room) [.ref (ma 0), .int (nI a0), .int (nI b0)] (HM D cl tys mi cI cJ cZ ma known fresh_ saved images isImage thrown tape taped size_ at_ begin_ token value open_ bad badPlace faultKind faultPlace xs ys pairs rows top heaps endsBehind path order firstOrder ordersMany tSort tMany numbers) (Qi (fun (v : Int32) (u : (Nat → Nat) × (Nat → Int64) × (Nat → Nat) × (Nat → Nat) × Nat) => v = nI (leftN (tLH T a0 b0) (tNT T))) (fun (u : (Nat → Nat) × (Nat → Int64) × (Nat → Nat) × (Nat → Nat) × Nat) => HM D cl tys mi cI cJ cZ ma known fresh_ saved images isImage thrown tape taped size_ at_ begin_ token value open_ bad badPlace faultKind faultPlace u.2.2.1 u.2.2.2.1 u.2.2.2.2 u.2.1 21 u.1 endsBehind path order firstOrder ordersMany tSort tMany numbers) (AM ma)) (AM ma) := by
  obtain ⟨⟨o1, o2, o3, o4, o5, o6, o7, o8, o9, o10⟩, k0, k1, k2, k3, k4, k5, k6, k7, k8⟩ := id hK
  refine CT.of (L := [(0, .ref (ma 0)), (1, .int (nI a0)), (2, .int (nI b0))]) rfl (by decide +kernel) rfl (Nat.le_of_ble_eq_true rfl) ?_
  refine g_aload_n 0 dX10_leftWith_0 rfl rfl ?_
  refine m_get_known dX10_leftWith_1 ?_
  refine g_iconst (v := nI 1) dX10_leftWith_4 (by decide +kernel) ?_
  refine m_ld_known dX10_leftWith_5 (by omega) ?_
  refine g_istore_n (L' := [(0, _), (1, _), (2, _), (3, _)]) 3 dX10_leftWith_6 rfl (by decide) rfl rfl ?_
  refine g_aload_n 0 dX10_leftWith_7 rfl rfl ?_
  refine m_get_known dX10_leftWith_8 ?_
  refine g_iconst (v := nI 2) dX10_leftWith_11 (by decide +kernel) ?_
  refine m_ld_known dX10_leftWith_12 (by omega) ?_
  refine g_istore (L' := [(0, _), (1, _), (2, _), (3, _), (4, _)]) dX10_leftWith_13 (by decide) rfl rfl ?_
  refine g_aload_n 0 dX10_leftWith_15 rfl rfl ?_
  refine m_get_known dX10_leftWith_16 ?_
  refine g_iconst (v := nI 1) dX10_leftWith_19 (by decide +kernel) ?_
  refine g_iload_n 1 dX10_leftWith_20 rfl rfl ?_
  refine m_st_known dX10_leftWith_21 (by omega) ?_
  refine g_aload_n 0 dX10_leftWith_22 rfl rfl ?_
  refine m_get_known dX10_leftWith_23 ?_
  refine g_iconst (v := nI 2) dX10_leftWith_26 (by decide +kernel) ?_
  refine g_iload_n 2 dX10_leftWith_27 rfl rfl ?_
  refine m_st_known dX10_leftWith_28 (by omega) ?_
  refine g_aload_n 0 dX10_leftWith_29 rfl rfl ?_
  refine m_cVi (ct_leftNow (tLH T a0 b0) (hK.lh h1 h2 h3)) hvX10_leftNow hyX10_leftNow rfl ⟨Nat.le_of_ble_eq_true rfl, Nat.le_of_ble_eq_true rfl⟩ ⟨Nat.zero_le _, Nat.zero_le _⟩ rfl (Nat.le_of_ble_eq_true rfl) dX10_leftWith_30 m_rec (fun r ul hul => ?_)
  obtain ⟨heapsL, rowsZ, xsL, ysL, pairsL⟩ := ul
  dsimp only
  obtain ⟨hl, hr, hr7⟩ := hul
  subst hr7
  refine g_istore (L' := [(0, _), (1, _), (2, _), (3, _), (4, _), (5, _)]) dX10_leftWith_33 (by decide) rfl rfl ?_
  refine g_aload_n 0 dX10_leftWith_35 rfl rfl ?_
  refine m_get_known dX10_leftWith_36 ?_
  refine g_iconst (v := nI 1) dX10_leftWith_39 (by decide +kernel) ?_
  refine g_iload_n 3 dX10_leftWith_40 rfl rfl ?_
  refine m_st_known dX10_leftWith_41 (by omega) ?_
  refine g_aload_n 0 dX10_leftWith_42 rfl rfl ?_
  refine m_get_known dX10_leftWith_43 ?_
  refine g_iconst (v := nI 2) dX10_leftWith_46 (by decide +kernel) ?_
  refine g_iload dX10_leftWith_47 rfl ?_
  refine m_st_known dX10_leftWith_49 (by omega) ?_
  rw [up4 known (nI a0) (nI b0)]
  refine g_iload dX10_leftWith_50 rfl ?_
  exact g_iret (heapsL, rowsZ, xsL, ysL, pairsL) dX10_leftWith_52 (Nat.le_refl _) (Nat.le_refl _) (rfl) (fun _ h => h)
set_option maxHeartbeats 4000000 in
/-- how many are left if numbers went from .. to .. -/
theorem ct_ends (T : Talk) (a0 b0 : Int32) (hK : KIs known T) : CT l D cl tys yX10_ends cX10_ends 3 (some .int) ({ frames := 89, cells := 0, slots := 0, locals := 2615 } : Room) [.ref (ma 0), .int a0, .int b0] (HM D cl tys mi cI cJ cZ ma known fresh_ saved images isImage thrown tape taped size_ at_ begin_ token value open_ bad badPlace faultKind faultPlace xs ys pairs rows top heaps endsBehind path order firstOrder ordersMany tSort tMany numbers) (Qi (fun (v : Int32) (u : Nat × (Nat → Nat) × (Nat → Nat) × Nat × (Nat → Int64) × Nat × (Nat → Nat)) => ans (aEnds T a0 b0) u.1 v) (fun (u : Nat × (Nat → Nat) × (Nat → Nat) × Nat × (Nat → Int64) × Nat × (Nat → Nat)) => HM D cl tys mi cI cJ cZ ma known fresh_ saved images isImage u.1 tape taped size_ at_ begin_ token value open_ bad badPlace faultKind faultPlace u.2.1 u.2.2.1 u.2.2.2.1 u.2.2.2.2.1 u.2.2.2.2.2.1 u.2.2.2.2.2.2 endsBehind path order firstOrder ordersMany tSort tMany numbers) (AM ma)) (AM ma) := by
  obtain ⟨⟨o1, o2, o3, o4, o5, o6, o7, o8, o9, o10⟩, k0, k1, k2, k3, k4, k5, k6, k7, k8⟩ := id hK
  refine CT.of (L := [(0, .ref (ma 0)), (1, .int a0), (2, .int b0)]) rfl (by decide +kernel) rfl (Nat.le_of_ble_eq_true rfl) ?_
  by_cases hin : 1 ≤ a0.toInt ∧ a0.toInt ≤ 60 ∧ a0.toInt ≤ b0.toInt ∧ b0.toInt ≤ 60
  · skip
    obtain ⟨i1, i2, i3, i4⟩ := hin
    have ha := iR_some (show iR a0 61 = some a0.toNatClampNeg by unfold iR; rw [if_pos ⟨by omega, by omega⟩])
    have hb := iR_some (show iR b0 61 = some b0.toNatClampNeg by unfold iR; rw [if_pos ⟨by omega, by omega⟩])
    generalize a0.toNatClampNeg = x at ha
    generalize b0.toNatClampNeg = y at hb
    obtain ⟨hx, ex⟩ := ha
    obtain ⟨hy, ey⟩ := hb
    subst ex
    subst ey
    rw [nI_toInt (by omega)] at i1 i2 i3
    rw [nI_toInt (by omega)] at i3 i4
    refine g_aload_n 0 dX10_ends_0 rfl rfl ?_
    refine g_iload_n 1 dX10_ends_1 rfl rfl ?_
    refine g_i2l_n dX10_ends_2 (by omega) ?_
    refine g_lconst (v := lN 1) dX10_ends_3 (by decide +kernel) ?_
    refine g_ldc2 (v := lN 60) dX10_ends_4 q2284 ?_
    refine m_cSi (ct_within _ _ _) hsX10_within hyX10_within rfl ⟨Nat.le_of_ble_eq_true rfl, Nat.le_of_ble_eq_true rfl⟩ ⟨Nat.zero_le _, Nat.zero_le _⟩ rfl (Nat.le_of_ble_eq_true rfl) dX10_ends_7 (fun r u9 hp => ?_)
    obtain rfl := hp
    refine GG.topi (y := nI 1) (by rw [show wIn (lN x) (lN 1) (lN 60) = true from decide_eq_true (by rw [lN_toInt (by omega), lN_toInt (by omega), lN_toInt (by omega)]; omega)]; rfl) ?_
    refine g_if_eq_n (tgt := 30) dX10_ends_10 (by decide) (by decide) (fun h => absurd h (by decide)) (fun _ => ?_)
    refine g_iload_n 2 dX10_ends_13 rfl rfl ?_
    refine g_i2l_n dX10_ends_14 (by omega) ?_
    refine g_iload_n 1 dX10_ends_15 rfl rfl ?_
    refine g_i2l_n dX10_ends_16 (by omega) ?_
    refine g_ldc2 (v := lN 60) dX10_ends_17 q2284 ?_
    refine m_cSi (ct_within _ _ _) hsX10_within hyX10_within rfl ⟨Nat.le_of_ble_eq_true rfl, Nat.le_of_ble_eq_true rfl⟩ ⟨Nat.zero_le _, Nat.zero_le _⟩ rfl (Nat.le_of_ble_eq_true rfl) dX10_ends_20 (fun r u9 hp => ?_)
    obtain rfl := hp
    refine GG.topi (y := nI 1) (by rw [show wIn (lN y) (lN x) (lN 60) = true from decide_eq_true (by rw [lN_toInt (by omega), lN_toInt (by omega), lN_toInt (by omega)]; omega)]; rfl) ?_
    refine g_if_eq_n (tgt := 30) dX10_ends_23 (by decide) (by decide) (fun h => absurd h (by decide)) (fun _ => ?_)
    refine g_iconst (v := nI 0) dX10_ends_26 (by decide +kernel) ?_
    refine g_goto (tgt := 31) dX10_ends_27 (by decide) ?_
    refine m_put_thrown dX10_ends_31 ?_
    refine g_aload_n 0 dX10_ends_34 rfl rfl ?_
    refine m_get_thrown dX10_ends_35 ?_
    refine g_if_le_n (tgt := 45) dX10_ends_38 (by decide) (by decide) (fun _ => ?_) (fun h => absurd h (by decide))
    refine g_aload_n 0 dX10_ends_45 rfl rfl ?_
    refine g_iload_n 1 dX10_ends_46 rfl rfl ?_
    refine g_iload_n 2 dX10_ends_47 rfl rfl ?_
    refine m_cVi (ct_leftWith T _ _ hK (by omega) (by omega) (by omega)) hvX10_leftWith hyX10_leftWith rfl ⟨Nat.le_of_ble_eq_true rfl, Nat.le_of_ble_eq_true rfl⟩ ⟨Nat.zero_le _, Nat.zero_le _⟩ rfl (Nat.le_of_ble_eq_true rfl) dX10_ends_48 m_rec (fun r ul hr7 => ?_)
    obtain ⟨heapsL, rowsZ, xsL, ysL, pairsL⟩ := ul
    dsimp only
    obtain rfl := hr7
    exact g_iret (_, _, _, _, _, _, _) dX10_ends_51 (Nat.le_refl _) (Nat.le_refl _) (by exact ansT (by unfold aEnds; rw [nI_toInt (by omega), nI_toInt (by omega), if_pos ⟨by omega, by omega, by omega, by omega⟩, nI_clamp (by omega), nI_clamp (by omega)]) rfl) (fun _ h => h)
  · skip
    by_cases hin2 : 1 ≤ a0.toInt ∧ a0.toInt ≤ 60
    · skip
      refine g_aload_n 0 dX10_ends_0 rfl rfl ?_
      refine g_iload_n 1 dX10_ends_1 rfl rfl ?_
      refine g_i2l dX10_ends_2 rfl ?_
      refine g_lconst (v := lN 1) dX10_ends_3 (by decide +kernel) ?_
      refine g_ldc2 (v := lN 60) dX10_ends_4 q2284 ?_
      refine m_cSi (ct_within _ _ _) hsX10_within hyX10_within rfl ⟨Nat.le_of_ble_eq_true rfl, Nat.le_of_ble_eq_true rfl⟩ ⟨Nat.zero_le _, Nat.zero_le _⟩ rfl (Nat.le_of_ble_eq_true rfl) dX10_ends_7 (fun r u9 hp => ?_)
      obtain rfl := hp
      refine GG.topi (y := nI 1) (by rw [show wIn a0.toInt64 (lN 1) (lN 60) = true from decide_eq_true (by rw [i2l_int, lN_toInt (by decide), lN_toInt (by decide)]; omega)]; rfl) ?_
      refine g_if_eq_n (tgt := 30) dX10_ends_10 (by decide) (by decide) (fun h => absurd h (by decide)) (fun _ => ?_)
      refine g_iload_n 2 dX10_ends_13 rfl rfl ?_
      refine g_i2l dX10_ends_14 rfl ?_
      refine g_iload_n 1 dX10_ends_15 rfl rfl ?_
      refine g_i2l dX10_ends_16 rfl ?_
      refine g_ldc2 (v := lN 60) dX10_ends_17 q2284 ?_
      refine m_cSi (ct_within _ _ _) hsX10_within hyX10_within rfl ⟨Nat.le_of_ble_eq_true rfl, Nat.le_of_ble_eq_true rfl⟩ ⟨Nat.zero_le _, Nat.zero_le _⟩ rfl (Nat.le_of_ble_eq_true rfl) dX10_ends_20 (fun r u9 hp => ?_)
      obtain rfl := hp
      refine GG.topi (y := nI 0) (by rw [show wIn b0.toInt64 a0.toInt64 (lN 60) = false from decide_eq_false (by rw [i2l_int, i2l_int, lN_toInt (by decide)]; omega)]; rfl) ?_
      refine g_if_eq_n (tgt := 30) dX10_ends_23 (by decide) (by decide) (fun _ => ?_) (fun h => absurd h (by decide))
      refine g_iconst (v := nI 1) dX10_ends_30 (by decide +kernel) ?_
      refine m_put_thrown dX10_ends_31 ?_
      refine g_aload_n 0 dX10_ends_34 rfl rfl ?_
      refine m_get_thrown dX10_ends_35 ?_
      refine g_if_le_n (tgt := 45) dX10_ends_38 (by decide) (by decide) (fun h => absurd h (by decide)) (fun _ => ?_)
      refine g_iconst (v := nI 0) dX10_ends_41 (by decide +kernel) ?_
      refine g_goto (tgt := 51) dX10_ends_42 (by decide) ?_
      exact g_iret (_, _, _, _, _, _, _) dX10_ends_51 (Nat.le_refl _) (Nat.le_refl _) (by exact ansF (by unfold aEnds; rw [if_neg hin]) (Nat.succ_ne_zero _)) (fun _ h => h)
    · skip
      refine g_aload_n 0 dX10_ends_0 rfl rfl ?_
      refine g_iload_n 1 dX10_ends_1 rfl rfl ?_
      refine g_i2l dX10_ends_2 rfl ?_
      refine g_lconst (v := lN 1) dX10_ends_3 (by decide +kernel) ?_
      refine g_ldc2 (v := lN 60) dX10_ends_4 q2284 ?_
      refine m_cSi (ct_within _ _ _) hsX10_within hyX10_within rfl ⟨Nat.le_of_ble_eq_true rfl, Nat.le_of_ble_eq_true rfl⟩ ⟨Nat.zero_le _, Nat.zero_le _⟩ rfl (Nat.le_of_ble_eq_true rfl) dX10_ends_7 (fun r u9 hp => ?_)
      obtain rfl := hp
      refine GG.topi (y := nI 0) (by rw [show wIn a0.toInt64 (lN 1) (lN 60) = false from decide_eq_false (by rw [i2l_int, lN_toInt (by decide), lN_toInt (by decide)]; omega)]; rfl) ?_
      refine g_if_eq_n (tgt := 30) dX10_ends_10 (by decide) (by decide) (fun _ => ?_) (fun h => absurd h (by decide))
      refine g_iconst (v := nI 1) dX10_ends_30 (by decide +kernel) ?_
      refine m_put_thrown dX10_ends_31 ?_
      refine g_aload_n 0 dX10_ends_34 rfl rfl ?_
      refine m_get_thrown dX10_ends_35 ?_
      refine g_if_le_n (tgt := 45) dX10_ends_38 (by decide) (by decide) (fun h => absurd h (by decide)) (fun _ => ?_)
      refine g_iconst (v := nI 0) dX10_ends_41 (by decide +kernel) ?_
      refine g_goto (tgt := 51) dX10_ends_42 (by decide) ?_
      exact g_iret (_, _, _, _, _, _, _) dX10_ends_51 (Nat.le_refl _) (Nat.le_refl _) (by exact ansF (by unfold aEnds; rw [if_neg hin]) (Nat.succ_ne_zero _)) (fun _ h => h)
set_option maxHeartbeats 4000000 in
/-- up to which number just one is left -/
theorem ct_upTo (T : Talk) (wh : Int32) (hK : KIs known T) : CT l D cl tys yX10_upTo cX10_upTo 4 (some .int) ({ frames := 89, cells := 0, slots := 0, locals := 2615 } : Room) [.ref (ma 0), .int wh] (HM D cl tys mi cI cJ cZ ma known fresh_ saved images isImage thrown tape taped size_ at_ begin_ token value open_ bad badPlace faultKind faultPlace xs ys pairs rows top heaps endsBehind path order firstOrder ordersMany tSort tMany numbers) (Qi (fun (v : Int32) (u : Nat × (Nat → Nat) × (Nat → Nat) × Nat × (Nat → Int64) × Nat × (Nat → Nat)) => isUpTo T wh u.1 v) (fun (u : Nat × (Nat → Nat) × (Nat → Nat) × Nat × (Nat → Int64) × Nat × (Nat → Nat)) => HM D cl tys mi cI cJ cZ ma known fresh_ saved images isImage u.1 tape taped size_ at_ begin_ token value open_ bad badPlace faultKind faultPlace u.2.1 u.2.2.1 u.2.2.2.1 u.2.2.2.2.1 u.2.2.2.2.2.1 u.2.2.2.2.2.2 endsBehind path order firstOrder ordersMany tSort tMany numbers) (AM ma)) (AM ma) := by
  obtain ⟨⟨o1, o2, o3, o4, o5, o6, o7, o8, o9, o10⟩, k0, k1, k2, k3, k4, k5, k6, k7, k8⟩ := id hK
  refine CT.of (L := [(0, .ref (ma 0)), (1, .int wh)]) rfl (by decide +kernel) rfl (Nat.le_of_ble_eq_true rfl) ?_
  rcases iR2 wh with e | e | ⟨e0, e1, e2⟩
  · skip
    subst e
    refine g_aload_n 0 dX10_upTo_0 rfl rfl ?_
    refine g_iload_n 1 dX10_upTo_1 rfl rfl ?_
    refine g_i2l_n dX10_upTo_2 (by omega) ?_
    refine g_lconst (v := lN 0) dX10_upTo_3 (by decide +kernel) ?_
    refine g_lconst (v := lN 1) dX10_upTo_4 (by decide +kernel) ?_
    refine m_cSi (ct_within _ _ _) hsX10_within hyX10_within rfl ⟨Nat.le_of_ble_eq_true rfl, Nat.le_of_ble_eq_true rfl⟩ ⟨Nat.zero_le _, Nat.zero_le _⟩ rfl (Nat.le_of_ble_eq_true rfl) dX10_upTo_5 (fun r u9 hp => ?_)
    obtain rfl := hp
    refine GG.topi (y := nI 1) (by decide +kernel) ?_
    refine g_if_eq_n (tgt := 15) dX10_upTo_8 (by decide) (by decide) (fun h => absurd h (by decide)) (fun _ => ?_)
    refine g_iconst (v := nI 0) dX10_upTo_11 (by decide +kernel) ?_
    refine g_goto (tgt := 16) dX10_upTo_12 (by decide) ?_
    refine m_put_thrown dX10_upTo_16 ?_
    refine g_aload_n 0 dX10_upTo_19 rfl rfl ?_
    refine m_get_thrown dX10_upTo_20 ?_
    refine g_if_le_n (tgt := 28) dX10_upTo_23 (by decide) (by decide) (fun _ => ?_) (fun h => absurd h (by decide))
    refine g_iconst (v := -1) dX10_upTo_28 (by decide +kernel) ?_
    refine g_istore_n (L' := [(0, _), (1, _), (2, _)]) 2 dX10_upTo_29 rfl (by decide) rfl rfl ?_
    refine g_aload_n 0 dX10_upTo_30 rfl rfl ?_
    refine m_get_known dX10_upTo_31 ?_
    refine g_iconst (v := nI 1) dX10_upTo_34 (by decide +kernel) ?_
    refine m_ld_known dX10_upTo_35 (by omega) ?_
    refine GG.topi k1 ?_
    refine g_istore_n (L' := [(0, _), (1, _), (2, _), (3, _)]) 3 dX10_upTo_36 rfl (by decide) rfl rfl ?_
    have loop37 : ∀ (q37 : Nat) (h : Nat) (b : Int32) (hp1 : Nat → Nat) (rw1 : Nat → Int64) (xs1 ys1 : Nat → Nat) (pr1 tp1 : Nat), 61 - h < q37 → (tLow T ≤ h) → (h ≤ 61) → (b = -1) → (∀ g, tLow T ≤ g → g < h → ¬ leftN (tLH T (tLow T) g) (tNT T) = 1) → GG l D cl tys cX10_upTo 4 (some .int) RX10 ({ frames := 89, cells := 0, slots := 0, locals := 2615 } : Room) (AM ma) MT (QM (Qi (fun (v : Int32) (u : Nat × (Nat → Nat) × (Nat → Nat) × Nat × (Nat → Int64) × Nat × (Nat → Nat)) => isUpTo T (nI 0) u.1 v) (fun (u : Nat × (Nat → Nat) × (Nat → Nat) × Nat × (Nat → Int64) × Nat × (Nat → Nat)) => HM D cl tys mi cI cJ cZ ma known fresh_ saved images isImage u.1 tape taped size_ at_ begin_ token value open_ bad badPlace faultKind faultPlace u.2.1 u.2.2.1 u.2.2.2.1 u.2.2.2.2.1 u.2.2.2.2.2.1 u.2.2.2.2.2.2 endsBehind path order firstOrder ordersMany tSort tMany numbers) (AM ma)) 0 0 (AM ma)) (HM D cl tys mi cI cJ cZ ma known fresh_ saved images isImage 0 tape taped size_ at_ begin_ token value open_ bad badPlace faultKind faultPlace xs1 ys1 pr1 rw1 tp1 hp1 endsBehind path order firstOrder ordersMany tSort tMany numbers) 0 0 37 [(0, .ref (ma 0)), (1, .int (nI 0)), (2, .int b), (3, .int (nI h))] [] := by
      intro q37
      induction q37 with
      | zero => intro h b hp1 rw1 xs1 ys1 pr1 tp1 hq37; exact absurd hq37 (Nat.not_lt_zero _)
      | succ q37 ih37 =>
        intro h b hp1 rw1 xs1 ys1 pr1 tp1 hq37 hh1 hh2 hb hno
        refine g_iload_n 3 dX10_upTo_37 rfl rfl ?_
        refine g_bipush (v := nI 60) dX10_upTo_38 (by decide +kernel) ?_
        refine g_icmp_gt_n (tgt := 75) dX10_upTo_40 (by decide) (by omega) (by omega) (fun c40 => ?_) (fun c40 => ?_)
        · skip
          refine g_iload_n 2 dX10_upTo_75 rfl rfl ?_
          exact g_iret (_, _, _, _, _, _, _) dX10_upTo_76 (Nat.le_refl _) (Nat.le_refl _) (by unfold isUpTo; rw [if_pos (show nI 0 = (0 : Int32) from rfl)]; exact ⟨rfl, Or.inr ⟨fun g g1 g2 => hno g g1 (by omega), hb⟩⟩) (fun _ h => h)
        · skip
          refine g_aload_n 0 dX10_upTo_43 rfl rfl ?_
          refine g_aload_n 0 dX10_upTo_44 rfl rfl ?_
          refine m_get_known dX10_upTo_45 ?_
          refine g_iconst (v := nI 1) dX10_upTo_48 (by decide +kernel) ?_
          refine m_ld_known dX10_upTo_49 (by omega) ?_
          refine GG.topi k1 ?_
          refine g_iload_n 3 dX10_upTo_50 rfl rfl ?_
          refine m_cVi (ct_leftWith T _ _ hK (by omega) (by omega) (by omega)) hvX10_leftWith hyX10_leftWith rfl ⟨Nat.le_of_ble_eq_true rfl, Nat.le_of_ble_eq_true rfl⟩ ⟨Nat.zero_le _, Nat.zero_le _⟩ rfl (Nat.le_of_ble_eq_true rfl) dX10_upTo_51 m_rec (fun r ul hr7 => ?_)
          obtain ⟨heapsL, rowsZ, xsL, ysL, pairsL⟩ := ul
          dsimp only
          obtain rfl := hr7
          refine g_iconst (v := nI 1) dX10_upTo_54 (by decide +kernel) ?_
          refine g_icmp_eq_n (tgt := 61) dX10_upTo_55 (by decide) (by have := leftN_le (tLH T (tLow T) h) (tNT T); have := wList_len (mo := tMost T) (u := tUn T) o1 (show h ≤ 60 by omega); have h7 : tP (tLH T (tLow T) h) = (wList (tLow T) h (tMost T) (tUn T)).length := rfl; omega) (by omega) (fun c55 => ?_) (fun c55 => ?_)
          · skip
            refine g_iload_n 3 dX10_upTo_61 rfl rfl ?_
            refine g_istore_n (L' := [(0, _), (1, _), (2, _), (3, _)]) 2 dX10_upTo_62 rfl (by decide) rfl rfl ?_
            refine g_iload_n 1 dX10_upTo_63 rfl rfl ?_
            refine g_if_ne_n (tgt := 69) dX10_upTo_64 (by decide) (by decide) (fun h => absurd h (by decide)) (fun _ => ?_)
            refine g_iload_n 2 dX10_upTo_67 rfl rfl ?_
            exact g_iret (_, _, _, _, _, _, _) dX10_upTo_68 (Nat.le_refl _) (Nat.le_refl _) (by unfold isUpTo; rw [if_pos (show nI 0 = (0 : Int32) from rfl)]; exact ⟨rfl, Or.inl ⟨h, hh1, by omega, c55, hno, rfl⟩⟩) (fun _ h => h)
          · skip
            refine g_goto (tgt := 69) dX10_upTo_58 (by decide) ?_
            refine g_iinc_n (b := 1) (L' := [(0, _), (1, _), (2, _), (3, _)]) dX10_upTo_69 rfl rfl (by decide) rfl rfl ?_
            refine g_goto (tgt := 37) dX10_upTo_72 (by decide) ?_
            refine ih37 (h + 1) _ _ _ _ _ _ _ (by omega) (by omega) (by omega) hb (fun g g1 g2 => ?_)
            rcases Nat.lt_succ_iff_lt_or_eq.mp g2 with q | q
            · exact hno g g1 q
            · rw [q]; exact c55
    exact loop37 62 (tLow T) (-1) _ _ _ _ _ _ (by omega) (by omega) (by omega) rfl (fun g g1 g2 => absurd g2 (by omega))
  · skip
    subst e
    refine g_aload_n 0 dX10_upTo_0 rfl rfl ?_
    refine g_iload_n 1 dX10_upTo_1 rfl rfl ?_
    refine g_i2l_n dX10_upTo_2 (by omega) ?_
    refine g_lconst (v := lN 0) dX10_upTo_3 (by decide +kernel) ?_
    refine g_lconst (v := lN 1) dX10_upTo_4 (by decide +kernel) ?_
    refine m_cSi (ct_within _ _ _) hsX10_within hyX10_within rfl ⟨Nat.le_of_ble_eq_true rfl, Nat.le_of_ble_eq_true rfl⟩ ⟨Nat.zero_le _, Nat.zero_le _⟩ rfl (Nat.le_of_ble_eq_true rfl) dX10_upTo_5 (fun r u9 hp => ?_)
    obtain rfl := hp
    refine GG.topi (y := nI 1) (by decide +kernel) ?_
    refine g_if_eq_n (tgt := 15) dX10_upTo_8 (by decide) (by decide) (fun h => absurd h (by decide)) (fun _ => ?_)
    refine g_iconst (v := nI 0) dX10_upTo_11 (by decide +kernel) ?_
    refine g_goto (tgt := 16) dX10_upTo_12 (by decide) ?_
    refine m_put_thrown dX10_upTo_16 ?_
    refine g_aload_n 0 dX10_upTo_19 rfl rfl ?_
    refine m_get_thrown dX10_upTo_20 ?_
    refine g_if_le_n (tgt := 28) dX10_upTo_23 (by decide) (by decide) (fun _ => ?_) (fun h => absurd h (by decide))
    refine g_iconst (v := -1) dX10_upTo_28 (by decide +kernel) ?_
    refine g_istore_n (L' := [(0, _), (1, _), (2, _)]) 2 dX10_upTo_29 rfl (by decide) rfl rfl ?_
    refine g_aload_n 0 dX10_upTo_30 rfl rfl ?_
    refine m_get_known dX10_upTo_31 ?_
    refine g_iconst (v := nI 1) dX10_upTo_34 (by decide +kernel) ?_
    refine m_ld_known dX10_upTo_35 (by omega) ?_
    refine GG.topi k1 ?_
    refine g_istore_n (L' := [(0, _), (1, _), (2, _), (3, _)]) 3 dX10_upTo_36 rfl (by decide) rfl rfl ?_
    have loop37 : ∀ (q37 : Nat) (h : Nat) (b : Int32) (hp1 : Nat → Nat) (rw1 : Nat → Int64) (xs1 ys1 : Nat → Nat) (pr1 tp1 : Nat), 61 - h < q37 → (tLow T ≤ h) → (h ≤ 61) → ((∃ y, tLow T ≤ y ∧ y < h ∧ leftN (tLH T (tLow T) y) (tNT T) = 1 ∧ (∀ g, y < g → g < h → ¬ leftN (tLH T (tLow T) g) (tNT T) = 1) ∧ b = nI y) ∨ ((∀ g, tLow T ≤ g → g < h → ¬ leftN (tLH T (tLow T) g) (tNT T) = 1) ∧ b = -1)) → GG l D cl tys cX10_upTo 4 (some .int) RX10 ({ frames := 89, cells := 0, slots := 0, locals := 2615 } : Room) (AM ma) MT (QM (Qi (fun (v : Int32) (u : Nat × (Nat → Nat) × (Nat → Nat) × Nat × (Nat → Int64) × Nat × (Nat → Nat)) => isUpTo T (nI 1) u.1 v) (fun (u : Nat × (Nat → Nat) × (Nat → Nat) × Nat × (Nat → Int64) × Nat × (Nat → Nat)) => HM D cl tys mi cI cJ cZ ma known fresh_ saved images isImage u.1 tape taped size_ at_ begin_ token value open_ bad badPlace faultKind faultPlace u.2.1 u.2.2.1 u.2.2.2.1 u.2.2.2.2.1 u.2.2.2.2.2.1 u.2.2.2.2.2.2 endsBehind path order firstOrder ordersMany tSort tMany numbers) (AM ma)) 0 0 (AM ma)) (HM D cl tys mi cI cJ cZ ma known fresh_ saved images isImage 0 tape taped size_ at_ begin_ token value open_ bad badPlace faultKind faultPlace xs1 ys1 pr1 rw1 tp1 hp1 endsBehind path order firstOrder ordersMany tSort tMany numbers) 0 0 37 [(0, .ref (ma 0)), (1, .int (nI 1)), (2, .int b), (3, .int (nI h))] [] := by
      intro q37
      induction q37 with
      | zero => intro h b hp1 rw1 xs1 ys1 pr1 tp1 hq37; exact absurd hq37 (Nat.not_lt_zero _)
      | succ q37 ih37 =>
        intro h b hp1 rw1 xs1 ys1 pr1 tp1 hq37 hh1 hh2 hb
        refine g_iload_n 3 dX10_upTo_37 rfl rfl ?_
        refine g_bipush (v := nI 60) dX10_upTo_38 (by decide +kernel) ?_
        refine g_icmp_gt_n (tgt := 75) dX10_upTo_40 (by decide) (by omega) (by omega) (fun c40 => ?_) (fun c40 => ?_)
        · skip
          refine g_iload_n 2 dX10_upTo_75 rfl rfl ?_
          exact g_iret (_, _, _, _, _, _, _) dX10_upTo_76 (Nat.le_refl _) (Nat.le_refl _) (by unfold isUpTo; rw [if_neg nI_1ne0, if_pos (show nI 1 = (1 : Int32) from rfl)]; exact ⟨rfl, hb.elim (fun ⟨y, y1, y2, y3, y4, y5⟩ => Or.inl ⟨y, y1, by omega, y3, fun g g1 g2 => y4 g g1 (by omega), y5⟩) (fun ⟨y1, y2⟩ => Or.inr ⟨fun g g1 g2 => y1 g g1 (by omega), y2⟩)⟩) (fun _ h => h)
        · skip
          refine g_aload_n 0 dX10_upTo_43 rfl rfl ?_
          refine g_aload_n 0 dX10_upTo_44 rfl rfl ?_
          refine m_get_known dX10_upTo_45 ?_
          refine g_iconst (v := nI 1) dX10_upTo_48 (by decide +kernel) ?_
          refine m_ld_known dX10_upTo_49 (by omega) ?_
          refine GG.topi k1 ?_
          refine g_iload_n 3 dX10_upTo_50 rfl rfl ?_
          refine m_cVi (ct_leftWith T _ _ hK (by omega) (by omega) (by omega)) hvX10_leftWith hyX10_leftWith rfl ⟨Nat.le_of_ble_eq_true rfl, Nat.le_of_ble_eq_true rfl⟩ ⟨Nat.zero_le _, Nat.zero_le _⟩ rfl (Nat.le_of_ble_eq_true rfl) dX10_upTo_51 m_rec (fun r ul hr7 => ?_)
          obtain ⟨heapsL, rowsZ, xsL, ysL, pairsL⟩ := ul
          dsimp only
          obtain rfl := hr7
          refine g_iconst (v := nI 1) dX10_upTo_54 (by decide +kernel) ?_
          refine g_icmp_eq_n (tgt := 61) dX10_upTo_55 (by decide) (by have := leftN_le (tLH T (tLow T) h) (tNT T); have := wList_len (mo := tMost T) (u := tUn T) o1 (show h ≤ 60 by omega); have h7 : tP (tLH T (tLow T) h) = (wList (tLow T) h (tMost T) (tUn T)).length := rfl; omega) (by omega) (fun c55 => ?_) (fun c55 => ?_)
          · skip
            refine g_iload_n 3 dX10_upTo_61 rfl rfl ?_
            refine g_istore_n (L' := [(0, _), (1, _), (2, _), (3, _)]) 2 dX10_upTo_62 rfl (by decide) rfl rfl ?_
            refine g_iload_n 1 dX10_upTo_63 rfl rfl ?_
            refine g_if_ne_n (tgt := 69) dX10_upTo_64 (by decide) (by decide) (fun _ => ?_) (fun h => absurd h (by decide))
            refine g_iinc_n (b := 1) (L' := [(0, _), (1, _), (2, _), (3, _)]) dX10_upTo_69 rfl rfl (by decide) rfl rfl ?_
            refine g_goto (tgt := 37) dX10_upTo_72 (by decide) ?_
            refine ih37 (h + 1) _ _ _ _ _ _ _ (by clear hb; omega) (by clear hb; omega) (by clear hb; omega) ?_
            first
              | exact Or.inl ⟨h, hh1, by omega, c55, fun g g1 g2 => absurd g2 (by omega), rfl⟩
              | exact hb.elim (fun ⟨y, y1, y2, y3, y4, y5⟩ => Or.inl ⟨y, y1, by omega, y3, fun g g1 g2 => (Nat.lt_succ_iff_lt_or_eq.mp g2).elim (fun q => y4 g g1 q) (fun q => by rw [q]; exact c55), y5⟩) (fun ⟨y1, y2⟩ => Or.inr ⟨fun g g1 g2 => (Nat.lt_succ_iff_lt_or_eq.mp g2).elim (fun q => y1 g g1 q) (fun q => by rw [q]; exact c55), y2⟩)
          · skip
            refine g_goto (tgt := 69) dX10_upTo_58 (by decide) ?_
            refine g_iinc_n (b := 1) (L' := [(0, _), (1, _), (2, _), (3, _)]) dX10_upTo_69 rfl rfl (by decide) rfl rfl ?_
            refine g_goto (tgt := 37) dX10_upTo_72 (by decide) ?_
            refine ih37 (h + 1) _ _ _ _ _ _ _ (by clear hb; omega) (by clear hb; omega) (by clear hb; omega) ?_
            first
              | exact Or.inl ⟨h, hh1, by omega, c55, fun g g1 g2 => absurd g2 (by omega), rfl⟩
              | exact hb.elim (fun ⟨y, y1, y2, y3, y4, y5⟩ => Or.inl ⟨y, y1, by omega, y3, fun g g1 g2 => (Nat.lt_succ_iff_lt_or_eq.mp g2).elim (fun q => y4 g g1 q) (fun q => by rw [q]; exact c55), y5⟩) (fun ⟨y1, y2⟩ => Or.inr ⟨fun g g1 g2 => (Nat.lt_succ_iff_lt_or_eq.mp g2).elim (fun q => y1 g g1 q) (fun q => by rw [q]; exact c55), y2⟩)
    exact loop37 62 (tLow T) (-1) _ _ _ _ _ _ (by omega) (by omega) (by omega) (Or.inr ⟨fun g g1 g2 => absurd g2 (by omega), rfl⟩)
  · skip
    refine g_aload_n 0 dX10_upTo_0 rfl rfl ?_
    refine g_iload_n 1 dX10_upTo_1 rfl rfl ?_
    refine g_i2l dX10_upTo_2 rfl ?_
    refine g_lconst (v := lN 0) dX10_upTo_3 (by decide +kernel) ?_
    refine g_lconst (v := lN 1) dX10_upTo_4 (by decide +kernel) ?_
    refine m_cSi (ct_within _ _ _) hsX10_within hyX10_within rfl ⟨Nat.le_of_ble_eq_true rfl, Nat.le_of_ble_eq_true rfl⟩ ⟨Nat.zero_le _, Nat.zero_le _⟩ rfl (Nat.le_of_ble_eq_true rfl) dX10_upTo_5 (fun r u9 hp => ?_)
    obtain rfl := hp
    refine GG.topi (y := nI 0) (by rw [wIn_0 wh (by decide) e2]; rfl) ?_
    refine g_if_eq_n (tgt := 15) dX10_upTo_8 (by decide) (by decide) (fun _ => ?_) (fun h => absurd h (by decide))
    refine g_iconst (v := nI 1) dX10_upTo_15 (by decide +kernel) ?_
    refine m_put_thrown dX10_upTo_16 ?_
    refine g_aload_n 0 dX10_upTo_19 rfl rfl ?_
    refine m_get_thrown dX10_upTo_20 ?_
    refine g_if_le_n (tgt := 28) dX10_upTo_23 (by decide) (by decide) (fun h => absurd h (by decide)) (fun _ => ?_)
    refine g_iconst (v := nI 0) dX10_upTo_26 (by decide +kernel) ?_
    exact g_iret (_, _, _, _, _, _, _) dX10_upTo_27 (Nat.le_refl _) (Nat.le_refl _) (by unfold isUpTo; rw [if_neg e0, if_neg e1]) (fun _ h => h)
set_option maxHeartbeats 4000000 in
/-- a row behind an answer -/
theorem ct_laysAnswers (s0 b0 r0 kd : Nat) (kb : Bool) (hs : s0 < 600) (hk : known (8 + 3 * s0 + 0) = nI kd) (hkd : kd < 2 ^ 31) (hb : b0 < 85) (hr : r0 < 85) (hne : ¬ b0 = r0) (hW : wOK pairs xs ys) : CT l D cl tys yX10_laysAnswers cX10_laysAnswers 6 none ({ frames := 4, cells := 0, slots := 0, locals := 94 } : Room) [.ref (ma 0), .int (nI s0), .int (nI b0), .int (bI kb), .int (nI r0)] (HM D cl tys mi cI cJ cZ ma known fresh_ saved images isImage thrown tape taped size_ at_ begin_ token value open_ bad badPlace faultKind faultPlace xs ys pairs rows top heaps endsBehind path order firstOrder ordersMany tSort tMany numbers) (Qv (fun (u : (Nat → Nat) × (Nat → Int64)) => rowsUp rows u.2 r0 pairs (ansW pairs (slW kd xs ys) (rbt rows b0) kb)) (fun (u : (Nat → Nat) × (Nat → Int64)) => HM D cl tys mi cI cJ cZ ma known fresh_ saved images isImage thrown tape taped size_ at_ begin_ token value open_ bad badPlace faultKind faultPlace xs ys pairs u.2 top u.1 endsBehind path order firstOrder ordersMany tSort tMany numbers) (AM ma)) (AM ma) := by
  have hP : pairs ≤ 1830 := hW.1
  refine CT.of (L := [(0, .ref (ma 0)), (1, .int (nI s0)), (2, .int (nI b0)), (3, .int (bI kb)), (4, .int (nI r0))]) rfl (by decide +kernel) rfl (Nat.le_of_ble_eq_true rfl) ?_
  refine g_aload_n 0 dX10_laysAnswers_0 rfl rfl ?_
  refine g_iload_n 1 dX10_laysAnswers_1 rfl rfl ?_
  refine g_iload_n 2 dX10_laysAnswers_2 rfl rfl ?_
  refine g_iload dX10_laysAnswers_3 rfl ?_
  refine m_cVv (ct_laysKnowing _ _ _ kd (by omega) hk hkd (by omega) (by omega) (by omega) hW) hvX10_laysKnowing hyX10_laysKnowing rfl ⟨Nat.le_of_ble_eq_true rfl, Nat.le_of_ble_eq_true rfl⟩ ⟨Nat.zero_le _, Nat.zero_le _⟩ rfl (Nat.le_of_ble_eq_true rfl) dX10_laysAnswers_5 m_rec (fun u3 hk3 => ?_)
  obtain ⟨heaps3, rows3⟩ := u3
  dsimp only
  refine g_iconst (v := nI 0) dX10_laysAnswers_8 (by decide +kernel) ?_
  refine g_istore (L' := [(0, _), (1, _), (2, _), (3, _), (4, _), (5, _)]) dX10_laysAnswers_9 (by decide) rfl rfl ?_
  have loop11 : ∀ (q11 : Nat) (w : Nat) (rows1 : Nat → Int64), pairs - w < q11 → (w ≤ pairs) → (rowsUp rows3 rows1 r0 w (fun v => rbt rows3 b0 v && decide (rbt rows3 r0 v = kb))) → GG l D cl tys cX10_laysAnswers 6 none RX10 ({ frames := 4, cells := 0, slots := 0, locals := 94 } : Room) (AM ma) MT (QM (Qv (fun (u : (Nat → Nat) × (Nat → Int64)) => rowsUp rows u.2 r0 pairs (ansW pairs (slW kd xs ys) (rbt rows b0) kb)) (fun (u : (Nat → Nat) × (Nat → Int64)) => HM D cl tys mi cI cJ cZ ma known fresh_ saved images isImage thrown tape taped size_ at_ begin_ token value open_ bad badPlace faultKind faultPlace xs ys pairs u.2 top u.1 endsBehind path order firstOrder ordersMany tSort tMany numbers) (AM ma)) 0 0 (AM ma)) (HM D cl tys mi cI cJ cZ ma known fresh_ saved images isImage thrown tape taped size_ at_ begin_ token value open_ bad badPlace faultKind faultPlace xs ys pairs rows1 top heaps3 endsBehind path order firstOrder ordersMany tSort tMany numbers) 0 0 11 [(0, .ref (ma 0)), (1, .int (nI s0)), (2, .int (nI b0)), (3, .int (bI kb)), (4, .int (nI r0)), (5, .int (nI w))] [] := by
    intro q11
    induction q11 with
    | zero => intro w rows1 hq11; exact absurd hq11 (Nat.not_lt_zero _)
    | succ q11 ih11 =>
      intro w rows1 hq11 hw hi
      refine g_iload dX10_laysAnswers_11 rfl ?_
      refine g_aload_n 0 dX10_laysAnswers_13 rfl rfl ?_
      refine m_get_pairs dX10_laysAnswers_14 ?_
      refine g_icmp_ge_n (tgt := 61) dX10_laysAnswers_17 (by decide) (by omega) (by omega) (fun c17 => ?_) (fun c17 => ?_)
      · skip
        exact g_vret (heaps3, rows1) dX10_laysAnswers_61 (Nat.le_refl _) (Nat.le_refl _) (by have e9 : w = pairs := (by omega); rw [e9] at hi; refine rowsUp_trans hk3 (rowsUp_congr hi (fun v hv => ?_)); show (rbt rows3 b0 v && decide (rbt rows3 r0 v = kb)) = (rbt rows b0 v && _); rw [rowsUp_in hk3 hP hv, rowsUp_ne hk3 hne (by omega)]) (fun _ h => h)
      · skip
        refine g_aload_n 0 dX10_laysAnswers_20 rfl rfl ?_
        refine g_iload dX10_laysAnswers_21 rfl ?_
        refine g_iload dX10_laysAnswers_23 rfl ?_
        refine g_aload_n 0 dX10_laysAnswers_25 rfl rfl ?_
        refine g_iload_n 2 dX10_laysAnswers_26 rfl rfl ?_
        refine g_iload dX10_laysAnswers_27 rfl ?_
        refine m_cVi (ct_has _ _ (by omega) (by omega)) hvX10_has hyX10_has rfl ⟨Nat.le_of_ble_eq_true rfl, Nat.le_of_ble_eq_true rfl⟩ ⟨Nat.zero_le _, Nat.zero_le _⟩ rfl (Nat.le_of_ble_eq_true rfl) dX10_laysAnswers_29 m_rec (fun r u hp => ?_)
        obtain rfl := hp
        refine g_if_eq_b (tgt := 51) dX10_laysAnswers_32 (by decide) (fun c32 => ?_) (fun c32 => ?_)
        · skip
          refine g_iconst (v := nI 0) dX10_laysAnswers_51 (by decide +kernel) ?_
          refine m_cVv (ct_puts _ _ false (by omega) (by omega)) hvX10_puts hyX10_puts rfl ⟨Nat.le_of_ble_eq_true rfl, Nat.le_of_ble_eq_true rfl⟩ ⟨Nat.zero_le _, Nat.zero_le _⟩ rfl (Nat.le_of_ble_eq_true rfl) dX10_laysAnswers_52 m_rec (fun rows2 hp => ?_)
          refine g_iinc_n (b := 1) (L' := [(0, _), (1, _), (2, _), (3, _), (4, _), (5, _)]) dX10_laysAnswers_55 rfl rfl (by decide) rfl rfl ?_
          refine g_goto (tgt := 11) dX10_laysAnswers_58 (by decide) ?_
          have h8 : rbt rows1 b0 w = rbt rows3 b0 w := rowsUp_ne hi hne (by omega)
          have h7 : rbt rows1 r0 w = rbt rows3 r0 w := by rw [hi r0 w (by omega), if_neg (fun q => Nat.lt_irrefl _ q.2)]
          rw [h8] at c32
          refine ih11 (w + 1) rows2 (by omega) (by omega) (rowsUp_step hi hp ?_)
          show _ = (rbt rows3 b0 w && decide (rbt rows3 r0 w = kb))
          rw [c32, ← h7]
          first | rfl | (rw [decide_eq_true c44]; rfl) | (rw [decide_eq_false c44]; rfl)
        · skip
          refine g_aload_n 0 dX10_laysAnswers_35 rfl rfl ?_
          refine g_iload dX10_laysAnswers_36 rfl ?_
          refine g_iload dX10_laysAnswers_38 rfl ?_
          refine m_cVi (ct_has _ _ (by omega) (by omega)) hvX10_has hyX10_has rfl ⟨Nat.le_of_ble_eq_true rfl, Nat.le_of_ble_eq_true rfl⟩ ⟨Nat.zero_le _, Nat.zero_le _⟩ rfl (Nat.le_of_ble_eq_true rfl) dX10_laysAnswers_40 m_rec (fun r u hp => ?_)
          obtain rfl := hp
          refine g_iload_n 3 dX10_laysAnswers_43 rfl rfl ?_
          refine g_icmp_ne_b (tgt := 51) dX10_laysAnswers_44 (by decide) (fun c44 => ?_) (fun c44 => ?_)
          · skip
            refine g_iconst (v := nI 0) dX10_laysAnswers_51 (by decide +kernel) ?_
            refine m_cVv (ct_puts _ _ false (by omega) (by omega)) hvX10_puts hyX10_puts rfl ⟨Nat.le_of_ble_eq_true rfl, Nat.le_of_ble_eq_true rfl⟩ ⟨Nat.zero_le _, Nat.zero_le _⟩ rfl (Nat.le_of_ble_eq_true rfl) dX10_laysAnswers_52 m_rec (fun rows2 hp => ?_)
            refine g_iinc_n (b := 1) (L' := [(0, _), (1, _), (2, _), (3, _), (4, _), (5, _)]) dX10_laysAnswers_55 rfl rfl (by decide) rfl rfl ?_
            refine g_goto (tgt := 11) dX10_laysAnswers_58 (by decide) ?_
            have h8 : rbt rows1 b0 w = rbt rows3 b0 w := rowsUp_ne hi hne (by omega)
            have h7 : rbt rows1 r0 w = rbt rows3 r0 w := by rw [hi r0 w (by omega), if_neg (fun q => Nat.lt_irrefl _ q.2)]
            rw [h8] at c32
            refine ih11 (w + 1) rows2 (by omega) (by omega) (rowsUp_step hi hp ?_)
            show _ = (rbt rows3 b0 w && decide (rbt rows3 r0 w = kb))
            rw [c32, ← h7]
            first | rfl | (rw [decide_eq_true c44]; rfl) | (rw [decide_eq_false c44]; rfl)
          · skip
            refine g_iconst (v := nI 1) dX10_laysAnswers_47 (by decide +kernel) ?_
            refine g_goto (tgt := 52) dX10_laysAnswers_48 (by decide) ?_
            refine m_cVv (ct_puts _ _ true (by omega) (by omega)) hvX10_puts hyX10_puts rfl ⟨Nat.le_of_ble_eq_true rfl, Nat.le_of_ble_eq_true rfl⟩ ⟨Nat.zero_le _, Nat.zero_le _⟩ rfl (Nat.le_of_ble_eq_true rfl) dX10_laysAnswers_52 m_rec (fun rows2 hp => ?_)
            refine g_iinc_n (b := 1) (L' := [(0, _), (1, _), (2, _), (3, _), (4, _), (5, _)]) dX10_laysAnswers_55 rfl rfl (by decide) rfl rfl ?_
            refine g_goto (tgt := 11) dX10_laysAnswers_58 (by decide) ?_
            have h8 : rbt rows1 b0 w = rbt rows3 b0 w := rowsUp_ne hi hne (by omega)
            have h7 : rbt rows1 r0 w = rbt rows3 r0 w := by rw [hi r0 w (by omega), if_neg (fun q => Nat.lt_irrefl _ q.2)]
            rw [h8] at c32
            refine ih11 (w + 1) rows2 (by omega) (by omega) (rowsUp_step hi hp ?_)
            show _ = (rbt rows3 b0 w && decide (rbt rows3 r0 w = kb))
            rw [c32, ← h7]
            first | rfl | (rw [decide_eq_true c44]; rfl) | (rw [decide_eq_false c44]; rfl)
  exact loop11 (pairs + 1) 0 rows3 (by omega) (by omega) rowsUp_0
set_option maxHeartbeats 4000000 in
/-- goes on without knowing -/
theorem ct_mutes (T : Talk) (a0 b0 : Nat) (hK : KIs known T) (ha0 : a0 < tNS T) (hb0 : b0 < tNS T) : CT l D cl tys yX10_mutes cX10_mutes 10 (some .int) ({ frames := 5, cells := 0, slots := 0, locals := 119 } : Room) [.ref (ma 0), .int (nI a0), .int (nI b0)] (HM D cl tys mi cI cJ cZ ma known fresh_ saved images isImage thrown tape taped size_ at_ begin_ token value open_ bad badPlace faultKind faultPlace xs ys pairs rows top heaps endsBehind path order firstOrder ordersMany tSort tMany numbers) (Qi (fun (v : Int32) (u : (Nat → Nat) × (Nat → Int64) × (Nat → Nat) × (Nat → Nat) × Nat × (Nat → Int32)) => layd u.2.2.1 u.2.2.2.1 u.2.2.2.2.1 (tW T) ∧ ∃ K, muEnd T a0 b0 K ∧ K < 2 ^ 20 ∧ v = nI (cnt (muS T a0 b0 K) (tP T)) ∧ ∀ w, w < tP T → u.2.2.2.2.2 w = muWhen T a0 b0 K w) (fun (u : (Nat → Nat) × (Nat → Int64) × (Nat → Nat) × (Nat → Nat) × Nat × (Nat → Int32)) => HM D cl tys mi cI cJ cZ ma known fresh_ saved images isImage thrown tape taped size_ at_ begin_ token value open_ bad badPlace faultKind faultPlace u.2.2.1 u.2.2.2.1 u.2.2.2.2.1 u.2.1 top u.1 u.2.2.2.2.2 path order firstOrder ordersMany tSort tMany numbers) (AM ma)) (AM ma) := by
  obtain ⟨⟨o1, o2, o3, o4, o5, o6, o7, o8, o9, o10⟩, k0, k1, k2, k3, k4, k5, k6, k7, k8⟩ := id hK
  refine CT.of (L := [(0, .ref (ma 0)), (1, .int (nI a0)), (2, .int (nI b0))]) rfl (by decide +kernel) rfl (Nat.le_of_ble_eq_true rfl) ?_
  refine g_aload_n 0 dX10_mutes_0 rfl rfl ?_
  refine m_cVv (ct_layPairs (tLow T) (tHigh T) (tMost T) (tUn T) k1 k2 k3 k4 o1 o2 o3 o4 o5) hvX10_layPairs hyX10_layPairs rfl ⟨Nat.le_of_ble_eq_true rfl, Nat.le_of_ble_eq_true rfl⟩ ⟨Nat.zero_le _, Nat.zero_le _⟩ rfl (Nat.le_of_ble_eq_true rfl) dX10_mutes_1 m_rec (fun ul hld => ?_)
  obtain ⟨xsL, ysL, pairsL⟩ := ul
  dsimp only
  have hl : layd xsL ysL pairsL (tW T) := hld
  have hW := layd_OK hl o1 o3
  have hP : pairsL ≤ 1830 := hW.1
  have hPT : pairsL = tP T := hl.1
  refine g_iconst (v := nI 0) dX10_mutes_4 (by decide +kernel) ?_
  refine g_istore_n (L' := [(0, _), (1, _), (2, _), (3, _)]) 3 dX10_mutes_5 rfl (by decide) rfl rfl ?_
  have loop6 : ∀ (q6 : Nat) (w : Nat) (ends1 : Nat → Int32), pairsL - w < q6 → (w ≤ pairsL) → (∀ v, v < w → ends1 v = -1) → GG l D cl tys cX10_mutes 10 (some .int) RX10 ({ frames := 5, cells := 0, slots := 0, locals := 119 } : Room) (AM ma) MT (QM (Qi (fun (v : Int32) (u : (Nat → Nat) × (Nat → Int64) × (Nat → Nat) × (Nat → Nat) × Nat × (Nat → Int32)) => layd u.2.2.1 u.2.2.2.1 u.2.2.2.2.1 (tW T) ∧ ∃ K, muEnd T a0 b0 K ∧ K < 2 ^ 20 ∧ v = nI (cnt (muS T a0 b0 K) (tP T)) ∧ ∀ w, w < tP T → u.2.2.2.2.2 w = muWhen T a0 b0 K w) (fun (u : (Nat → Nat) × (Nat → Int64) × (Nat → Nat) × (Nat → Nat) × Nat × (Nat → Int32)) => HM D cl tys mi cI cJ cZ ma known fresh_ saved images isImage thrown tape taped size_ at_ begin_ token value open_ bad badPlace faultKind faultPlace u.2.2.1 u.2.2.2.1 u.2.2.2.2.1 u.2.1 top u.1 u.2.2.2.2.2 path order firstOrder ordersMany tSort tMany numbers) (AM ma)) 0 0 (AM ma)) (HM D cl tys mi cI cJ cZ ma known fresh_ saved images isImage thrown tape taped size_ at_ begin_ token value open_ bad badPlace faultKind faultPlace xsL ysL pairsL rows top heaps ends1 path order firstOrder ordersMany tSort tMany numbers) 0 0 6 [(0, .ref (ma 0)), (1, .int (nI a0)), (2, .int (nI b0)), (3, .int (nI w))] [] := by
    intro q6
    induction q6 with
    | zero => intro w ends1 hq6; exact absurd hq6 (Nat.not_lt_zero _)
    | succ q6 ih6 =>
      intro w ends1 hq6 hw hi
      refine g_iload_n 3 dX10_mutes_6 rfl rfl ?_
      refine g_aload_n 0 dX10_mutes_7 rfl rfl ?_
      refine m_get_pairs dX10_mutes_8 ?_
      refine g_icmp_ge_n (tgt := 27) dX10_mutes_11 (by decide) (by omega) (by omega) (fun c11 => ?_) (fun c11 => ?_)
      · skip
        refine g_iconst (v := nI 0) dX10_mutes_27 (by decide +kernel) ?_
        refine g_istore_n (L' := [(0, _), (1, _), (2, _), (3, _)]) 3 dX10_mutes_28 rfl (by decide) rfl rfl ?_
        refine g_iconst (v := nI 1) dX10_mutes_29 (by decide +kernel) ?_
        refine g_istore (L' := [(0, _), (1, _), (2, _), (3, _), (4, _)]) dX10_mutes_30 (by decide) rfl rfl ?_
        refine g_aload_n 0 dX10_mutes_32 rfl rfl ?_
        refine g_iload_n 3 dX10_mutes_33 rfl rfl ?_
        refine g_iconst (v := nI 1) dX10_mutes_34 (by decide +kernel) ?_
        refine m_cVv (ct_fills _ true (by omega) (by omega)) hvX10_fills hyX10_fills rfl ⟨Nat.le_of_ble_eq_true rfl, Nat.le_of_ble_eq_true rfl⟩ ⟨Nat.zero_le _, Nat.zero_le _⟩ rfl (Nat.le_of_ble_eq_true rfl) dX10_mutes_35 m_rec (fun rows2 hp => ?_)
        refine g_iconst (v := nI 0) dX10_mutes_38 (by decide +kernel) ?_
        refine g_istore (L' := [(0, _), (1, _), (2, _), (3, _), (4, _), (5, _)]) dX10_mutes_39 (by decide) rfl rfl ?_
        refine g_iconst (v := nI 0) dX10_mutes_41 (by decide +kernel) ?_
        refine g_istore (L' := [(0, _), (1, _), (2, _), (3, _), (4, _), (5, _), (6, _)]) dX10_mutes_42 (by decide) rfl rfl ?_
        have loop44 : ∀ (q44 : Nat) (k n0 n1 : Nat) (heaps1 : Nat → Nat) (rows1 : Nat → Int64) (ends1 : Nat → Int32), 3 * cnt (muS T a0 b0 k) (tP T) + 2 - muIdle T a0 b0 k < q44 → (n0 < 2) → (n1 < 2) → (¬ n0 = n1) → (muIdle T a0 b0 k ≤ 2) → (∀ j, j < k → muIdle T a0 b0 j < 2) → (k + (3 * cnt (muS T a0 b0 k) (tP T) + 2 - muIdle T a0 b0 k) ≤ 5492) → (∀ w, w < pairsL → rbt rows1 n0 w = muS T a0 b0 k w) → (∀ w, w < pairsL → ends1 w = muWhen T a0 b0 k w) → GG l D cl tys cX10_mutes 10 (some .int) RX10 ({ frames := 5, cells := 0, slots := 0, locals := 119 } : Room) (AM ma) MT (QM (Qi (fun (v : Int32) (u : (Nat → Nat) × (Nat → Int64) × (Nat → Nat) × (Nat → Nat) × Nat × (Nat → Int32)) => layd u.2.2.1 u.2.2.2.1 u.2.2.2.2.1 (tW T) ∧ ∃ K, muEnd T a0 b0 K ∧ K < 2 ^ 20 ∧ v = nI (cnt (muS T a0 b0 K) (tP T)) ∧ ∀ w, w < tP T → u.2.2.2.2.2 w = muWhen T a0 b0 K w) (fun (u : (Nat → Nat) × (Nat → Int64) × (Nat → Nat) × (Nat → Nat) × Nat × (Nat → Int32)) => HM D cl tys mi cI cJ cZ ma known fresh_ saved images isImage thrown tape taped size_ at_ begin_ token value open_ bad badPlace faultKind faultPlace u.2.2.1 u.2.2.2.1 u.2.2.2.2.1 u.2.1 top u.1 u.2.2.2.2.2 path order firstOrder ordersMany tSort tMany numbers) (AM ma)) 0 0 (AM ma)) (HM D cl tys mi cI cJ cZ ma known fresh_ saved images isImage thrown tape taped size_ at_ begin_ token value open_ bad badPlace faultKind faultPlace xsL ysL pairsL rows1 top heaps1 ends1 path order firstOrder ordersMany tSort tMany numbers) 0 0 44 [(0, .ref (ma 0)), (1, .int (nI a0)), (2, .int (nI b0)), (3, .int (nI n0)), (4, .int (nI n1)), (5, .int (nI (muIdle T a0 b0 k))), (6, .int (nI k))] [] := by
          intro q44
          induction q44 with
          | zero => intro k n0 n1 heaps1 rows1 ends1 hq44; exact absurd hq44 (Nat.not_lt_zero _)
          | succ q44 ih44 =>
            intro k n0 n1 heaps1 rows1 ends1 hq44 hn0 hn1 hne hid hmin hkk hS he
            refine g_iload dX10_mutes_44 rfl ?_
            refine g_iconst (v := nI 2) dX10_mutes_46 (by decide +kernel) ?_
            refine g_icmp_ge_n (tgt := 162) dX10_mutes_47 (by decide) (by omega) (by omega) (fun c47 => ?_) (fun c47 => ?_)
            · skip
              refine g_aload_n 0 dX10_mutes_162 rfl rfl ?_
              refine g_iload_n 3 dX10_mutes_163 rfl rfl ?_
              refine m_cVi (ct_manyOf _ (by omega) (by omega)) hvX10_manyOf hyX10_manyOf rfl ⟨Nat.le_of_ble_eq_true rfl, Nat.le_of_ble_eq_true rfl⟩ ⟨Nat.zero_le _, Nat.zero_le _⟩ rfl (Nat.le_of_ble_eq_true rfl) dX10_mutes_164 m_rec (fun r u hp => ?_)
              obtain rfl := hp
              exact g_iret (heaps1, rows1, xsL, ysL, pairsL, ends1) dX10_mutes_167 (Nat.le_refl _) (Nat.le_refl _) (⟨hl, k, ⟨c47, hmin⟩, by omega, by rw [← hPT]; exact congrArg nI (cnt_congr (fun w hw => hS w hw)), fun w hw => he w (by omega)⟩) (fun _ h => h)
            · skip
              have join62 : ∀ (s9 : Nat), (s9 = (if k % 2 = 0 then a0 else b0)) → GG l D cl tys cX10_mutes 10 (some .int) RX10 ({ frames := 5, cells := 0, slots := 0, locals := 119 } : Room) (AM ma) MT (QM (Qi (fun (v : Int32) (u : (Nat → Nat) × (Nat → Int64) × (Nat → Nat) × (Nat → Nat) × Nat × (Nat → Int32)) => layd u.2.2.1 u.2.2.2.1 u.2.2.2.2.1 (tW T) ∧ ∃ K, muEnd T a0 b0 K ∧ K < 2 ^ 20 ∧ v = nI (cnt (muS T a0 b0 K) (tP T)) ∧ ∀ w, w < tP T → u.2.2.2.2.2 w = muWhen T a0 b0 K w) (fun (u : (Nat → Nat) × (Nat → Int64) × (Nat → Nat) × (Nat → Nat) × Nat × (Nat → Int32)) => HM D cl tys mi cI cJ cZ ma known fresh_ saved images isImage thrown tape taped size_ at_ begin_ token value open_ bad badPlace faultKind faultPlace u.2.2.1 u.2.2.2.1 u.2.2.2.2.1 u.2.1 top u.1 u.2.2.2.2.2 path order firstOrder ordersMany tSort tMany numbers) (AM ma)) 0 0 (AM ma)) (HM D cl tys mi cI cJ cZ ma known fresh_ saved images isImage thrown tape taped size_ at_ begin_ token value open_ bad badPlace faultKind faultPlace xsL ysL pairsL rows1 top heaps1 ends1 path order firstOrder ordersMany tSort tMany numbers) 0 0 62 [(0, .ref (ma 0)), (1, .int (nI a0)), (2, .int (nI b0)), (3, .int (nI n0)), (4, .int (nI n1)), (5, .int (nI (muIdle T a0 b0 k))), (6, .int (nI k))] [.int (nI s9)] := by
                intro s9 hs9
                subst hs9
                have hss : (if k % 2 = 0 then a0 else b0) < tNS T := by split <;> assumption
                refine g_istore (L' := [(0, _), (1, _), (2, _), (3, _), (4, _), (5, _), (6, _), (7, _)]) dX10_mutes_62 (by decide) rfl rfl ?_
                refine g_aload_n 0 dX10_mutes_64 rfl rfl ?_
                refine g_iload dX10_mutes_65 rfl ?_
                refine g_iload_n 3 dX10_mutes_67 rfl rfl ?_
                refine g_iconst (v := nI 0) dX10_mutes_68 (by decide +kernel) ?_
                refine g_iload dX10_mutes_69 rfl ?_
                refine m_cVv (ct_laysAnswers (if k % 2 = 0 then a0 else b0) n0 n1 (tKind T (if k % 2 = 0 then a0 else b0)) false (by omega) (k7 _ hss).1 (by have := o8 _ hss; omega) (by omega) (by omega) (by omega) hW) hvX10_laysAnswers hyX10_laysAnswers rfl ⟨Nat.le_of_ble_eq_true rfl, Nat.le_of_ble_eq_true rfl⟩ ⟨Nat.zero_le _, Nat.zero_le _⟩ rfl (Nat.le_of_ble_eq_true rfl) dX10_mutes_71 m_rec (fun ua ha => ?_)
                obtain ⟨heaps4, rows4⟩ := ua
                dsimp only
                have ha : rowsUp rows1 rows4 n1 pairsL _ := ha
                have hnw : ∀ w, w < pairsL → rbt rows4 n0 w = muS T a0 b0 k w := fun w hw => by rw [rowsUp_ne ha hne (by omega)]; exact hS w hw
                have hth : ∀ w, w < pairsL → rbt rows4 n1 w = muS T a0 b0 (k + 1) w := fun w hw => by
                  rw [rowsUp_in ha hP hw, hPT]
                  exact ansW_congr (by omega) (fun v hv => slW_congr (layd_XY hl (by omega))) (fun v hv => hS v (by omega))
                refine g_iconst (v := nI 0) dX10_mutes_74 (by decide +kernel) ?_
                refine g_istore (L' := [(0, _), (1, _), (2, _), (3, _), (4, _), (5, _), (6, _), (7, _), (8, _)]) dX10_mutes_75 (by decide) rfl rfl ?_
                refine g_iconst (v := nI 0) dX10_mutes_77 (by decide +kernel) ?_
                refine g_istore (L' := [(0, _), (1, _), (2, _), (3, _), (4, _), (5, _), (6, _), (7, _), (8, _), (9, _)]) dX10_mutes_78 (by decide) rfl rfl ?_
                have loop80 : ∀ (q80 : Nat) (w sm : Nat) (ends2 : Nat → Int32), pairsL - w < q80 → (w ≤ pairsL) → ((sm = 0 ∧ cnt (muD T a0 b0 k) w = 0) ∨ (sm = 1 ∧ 0 < cnt (muD T a0 b0 k) w)) → (∀ v, v < pairsL → ends2 v = if v < w then muWhen T a0 b0 (k + 1) v else muWhen T a0 b0 k v) → GG l D cl tys cX10_mutes 10 (some .int) RX10 ({ frames := 5, cells := 0, slots := 0, locals := 119 } : Room) (AM ma) MT (QM (Qi (fun (v : Int32) (u : (Nat → Nat) × (Nat → Int64) × (Nat → Nat) × (Nat → Nat) × Nat × (Nat → Int32)) => layd u.2.2.1 u.2.2.2.1 u.2.2.2.2.1 (tW T) ∧ ∃ K, muEnd T a0 b0 K ∧ K < 2 ^ 20 ∧ v = nI (cnt (muS T a0 b0 K) (tP T)) ∧ ∀ w, w < tP T → u.2.2.2.2.2 w = muWhen T a0 b0 K w) (fun (u : (Nat → Nat) × (Nat → Int64) × (Nat → Nat) × (Nat → Nat) × Nat × (Nat → Int32)) => HM D cl tys mi cI cJ cZ ma known fresh_ saved images isImage thrown tape taped size_ at_ begin_ token value open_ bad badPlace faultKind faultPlace u.2.2.1 u.2.2.2.1 u.2.2.2.2.1 u.2.1 top u.1 u.2.2.2.2.2 path order firstOrder ordersMany tSort tMany numbers) (AM ma)) 0 0 (AM ma)) (HM D cl tys mi cI cJ cZ ma known fresh_ saved images isImage thrown tape taped size_ at_ begin_ token value open_ bad badPlace faultKind faultPlace xsL ysL pairsL rows4 top heaps4 ends2 path order firstOrder ordersMany tSort tMany numbers) 0 0 80 [(0, .ref (ma 0)), (1, .int (nI a0)), (2, .int (nI b0)), (3, .int (nI n0)), (4, .int (nI n1)), (5, .int (nI (muIdle T a0 b0 k))), (6, .int (nI k)), (7, .int (nI (if k % 2 = 0 then a0 else b0))), (8, .int (nI sm)), (9, .int (nI w))] [] := by
                  intro q80
                  induction q80 with
                  | zero => intro w sm ends2 hq80; exact absurd hq80 (Nat.not_lt_zero _)
                  | succ q80 ih80 =>
                    intro w sm ends2 hq80 hw hsm he2
                    refine g_iload dX10_mutes_80 rfl ?_
                    refine g_aload_n 0 dX10_mutes_82 rfl rfl ?_
                    refine m_get_pairs dX10_mutes_83 ?_
                    refine g_icmp_ge_n (tgt := 131) dX10_mutes_86 (by decide) (by omega) (by omega) (fun c86 => ?_) (fun c86 => ?_)
                    · skip
                      have he2 : ∀ v, v < pairsL → ends2 v = muWhen T a0 b0 (k + 1) v := fun v hv => by rw [he2 v hv, if_pos (by omega)]
                      refine g_iload dX10_mutes_131 rfl ?_
                      refine g_if_eq_n (tgt := 140) dX10_mutes_133 (by decide) (by omega) (fun c133 => ?_) (fun c133 => ?_)
                      · skip
                        refine g_iload dX10_mutes_140 rfl ?_
                        refine g_iconst (v := nI 1) dX10_mutes_142 (by decide +kernel) ?_
                        refine g_iadd_n dX10_mutes_143 ?_
                        refine g_istore (L' := [(0, _), (1, _), (2, _), (3, _), (4, _), (5, _), (6, _), (7, _), (8, _), (9, _)]) dX10_mutes_144 (by decide) rfl rfl ?_
                        refine g_iload_n 3 dX10_mutes_146 rfl rfl ?_
                        refine g_istore (L' := [(0, _), (1, _), (2, _), (3, _), (4, _), (5, _), (6, _), (7, _), (8, _), (9, _)]) dX10_mutes_147 (by decide) rfl rfl ?_
                        refine g_iload dX10_mutes_149 rfl ?_
                        refine g_istore_n (L' := [(0, _), (1, _), (2, _), (3, _), (4, _), (5, _), (6, _), (7, _), (8, _), (9, _)]) 3 dX10_mutes_151 rfl (by decide) rfl rfl ?_
                        refine g_iload dX10_mutes_152 rfl ?_
                        refine g_istore (L' := [(0, _), (1, _), (2, _), (3, _), (4, _), (5, _), (6, _), (7, _), (8, _), (9, _)]) dX10_mutes_154 (by decide) rfl rfl ?_
                        refine g_iinc_n (b := 1) (L' := [(0, _), (1, _), (2, _), (3, _), (4, _), (5, _), (6, _), (7, _), (8, _), (9, _)]) dX10_mutes_156 rfl rfl (by decide) rfl rfl ?_
                        refine g_goto (tgt := 44) dX10_mutes_159 (by decide) ?_
                        refine GG.locals [0, 1, 2, 3, 4, 5, 6] rfl ?_
                        have e7 : w = pairsL := by omega
                        rw [e7, hPT] at hsm
                        have hmc := mu_cnt T a0 b0 k
                        have hI : muIdle T a0 b0 (k + 1) = if 0 < cnt (muD T a0 b0 k) (tP T) then 0 else muIdle T a0 b0 k + 1 := rfl
                        have hS2 : ∀ v, v < pairsL → rbt rows4 n1 v = muS T a0 b0 (k + 1) v := hth
                        first
                          | (rw [if_neg (by omega)] at hI; rw [← hI]; exact ih44 (k + 1) n1 n0 heaps4 rows4 ends2 (by omega) hn1 hn0 (fun q => hne q.symm) (by omega) (fun j hj => (Nat.lt_succ_iff_lt_or_eq.mp hj).elim (fun q => hmin j q) (fun q => by rw [q]; exact c47)) (by omega) hS2 (fun v hv => he2 v (by omega)))
                          | (rw [if_pos (by omega)] at hI; rw [show nI 0 = nI (muIdle T a0 b0 (k + 1)) by rw [hI]]; exact ih44 (k + 1) n1 n0 heaps4 rows4 ends2 (by omega) hn1 hn0 (fun q => hne q.symm) (by omega) (fun j hj => (Nat.lt_succ_iff_lt_or_eq.mp hj).elim (fun q => hmin j q) (fun q => by rw [q]; exact c47)) (by omega) hS2 (fun v hv => he2 v (by omega)))
                      · skip
                        refine g_iconst (v := nI 0) dX10_mutes_136 (by decide +kernel) ?_
                        refine g_goto (tgt := 144) dX10_mutes_137 (by decide) ?_
                        refine g_istore (L' := [(0, _), (1, _), (2, _), (3, _), (4, _), (5, _), (6, _), (7, _), (8, _), (9, _)]) dX10_mutes_144 (by decide) rfl rfl ?_
                        refine g_iload_n 3 dX10_mutes_146 rfl rfl ?_
                        refine g_istore (L' := [(0, _), (1, _), (2, _), (3, _), (4, _), (5, _), (6, _), (7, _), (8, _), (9, _)]) dX10_mutes_147 (by decide) rfl rfl ?_
                        refine g_iload dX10_mutes_149 rfl ?_
                        refine g_istore_n (L' := [(0, _), (1, _), (2, _), (3, _), (4, _), (5, _), (6, _), (7, _), (8, _), (9, _)]) 3 dX10_mutes_151 rfl (by decide) rfl rfl ?_
                        refine g_iload dX10_mutes_152 rfl ?_
                        refine g_istore (L' := [(0, _), (1, _), (2, _), (3, _), (4, _), (5, _), (6, _), (7, _), (8, _), (9, _)]) dX10_mutes_154 (by decide) rfl rfl ?_
                        refine g_iinc_n (b := 1) (L' := [(0, _), (1, _), (2, _), (3, _), (4, _), (5, _), (6, _), (7, _), (8, _), (9, _)]) dX10_mutes_156 rfl rfl (by decide) rfl rfl ?_
                        refine g_goto (tgt := 44) dX10_mutes_159 (by decide) ?_
                        refine GG.locals [0, 1, 2, 3, 4, 5, 6] rfl ?_
                        have e7 : w = pairsL := by omega
                        rw [e7, hPT] at hsm
                        have hmc := mu_cnt T a0 b0 k
                        have hI : muIdle T a0 b0 (k + 1) = if 0 < cnt (muD T a0 b0 k) (tP T) then 0 else muIdle T a0 b0 k + 1 := rfl
                        have hS2 : ∀ v, v < pairsL → rbt rows4 n1 v = muS T a0 b0 (k + 1) v := hth
                        first
                          | (rw [if_neg (by omega)] at hI; rw [← hI]; exact ih44 (k + 1) n1 n0 heaps4 rows4 ends2 (by omega) hn1 hn0 (fun q => hne q.symm) (by omega) (fun j hj => (Nat.lt_succ_iff_lt_or_eq.mp hj).elim (fun q => hmin j q) (fun q => by rw [q]; exact c47)) (by omega) hS2 (fun v hv => he2 v (by omega)))
                          | (rw [if_pos (by omega)] at hI; rw [show nI 0 = nI (muIdle T a0 b0 (k + 1)) by rw [hI]]; exact ih44 (k + 1) n1 n0 heaps4 rows4 ends2 (by omega) hn1 hn0 (fun q => hne q.symm) (by omega) (fun j hj => (Nat.lt_succ_iff_lt_or_eq.mp hj).elim (fun q => hmin j q) (fun q => by rw [q]; exact c47)) (by omega) hS2 (fun v hv => he2 v (by omega)))
                    · skip
                      refine g_aload_n 0 dX10_mutes_89 rfl rfl ?_
                      refine g_iload_n 3 dX10_mutes_90 rfl rfl ?_
                      refine g_iload dX10_mutes_91 rfl ?_
                      refine m_cVi (ct_has _ _ (by omega) (by omega)) hvX10_has hyX10_has rfl ⟨Nat.le_of_ble_eq_true rfl, Nat.le_of_ble_eq_true rfl⟩ ⟨Nat.zero_le _, Nat.zero_le _⟩ rfl (Nat.le_of_ble_eq_true rfl) dX10_mutes_93 m_rec (fun r u9 hp => ?_)
                      obtain rfl := hp
                      refine GG.topi (y := bI (muS T a0 b0 k w)) (congrArg bI (hnw w (by omega))) ?_
                      refine g_if_eq_b (tgt := 125) dX10_mutes_96 (by decide) (fun c96 => ?_) (fun c96 => ?_)
                      · skip
                        refine g_iinc_n (b := 1) (L' := [(0, _), (1, _), (2, _), (3, _), (4, _), (5, _), (6, _), (7, _), (8, _), (9, _)]) dX10_mutes_125 rfl rfl (by decide) rfl rfl ?_
                        refine g_goto (tgt := 80) dX10_mutes_128 (by decide) ?_
                        first
                          | (have hdd : muD T a0 b0 k w = true := by show (muS T a0 b0 k w && !muS T a0 b0 (k + 1) w) = true; rw [c96, c107]; rfl
                             refine ih80 (w + 1) _ _ (by omega) (by omega) (Or.inr ⟨rfl, by rw [cnt_y hdd]; omega⟩) (fun v hv => ?_)
                             by_cases q : v = w
                             · rw [q, up_s, if_pos (Nat.lt_succ_self _)]; show nI k = if muD T a0 b0 k w = true then nI k else _; rw [if_pos hdd]
                             · rw [up_n q, he2 v hv]; by_cases q2 : v < w
                               · rw [if_pos q2, if_pos (by omega)]
                               · rw [if_neg q2, if_neg (by omega)])
                          | (have hdd : muD T a0 b0 k w = false := by show (muS T a0 b0 k w && !muS T a0 b0 (k + 1) w) = false; first | (rw [c96]; rfl) | (rw [c96, c107]; rfl)
                             refine ih80 (w + 1) _ _ (by omega) (by omega) (by rw [cnt_n hdd]; exact hsm) (fun v hv => ?_)
                             rw [he2 v hv]; by_cases q : v = w
                             · rw [q, if_neg (Nat.lt_irrefl _), if_pos (Nat.lt_succ_self _)]; show _ = if muD T a0 b0 k w = true then nI k else _; rw [if_neg (by rw [hdd]; decide)]
                             · by_cases q2 : v < w
                               · rw [if_pos q2, if_pos (by omega)]
                               · rw [if_neg q2, if_neg (by omega)])
                      · skip
                        refine g_aload_n 0 dX10_mutes_99 rfl rfl ?_
                        refine g_iload dX10_mutes_100 rfl ?_
                        refine g_iload dX10_mutes_102 rfl ?_
                        refine m_cVi (ct_has _ _ (by omega) (by omega)) hvX10_has hyX10_has rfl ⟨Nat.le_of_ble_eq_true rfl, Nat.le_of_ble_eq_true rfl⟩ ⟨Nat.zero_le _, Nat.zero_le _⟩ rfl (Nat.le_of_ble_eq_true rfl) dX10_mutes_104 m_rec (fun r u9 hp => ?_)
                        obtain rfl := hp
                        refine GG.topi (y := bI (muS T a0 b0 (k + 1) w)) (congrArg bI (hth w (by omega))) ?_
                        refine g_if_eq_b (tgt := 113) dX10_mutes_107 (by decide) (fun c107 => ?_) (fun c107 => ?_)
                        · skip
                          refine g_aload_n 0 dX10_mutes_113 rfl rfl ?_
                          refine m_get_endsBehind dX10_mutes_114 ?_
                          refine g_iload dX10_mutes_117 rfl ?_
                          refine g_iload dX10_mutes_119 rfl ?_
                          refine m_st_endsBehind dX10_mutes_121 (by omega) ?_
                          refine g_iconst (v := nI 1) dX10_mutes_122 (by decide +kernel) ?_
                          refine g_istore (L' := [(0, _), (1, _), (2, _), (3, _), (4, _), (5, _), (6, _), (7, _), (8, _), (9, _)]) dX10_mutes_123 (by decide) rfl rfl ?_
                          refine g_iinc_n (b := 1) (L' := [(0, _), (1, _), (2, _), (3, _), (4, _), (5, _), (6, _), (7, _), (8, _), (9, _)]) dX10_mutes_125 rfl rfl (by decide) rfl rfl ?_
                          refine g_goto (tgt := 80) dX10_mutes_128 (by decide) ?_
                          first
                            | (have hdd : muD T a0 b0 k w = true := by show (muS T a0 b0 k w && !muS T a0 b0 (k + 1) w) = true; rw [c96, c107]; rfl
                               refine ih80 (w + 1) _ _ (by omega) (by omega) (Or.inr ⟨rfl, by rw [cnt_y hdd]; omega⟩) (fun v hv => ?_)
                               by_cases q : v = w
                               · rw [q, up_s, if_pos (Nat.lt_succ_self _)]; show nI k = if muD T a0 b0 k w = true then nI k else _; rw [if_pos hdd]
                               · rw [up_n q, he2 v hv]; by_cases q2 : v < w
                                 · rw [if_pos q2, if_pos (by omega)]
                                 · rw [if_neg q2, if_neg (by omega)])
                            | (have hdd : muD T a0 b0 k w = false := by show (muS T a0 b0 k w && !muS T a0 b0 (k + 1) w) = false; first | (rw [c96]; rfl) | (rw [c96, c107]; rfl)
                               refine ih80 (w + 1) _ _ (by omega) (by omega) (by rw [cnt_n hdd]; exact hsm) (fun v hv => ?_)
                               rw [he2 v hv]; by_cases q : v = w
                               · rw [q, if_neg (Nat.lt_irrefl _), if_pos (Nat.lt_succ_self _)]; show _ = if muD T a0 b0 k w = true then nI k else _; rw [if_neg (by rw [hdd]; decide)]
                               · by_cases q2 : v < w
                                 · rw [if_pos q2, if_pos (by omega)]
                                 · rw [if_neg q2, if_neg (by omega)])
                        · skip
                          refine g_goto (tgt := 125) dX10_mutes_110 (by decide) ?_
                          refine g_iinc_n (b := 1) (L' := [(0, _), (1, _), (2, _), (3, _), (4, _), (5, _), (6, _), (7, _), (8, _), (9, _)]) dX10_mutes_125 rfl rfl (by decide) rfl rfl ?_
                          refine g_goto (tgt := 80) dX10_mutes_128 (by decide) ?_
                          first
                            | (have hdd : muD T a0 b0 k w = true := by show (muS T a0 b0 k w && !muS T a0 b0 (k + 1) w) = true; rw [c96, c107]; rfl
                               refine ih80 (w + 1) _ _ (by omega) (by omega) (Or.inr ⟨rfl, by rw [cnt_y hdd]; omega⟩) (fun v hv => ?_)
                               by_cases q : v = w
                               · rw [q, up_s, if_pos (Nat.lt_succ_self _)]; show nI k = if muD T a0 b0 k w = true then nI k else _; rw [if_pos hdd]
                               · rw [up_n q, he2 v hv]; by_cases q2 : v < w
                                 · rw [if_pos q2, if_pos (by omega)]
                                 · rw [if_neg q2, if_neg (by omega)])
                            | (have hdd : muD T a0 b0 k w = false := by show (muS T a0 b0 k w && !muS T a0 b0 (k + 1) w) = false; first | (rw [c96]; rfl) | (rw [c96, c107]; rfl)
                               refine ih80 (w + 1) _ _ (by omega) (by omega) (by rw [cnt_n hdd]; exact hsm) (fun v hv => ?_)
                               rw [he2 v hv]; by_cases q : v = w
                               · rw [q, if_neg (Nat.lt_irrefl _), if_pos (Nat.lt_succ_self _)]; show _ = if muD T a0 b0 k w = true then nI k else _; rw [if_neg (by rw [hdd]; decide)]
                               · by_cases q2 : v < w
                                 · rw [if_pos q2, if_pos (by omega)]
                                 · rw [if_neg q2, if_neg (by omega)])
                exact loop80 (pairsL + 1) 0 0 ends1 (by omega) (by omega) (Or.inl ⟨rfl, rfl⟩) (fun v hv => by rw [if_neg (Nat.not_lt_zero _)]; exact he v hv)
              refine g_iload dX10_mutes_50 rfl ?_
              refine g_iconst (v := nI 2) dX10_mutes_52 (by decide +kernel) ?_
              refine g_irem_n dX10_mutes_53 (by omega) (by decide) (by decide) ?_
              refine g_if_ne_n (tgt := 61) dX10_mutes_54 (by decide) (by omega) (fun c54 => ?_) (fun c54 => ?_)
              · skip
                refine g_iload_n 2 dX10_mutes_61 rfl rfl ?_
                exact join62 _ (by first | (rw [if_pos c54]) | (rw [if_neg c54]))
              · skip
                refine g_iload_n 1 dX10_mutes_57 rfl rfl ?_
                refine g_goto (tgt := 62) dX10_mutes_58 (by decide) ?_
                exact join62 _ (by first | (rw [if_pos c54]) | (rw [if_neg c54]))
        have e7 : w = pairsL := by omega
        subst e7
        have hc9 : cnt (muS T a0 b0 0) (tP T) ≤ tP T := cnt_le _ _
        exact loop44 (3 * tP T + 3) 0 0 1 heaps rows2 ends1 (by show 3 * cnt (muS T a0 b0 0) (tP T) + 2 - 0 < _; omega) (by decide) (by decide) (by decide) (Nat.zero_le _) (fun j hj => absurd hj (Nat.not_lt_zero _)) (by show 0 + (3 * cnt (muS T a0 b0 0) (tP T) + 2 - 0) ≤ 5492; omega) (fun w hw => by rw [rowsUp_in hp hP hw]; rfl) (fun w hw => hi w hw)
      · skip
        refine g_aload_n 0 dX10_mutes_14 rfl rfl ?_
        refine m_get_endsBehind dX10_mutes_15 ?_
        refine g_iload_n 3 dX10_mutes_18 rfl rfl ?_
        refine g_iconst (v := -1) dX10_mutes_19 (by decide +kernel) ?_
        refine m_st_endsBehind dX10_mutes_20 (by omega) ?_
        refine g_iinc_n (b := 1) (L' := [(0, _), (1, _), (2, _), (3, _)]) dX10_mutes_21 rfl rfl (by decide) rfl rfl ?_
        refine g_goto (tgt := 6) dX10_mutes_24 (by decide) ?_
        refine ih6 (w + 1) _ (by omega) (by omega) (fun v hv => ?_)
        unfold up; split
        · rfl
        · exact hi v (by omega)
  exact loop6 (pairsL + 1) 0 endsBehind (by omega) (by omega) (fun v hv => absurd hv (Nat.not_lt_zero _))
end
