/-! SPEC: liars, who should have said it -/
set_option maxRecDepth 100000
theorem ChM_congr2 {say say2 : Sem → Nat → Prop} {K K2 : Nat → Int32} (hs : ∀ g r, say g r → say2 g r) (hK : ∀ i, i < 1868 → K2 i = K i) : ∀ {gs : List Sem} {p : Int32}, ChM say K gs p → ChM say2 K2 gs p
  | [], _, h => h
  | g :: gs, p, h => by
    obtain ⟨q, r, h1, h2, h3, h4, h5⟩ := h
    exact ⟨q, r, h1, h2, by rw [hK _ (by omega)]; exact h3, hs g r h4, by rw [hK _ (by omega)]; exact ChM_congr2 hs hK h5⟩
theorem SayM_congr2 {nS : Nat} {K K2 : Nat → Int32} (hK : ∀ i, i < 1868 → K2 i = K i) : ∀ {d : Nat} {f : Sem} {m : Nat}, SayM nS d f m K → SayM nS d f m K2
  | 0, _, _, h => h
  | d + 1, f, m, h => by
    obtain ⟨h1, h2⟩ := h
    have e0 := hK (66 + 4 * m + 0) (by omega)
    have e1 := hK (66 + 4 * m + 1) (by omega)
    have e2 := hK (66 + 4 * m + 2) (by omega)
    refine ⟨h1, ?_⟩
    rw [e0, e1, e2]
    rcases h2 with h | h | h | h | ⟨s, p, g, a1, a2, a3, a4, a5, a6⟩ | ⟨s, p, g, a1, a2, a3, a4, a5, a6⟩ | ⟨p, g, a1, a2, a3, a4⟩ | ⟨gs, a1, a2, a3⟩ | ⟨gs, a1, a2, a3⟩
    · exact Or.inl h
    · exact Or.inr (Or.inl h)
    · exact Or.inr (Or.inr (Or.inl h))
    · exact Or.inr (Or.inr (Or.inr (Or.inl h)))
    · exact Or.inr (Or.inr (Or.inr (Or.inr (Or.inl ⟨s, p, g, a1, a2, a3, a4, SayM_congr2 hK a5, a6⟩))))
    · exact Or.inr (Or.inr (Or.inr (Or.inr (Or.inr (Or.inl ⟨s, p, g, a1, a2, a3, a4, SayM_congr2 hK a5, a6⟩)))))
    · exact Or.inr (Or.inr (Or.inr (Or.inr (Or.inr (Or.inr (Or.inl ⟨p, g, a1, a2, SayM_congr2 hK a3, a4⟩))))))
    · exact Or.inr (Or.inr (Or.inr (Or.inr (Or.inr (Or.inr (Or.inr (Or.inl ⟨gs, a1, ChM_congr2 (fun g r h => SayM_congr2 hK h) hK a2, a3⟩)))))))
    · exact Or.inr (Or.inr (Or.inr (Or.inr (Or.inr (Or.inr (Or.inr (Or.inr ⟨gs, a1, ChM_congr2 (fun g r h => SayM_congr2 hK h) hK a2, a3⟩)))))))
def cpy (f g : Nat → Int32) : Nat → Int32 := fun j => if j < 1868 then f j else g j
def begF (g : Nat → Int32) : Nat → Int32 := fun j => if j = 3 then nI 120 else if j = 2 then nI 20 else if j = 1 then nI 2 else if j < 1868 then nI 0 else g j
/-- the talk at first -/
def talk0 : Talk := (0, 2, 20, 120, 0, 0, fun _ => 0, fun _ => false, fun _ => false, 0, fun _ => 0, fun _ => sEven)
theorem KIs0 (g : Nat → Int32) : KIs (begF g) talk0 := by
  refine ⟨⟨by decide, by decide, by decide, by decide, by decide, by decide, by decide, fun s hs => absurd hs (Nat.not_lt_zero _), fun s hs => absurd hs (Nat.not_lt_zero _), by decide⟩, rfl, rfl, rfl, rfl, rfl, rfl, rfl, fun s hs => absurd hs (Nat.not_lt_zero _), fun s hs => absurd hs (Nat.not_lt_zero _)⟩
theorem KIs.congr {K K2 : Nat → Int32} {T : Talk} (h : KIs K T) (hK : ∀ j, j < 1868 → K2 j = K j) : KIs K2 T := by
  obtain ⟨ho, k0, k1, k2, k3, k4, k5, k6, k7, k8⟩ := h
  obtain ⟨o1, o2, o3, o4, o5, o6, o7, o8, o9, o10⟩ := ho
  refine ⟨⟨o1, o2, o3, o4, o5, o6, o7, o8, o9, o10⟩, ?_, ?_, ?_, ?_, ?_, ?_, ?_, ?_, ?_⟩
  · rw [hK 0 (by decide)]; exact k0
  · rw [hK 1 (by decide)]; exact k1
  · rw [hK 2 (by decide)]; exact k2
  · rw [hK 3 (by decide)]; exact k3
  · rw [hK 4 (by decide)]; exact k4
  · rw [hK 5 (by decide)]; exact k5
  · rw [hK 6 (by decide)]; exact k6
  · intro s hs
    rw [hK _ (by omega), hK _ (by omega), hK _ (by omega)]
    exact k7 s hs
  · intro t ht
    rw [hK _ (by omega), hK _ (by omega)]
    obtain ⟨a1, m, a2, a3⟩ := k8 t ht
    exact ⟨a1, m, a2, SayM_congr2 hK a3⟩
def tLi (T : Talk) (i : Nat) : Talk := (tLines T, tLow T, tHigh T, tMost T, tUn T, tNS T, tKind T, (fun s => decide (s = i)), tDeaf T, tNT T, tWho T, tSem T)
theorem KIs.li {K K2 : Nat → Int32} {T : Talk} (h : KIs K T) {i : Nat} (h1 : ∀ z, z < tNS T → K2 (8 + 3 * z + 1) = bI (decide (z = i))) (h2 : ∀ j, (∀ z, z < tNS T → ¬ j = 8 + 3 * z + 1) → K2 j = K j) : KIs K2 (tLi T i) := by
  obtain ⟨ho, k0, k1, k2, k3, k4, k5, k6, k7, k8⟩ := h
  obtain ⟨o1, o2, o3, o4, o5, o6, o7, o8, o9, o10⟩ := ho
  have e : ∀ j, (j < 9 ∨ 25 < j) → K2 j = K j := fun j hj => h2 j (fun z hz q => by omega)
  refine ⟨⟨o1, o2, o3, o4, o5, o6, o7, o8, o9, o10⟩, ?_, ?_, ?_, ?_, ?_, ?_, ?_, ?_, ?_⟩
  · rw [e 0 (by decide)]; exact k0
  · rw [e 1 (by decide)]; exact k1
  · rw [e 2 (by decide)]; exact k2
  · rw [e 3 (by decide)]; exact k3
  · rw [e 4 (by decide)]; exact k4
  · rw [e 5 (by decide)]; exact k5
  · rw [e 6 (by decide)]; exact k6
  · intro s hs
    rw [h2 _ (fun z hz q => by omega), h2 (8 + 3 * s + 2) (fun z hz q => by omega)]
    exact ⟨(k7 s hs).1, h1 s hs, (k7 s hs).2.2⟩
  · intro t ht
    rw [e _ (by omega), e _ (by omega)]
    obtain ⟨a1, m, a2, a3⟩ := k8 t ht
    exact ⟨a1, m, a2, SayM_congr (fun j hj => e j (by omega)) a3⟩
def aLiar (T : Talk) (s : Int32) : Nat × Int32 := match iR s (tNS T) with
  | none => (1, 0)
  | some i => (0, nI (leftN (tLi T i) (tNT T)))
def whF (T : Talk) : Nat → Int32
  | 0 => nI 0
  | n + 1 => whF T n ||| (if leftN (tLi T n) (tNT T) = 1 then nI 1 <<< (nI n &&& 31) else nI 0)
def tBy (T : Talk) (t s : Nat) : Talk := (tLines T, tLow T, tHigh T, tMost T, tUn T, tNS T, tKind T, tLiar T, tDeaf T, tNT T, up (tWho T) t s, tSem T)
theorem KIs.by_ {K : Nat → Int32} {T : Talk} (h : KIs K T) {t s : Nat} (ht : t < tNT T) (hs : s < tNS T) : KIs (up K (26 + 2 * t) (nI s)) (tBy T t s) := by
  obtain ⟨ho, k0, k1, k2, k3, k4, k5, k6, k7, k8⟩ := h
  obtain ⟨o1, o2, o3, o4, o5, o6, o7, o8, o9, o10⟩ := ho
  refine ⟨⟨o1, o2, o3, o4, o5, o6, o7, o8, fun z hz => ?_, o10⟩, ?_, ?_, ?_, ?_, ?_, ?_, ?_, ?_, ?_⟩
  · show up (tWho T) t s z < tNS T
    unfold up
    split
    · exact hs
    · exact o9 z hz
  · rw [up_n (by omega)]; exact k0
  · rw [up_n (by omega)]; exact k1
  · rw [up_n (by omega)]; exact k2
  · rw [up_n (by omega)]; exact k3
  · rw [up_n (by omega)]; exact k4
  · rw [up_n (by omega)]; exact k5
  · rw [up_n (by omega)]; exact k6
  · intro z hz
    have hz2 : z < tNS T := hz
    rw [up_n (by omega), up_n (by omega), up_n (by omega)]
    exact k7 z hz
  · intro z hz
    obtain ⟨a1, m, a2, a3⟩ := k8 z hz
    refine ⟨?_, m, ?_, SayM_congr (fun j hj => up_n (by omega)) a3⟩
    · show up K (26 + 2 * t) (nI s) (26 + 2 * z) = nI (up (tWho T) t s z)
      by_cases q : z = t
      · rw [q, up_s, up_s]
      · rw [up_n (by omega), up_n q]; exact a1
    · rw [up_n (by omega)]; exact a2
/-- the first turn and speaker by whom just one world would be left -/
def isMended (T : Talk) (wh : Int32) (thr : Nat) (v : Int32) : Prop := match iR wh 3 with
  | none => thr = 1
  | some i => thr = 0 ∧ ((∃ t s x, t < tNT T ∧ s < tNS T ∧ ¬ s = tWho T t ∧ leftN (tBy T t s) (tNT T) = 1 ∧ isOnly (tBy T t s) x ∧
      (∀ t' s', t' < tNT T → s' < tNS T → ¬ s' = tWho T t' → (t' < t ∨ (t' = t ∧ s' < s)) → ¬ leftN (tBy T t' s') (tNT T) = 1) ∧ v = if i = 0 then nI t else if i = 1 then nI s else x) ∨
    ((∀ t' s', t' < tNT T → s' < tNS T → ¬ s' = tWho T t' → ¬ leftN (tBy T t' s') (tNT T) = 1) ∧ v = -1))
theorem isOnly_m1 {T : Talk} {v : Int32} (hT : tP T < 2 ^ 31) (h : isOnly T v) : v = -1 ↔ ¬ leftN T (tNT T) = 1 := by
  unfold isOnly at h
  constructor
  · intro hv h1
    rw [if_pos h1] at h
    rcases h with ⟨w, a1, a2, a3, a4⟩ | ⟨a1, a2⟩
    · rw [hv] at a4; exact absurd a4.symm (nI_m1 (by omega))
    · have : leftN T (tNT T) = 0 := by
        unfold leftN
        have key : ∀ n, n ≤ tP T → cnt (leftT T (tNT T)) n = 0 := by
          intro n
          induction n with
          | zero => intro _; rfl
          | succ n ih => intro hn; rw [cnt_n (a1 n (by omega)), ih (by omega)]
        exact key _ (Nat.le_refl _)
      omega
  · intro h1
    rw [if_neg h1] at h
    exact h
/-! THE MODEL, 12: copies, liars, mended -/
set_option maxRecDepth 100000
section
variable {l : Launch} {D : va_G} {cl : List vw_C} {tys : List (ClassId × FieldType)} {mi : Nat} {cI cJ cZ : ClassId} {ma : Nat → Nat} {known fresh_ saved images : Nat → Int32} {isImage : Nat → Bool} {thrown : Nat} {tape : Nat → Nat} {taped size_ at_ begin_ token value open_ bad badPlace faultKind : Nat} {faultPlace : Int32} {xs ys : Nat → Nat} {pairs : Nat} {rows : Nat → Int64} {top : Nat} {heaps : Nat → Nat} {endsBehind : Nat → Int32} {path order firstOrder : Nat → Nat} {ordersMany : Nat} {tSort : Nat → Int32} {tMany : Nat → Nat} {numbers : Nat → Int64}
set_option maxHeartbeats 4000000 in
/-- a copy -/
theorem ct_copies_known_saved   : CT l D cl tys yX10_copies cX10_copies 3 none ({ frames := 0, cells := 0, slots := 0, locals := 0 } : Room) [.ref (ma 1), .ref (ma 3)] (HM D cl tys mi cI cJ cZ ma known fresh_ saved images isImage thrown tape taped size_ at_ begin_ token value open_ bad badPlace faultKind faultPlace xs ys pairs rows top heaps endsBehind path order firstOrder ordersMany tSort tMany numbers) (Qv (fun (u : Nat → Int32) => u = cpy known saved) (fun (u : Nat → Int32) => HM D cl tys mi cI cJ cZ ma known fresh_ u images isImage thrown tape taped size_ at_ begin_ token value open_ bad badPlace faultKind faultPlace xs ys pairs rows top heaps endsBehind path order firstOrder ordersMany tSort tMany numbers) (AM ma)) (AM ma) := by
  refine CT.of (L := [(0, .ref (ma 1)), (1, .ref (ma 3))]) rfl (by decide +kernel) rfl (Nat.le_of_ble_eq_true rfl) ?_
  refine g_iconst (v := nI 0) dX10_copies_0 (by decide +kernel) ?_
  refine g_istore_n (L' := [(0, _), (1, _), (2, _)]) 2 dX10_copies_1 rfl (by decide) rfl rfl ?_
  have loop2 : ∀ (q2 : Nat) (k : Nat) (to1 : Nat → Int32), 1868 - k < q2 → (k ≤ 1868) → (to1 = fun j => if j < k then known j else saved j) → GG l D cl tys cX10_copies 3 none RX10 ({ frames := 0, cells := 0, slots := 0, locals := 0 } : Room) (AM ma) MT (QM (Qv (fun (u : Nat → Int32) => u = cpy known saved) (fun (u : Nat → Int32) => HM D cl tys mi cI cJ cZ ma known fresh_ u images isImage thrown tape taped size_ at_ begin_ token value open_ bad badPlace faultKind faultPlace xs ys pairs rows top heaps endsBehind path order firstOrder ordersMany tSort tMany numbers) (AM ma)) 0 0 (AM ma)) (HM D cl tys mi cI cJ cZ ma known fresh_ to1 images isImage thrown tape taped size_ at_ begin_ token value open_ bad badPlace faultKind faultPlace xs ys pairs rows top heaps endsBehind path order firstOrder ordersMany tSort tMany numbers) 0 0 2 [(0, .ref (ma 1)), (1, .ref (ma 3)), (2, .int (nI k))] [] := by
    intro q2
    induction q2 with
    | zero => intro k to1 hq2; exact absurd hq2 (Nat.not_lt_zero _)
    | succ q2 ih2 =>
      intro k to1 hq2 hk hi
      refine g_iload_n 2 dX10_copies_2 rfl rfl ?_
      refine g_sipush (v := nI 1868) dX10_copies_3 (by decide +kernel) ?_
      refine g_icmp_ge_n (tgt := 21) dX10_copies_6 (by decide) (by omega) (by omega) (fun c6 => ?_) (fun c6 => ?_)
      · skip
        exact g_vret to1 dX10_copies_21 (Nat.le_refl _) (Nat.le_refl _) (by have e9 : k = 1868 := (by omega); rw [hi, e9]; rfl) (fun _ h => h)
      · skip
        refine g_aload_n 1 dX10_copies_9 rfl rfl ?_
        refine g_iload_n 2 dX10_copies_10 rfl rfl ?_
        refine g_aload_n 0 dX10_copies_11 rfl rfl ?_
        refine g_iload_n 2 dX10_copies_12 rfl rfl ?_
        refine m_ld_known dX10_copies_13 (by omega) ?_
        refine m_st_saved dX10_copies_14 (by omega) ?_
        refine g_iinc_n (b := 1) (L' := [(0, _), (1, _), (2, _)]) dX10_copies_15 rfl rfl (by decide) rfl rfl ?_
        refine g_goto (tgt := 2) dX10_copies_18 (by decide) ?_
        refine ih2 (k + 1) _ (by omega) (by omega) ?_
        funext j
        unfold up
        rw [hi]
        by_cases q : j = k
        · rw [if_pos q, q, if_pos (Nat.lt_succ_self _)]
        · rw [if_neg q]; dsimp only; by_cases q2 : j < k
          · rw [if_pos q2, if_pos (by omega)]
          · rw [if_neg q2, if_neg (by omega)]
  exact loop2 1869 0 saved (by omega) (by omega) (funext fun j => (if_neg (Nat.not_lt_zero _)).symm)
set_option maxHeartbeats 4000000 in
/-- a copy -/
theorem ct_copies_saved_known   : CT l D cl tys yX10_copies cX10_copies 3 none ({ frames := 0, cells := 0, slots := 0, locals := 0 } : Room) [.ref (ma 3), .ref (ma 1)] (HM D cl tys mi cI cJ cZ ma known fresh_ saved images isImage thrown tape taped size_ at_ begin_ token value open_ bad badPlace faultKind faultPlace xs ys pairs rows top heaps endsBehind path order firstOrder ordersMany tSort tMany numbers) (Qv (fun (u : Nat → Int32) => u = cpy saved known) (fun (u : Nat → Int32) => HM D cl tys mi cI cJ cZ ma u fresh_ saved images isImage thrown tape taped size_ at_ begin_ token value open_ bad badPlace faultKind faultPlace xs ys pairs rows top heaps endsBehind path order firstOrder ordersMany tSort tMany numbers) (AM ma)) (AM ma) := by
  refine CT.of (L := [(0, .ref (ma 3)), (1, .ref (ma 1))]) rfl (by decide +kernel) rfl (Nat.le_of_ble_eq_true rfl) ?_
  refine g_iconst (v := nI 0) dX10_copies_0 (by decide +kernel) ?_
  refine g_istore_n (L' := [(0, _), (1, _), (2, _)]) 2 dX10_copies_1 rfl (by decide) rfl rfl ?_
  have loop2 : ∀ (q2 : Nat) (k : Nat) (to1 : Nat → Int32), 1868 - k < q2 → (k ≤ 1868) → (to1 = fun j => if j < k then saved j else known j) → GG l D cl tys cX10_copies 3 none RX10 ({ frames := 0, cells := 0, slots := 0, locals := 0 } : Room) (AM ma) MT (QM (Qv (fun (u : Nat → Int32) => u = cpy saved known) (fun (u : Nat → Int32) => HM D cl tys mi cI cJ cZ ma u fresh_ saved images isImage thrown tape taped size_ at_ begin_ token value open_ bad badPlace faultKind faultPlace xs ys pairs rows top heaps endsBehind path order firstOrder ordersMany tSort tMany numbers) (AM ma)) 0 0 (AM ma)) (HM D cl tys mi cI cJ cZ ma to1 fresh_ saved images isImage thrown tape taped size_ at_ begin_ token value open_ bad badPlace faultKind faultPlace xs ys pairs rows top heaps endsBehind path order firstOrder ordersMany tSort tMany numbers) 0 0 2 [(0, .ref (ma 3)), (1, .ref (ma 1)), (2, .int (nI k))] [] := by
    intro q2
    induction q2 with
    | zero => intro k to1 hq2; exact absurd hq2 (Nat.not_lt_zero _)
    | succ q2 ih2 =>
      intro k to1 hq2 hk hi
      refine g_iload_n 2 dX10_copies_2 rfl rfl ?_
      refine g_sipush (v := nI 1868) dX10_copies_3 (by decide +kernel) ?_
      refine g_icmp_ge_n (tgt := 21) dX10_copies_6 (by decide) (by omega) (by omega) (fun c6 => ?_) (fun c6 => ?_)
      · skip
        exact g_vret to1 dX10_copies_21 (Nat.le_refl _) (Nat.le_refl _) (by have e9 : k = 1868 := (by omega); rw [hi, e9]; rfl) (fun _ h => h)
      · skip
        refine g_aload_n 1 dX10_copies_9 rfl rfl ?_
        refine g_iload_n 2 dX10_copies_10 rfl rfl ?_
        refine g_aload_n 0 dX10_copies_11 rfl rfl ?_
        refine g_iload_n 2 dX10_copies_12 rfl rfl ?_
        refine m_ld_saved dX10_copies_13 (by omega) ?_
        refine m_st_known dX10_copies_14 (by omega) ?_
        refine g_iinc_n (b := 1) (L' := [(0, _), (1, _), (2, _)]) dX10_copies_15 rfl rfl (by decide) rfl rfl ?_
        refine g_goto (tgt := 2) dX10_copies_18 (by decide) ?_
        refine ih2 (k + 1) _ (by omega) (by omega) ?_
        funext j
        unfold up
        rw [hi]
        by_cases q : j = k
        · rw [if_pos q, q, if_pos (Nat.lt_succ_self _)]
        · rw [if_neg q]; dsimp only; by_cases q2 : j < k
          · rw [if_pos q2, if_pos (by omega)]
          · rw [if_neg q2, if_neg (by omega)]
  exact loop2 1869 0 known (by omega) (by omega) (funext fun j => (if_neg (Nat.not_lt_zero _)).symm)
set_option maxHeartbeats 4000000 in
/-- a copy -/
theorem ct_copies_fresh_known   : CT l D cl tys yX10_copies cX10_copies 3 none ({ frames := 0, cells := 0, slots := 0, locals := 0 } : Room) [.ref (ma 2), .ref (ma 1)] (HM D cl tys mi cI cJ cZ ma known fresh_ saved images isImage thrown tape taped size_ at_ begin_ token value open_ bad badPlace faultKind faultPlace xs ys pairs rows top heaps endsBehind path order firstOrder ordersMany tSort tMany numbers) (Qv (fun (u : Nat → Int32) => u = cpy fresh_ known) (fun (u : Nat → Int32) => HM D cl tys mi cI cJ cZ ma u fresh_ saved images isImage thrown tape taped size_ at_ begin_ token value open_ bad badPlace faultKind faultPlace xs ys pairs rows top heaps endsBehind path order firstOrder ordersMany tSort tMany numbers) (AM ma)) (AM ma) := by
  refine CT.of (L := [(0, .ref (ma 2)), (1, .ref (ma 1))]) rfl (by decide +kernel) rfl (Nat.le_of_ble_eq_true rfl) ?_
  refine g_iconst (v := nI 0) dX10_copies_0 (by decide +kernel) ?_
  refine g_istore_n (L' := [(0, _), (1, _), (2, _)]) 2 dX10_copies_1 rfl (by decide) rfl rfl ?_
  have loop2 : ∀ (q2 : Nat) (k : Nat) (to1 : Nat → Int32), 1868 - k < q2 → (k ≤ 1868) → (to1 = fun j => if j < k then fresh_ j else known j) → GG l D cl tys cX10_copies 3 none RX10 ({ frames := 0, cells := 0, slots := 0, locals := 0 } : Room) (AM ma) MT (QM (Qv (fun (u : Nat → Int32) => u = cpy fresh_ known) (fun (u : Nat → Int32) => HM D cl tys mi cI cJ cZ ma u fresh_ saved images isImage thrown tape taped size_ at_ begin_ token value open_ bad badPlace faultKind faultPlace xs ys pairs rows top heaps endsBehind path order firstOrder ordersMany tSort tMany numbers) (AM ma)) 0 0 (AM ma)) (HM D cl tys mi cI cJ cZ ma to1 fresh_ saved images isImage thrown tape taped size_ at_ begin_ token value open_ bad badPlace faultKind faultPlace xs ys pairs rows top heaps endsBehind path order firstOrder ordersMany tSort tMany numbers) 0 0 2 [(0, .ref (ma 2)), (1, .ref (ma 1)), (2, .int (nI k))] [] := by
    intro q2
    induction q2 with
    | zero => intro k to1 hq2; exact absurd hq2 (Nat.not_lt_zero _)
    | succ q2 ih2 =>
      intro k to1 hq2 hk hi
      refine g_iload_n 2 dX10_copies_2 rfl rfl ?_
      refine g_sipush (v := nI 1868) dX10_copies_3 (by decide +kernel) ?_
      refine g_icmp_ge_n (tgt := 21) dX10_copies_6 (by decide) (by omega) (by omega) (fun c6 => ?_) (fun c6 => ?_)
      · skip
        exact g_vret to1 dX10_copies_21 (Nat.le_refl _) (Nat.le_refl _) (by have e9 : k = 1868 := (by omega); rw [hi, e9]; rfl) (fun _ h => h)
      · skip
        refine g_aload_n 1 dX10_copies_9 rfl rfl ?_
        refine g_iload_n 2 dX10_copies_10 rfl rfl ?_
        refine g_aload_n 0 dX10_copies_11 rfl rfl ?_
        refine g_iload_n 2 dX10_copies_12 rfl rfl ?_
        refine m_ld_fresh dX10_copies_13 (by omega) ?_
        refine m_st_known dX10_copies_14 (by omega) ?_
        refine g_iinc_n (b := 1) (L' := [(0, _), (1, _), (2, _)]) dX10_copies_15 rfl rfl (by decide) rfl rfl ?_
        refine g_goto (tgt := 2) dX10_copies_18 (by decide) ?_
        refine ih2 (k + 1) _ (by omega) (by omega) ?_
        funext j
        unfold up
        rw [hi]
        by_cases q : j = k
        · rw [if_pos q, q, if_pos (Nat.lt_succ_self _)]
        · rw [if_neg q]; dsimp only; by_cases q2 : j < k
          · rw [if_pos q2, if_pos (by omega)]
          · rw [if_neg q2, if_neg (by omega)]
  exact loop2 1869 0 known (by omega) (by omega) (funext fun j => (if_neg (Nat.not_lt_zero _)).symm)
set_option maxHeartbeats 4000000 in
/-- a talk at first -/
theorem ct_begins_known   : CT l D cl tys yX10_begins cX10_begins 2 none ({ frames := 0, cells := 0, slots := 0, locals := 0 } : Room) [.ref (ma 1)] (HM D cl tys mi cI cJ cZ ma known fresh_ saved images isImage thrown tape taped size_ at_ begin_ token value open_ bad badPlace faultKind faultPlace xs ys pairs rows top heaps endsBehind path order firstOrder ordersMany tSort tMany numbers) (Qv (fun (u : Nat → Int32) => u = begF known) (fun (u : Nat → Int32) => HM D cl tys mi cI cJ cZ ma u fresh_ saved images isImage thrown tape taped size_ at_ begin_ token value open_ bad badPlace faultKind faultPlace xs ys pairs rows top heaps endsBehind path order firstOrder ordersMany tSort tMany numbers) (AM ma)) (AM ma) := by
  refine CT.of (L := [(0, .ref (ma 1))]) rfl (by decide +kernel) rfl (Nat.le_of_ble_eq_true rfl) ?_
  refine g_iconst (v := nI 0) dX10_begins_0 (by decide +kernel) ?_
  refine g_istore_n (L' := [(0, _), (1, _)]) 1 dX10_begins_1 rfl (by decide) rfl rfl ?_
  have loop2 : ∀ (q2 : Nat) (k : Nat) (to1 : Nat → Int32), 1868 - k < q2 → (k ≤ 1868) → (to1 = fun j => if j < k then nI 0 else known j) → GG l D cl tys cX10_begins 2 none RX10 ({ frames := 0, cells := 0, slots := 0, locals := 0 } : Room) (AM ma) MT (QM (Qv (fun (u : Nat → Int32) => u = begF known) (fun (u : Nat → Int32) => HM D cl tys mi cI cJ cZ ma u fresh_ saved images isImage thrown tape taped size_ at_ begin_ token value open_ bad badPlace faultKind faultPlace xs ys pairs rows top heaps endsBehind path order firstOrder ordersMany tSort tMany numbers) (AM ma)) 0 0 (AM ma)) (HM D cl tys mi cI cJ cZ ma to1 fresh_ saved images isImage thrown tape taped size_ at_ begin_ token value open_ bad badPlace faultKind faultPlace xs ys pairs rows top heaps endsBehind path order firstOrder ordersMany tSort tMany numbers) 0 0 2 [(0, .ref (ma 1)), (1, .int (nI k))] [] := by
    intro q2
    induction q2 with
    | zero => intro k to1 hq2; exact absurd hq2 (Nat.not_lt_zero _)
    | succ q2 ih2 =>
      intro k to1 hq2 hk hi
      refine g_iload_n 1 dX10_begins_2 rfl rfl ?_
      refine g_sipush (v := nI 1868) dX10_begins_3 (by decide +kernel) ?_
      refine g_icmp_ge_n (tgt := 19) dX10_begins_6 (by decide) (by omega) (by omega) (fun c6 => ?_) (fun c6 => ?_)
      · skip
        refine g_aload_n 0 dX10_begins_19 rfl rfl ?_
        refine g_iconst (v := nI 1) dX10_begins_20 (by decide +kernel) ?_
        refine g_iconst (v := nI 2) dX10_begins_21 (by decide +kernel) ?_
        refine m_st_known dX10_begins_22 (by omega) ?_
        refine g_aload_n 0 dX10_begins_23 rfl rfl ?_
        refine g_iconst (v := nI 2) dX10_begins_24 (by decide +kernel) ?_
        refine g_bipush (v := nI 20) dX10_begins_25 (by decide +kernel) ?_
        refine m_st_known dX10_begins_27 (by omega) ?_
        refine g_aload_n 0 dX10_begins_28 rfl rfl ?_
        refine g_iconst (v := nI 3) dX10_begins_29 (by decide +kernel) ?_
        refine g_bipush (v := nI 120) dX10_begins_30 (by decide +kernel) ?_
        refine m_st_known dX10_begins_32 (by omega) ?_
        exact g_vret _ dX10_begins_33 (Nat.le_refl _) (Nat.le_refl _) (by have e9 : k = 1868 := (by omega); rw [hi, e9]; rfl) (fun _ h => h)
      · skip
        refine g_aload_n 0 dX10_begins_9 rfl rfl ?_
        refine g_iload_n 1 dX10_begins_10 rfl rfl ?_
        refine g_iconst (v := nI 0) dX10_begins_11 (by decide +kernel) ?_
        refine m_st_known dX10_begins_12 (by omega) ?_
        refine g_iinc_n (b := 1) (L' := [(0, _), (1, _)]) dX10_begins_13 rfl rfl (by decide) rfl rfl ?_
        refine g_goto (tgt := 2) dX10_begins_16 (by decide) ?_
        refine ih2 (k + 1) _ (by omega) (by omega) ?_
        funext j
        unfold up
        rw [hi]
        by_cases q : j = k
        · rw [if_pos q, q, if_pos (Nat.lt_succ_self _)]
        · rw [if_neg q]; dsimp only; by_cases q2 : j < k
          · rw [if_pos q2, if_pos (by omega)]
          · rw [if_neg q2, if_neg (by omega)]
  exact loop2 1869 0 known (by omega) (by omega) (funext fun j => (if_neg (Nat.not_lt_zero _)).symm)
set_option maxHeartbeats 4000000 in
/-- a talk at first -/
theorem ct_begins_fresh   : CT l D cl tys yX10_begins cX10_begins 2 none ({ frames := 0, cells := 0, slots := 0, locals := 0 } : Room) [.ref (ma 2)] (HM D cl tys mi cI cJ cZ ma known fresh_ saved images isImage thrown tape taped size_ at_ begin_ token value open_ bad badPlace faultKind faultPlace xs ys pairs rows top heaps endsBehind path order firstOrder ordersMany tSort tMany numbers) (Qv (fun (u : Nat → Int32) => u = begF fresh_) (fun (u : Nat → Int32) => HM D cl tys mi cI cJ cZ ma known u saved images isImage thrown tape taped size_ at_ begin_ token value open_ bad badPlace faultKind faultPlace xs ys pairs rows top heaps endsBehind path order firstOrder ordersMany tSort tMany numbers) (AM ma)) (AM ma) := by
  refine CT.of (L := [(0, .ref (ma 2))]) rfl (by decide +kernel) rfl (Nat.le_of_ble_eq_true rfl) ?_
  refine g_iconst (v := nI 0) dX10_begins_0 (by decide +kernel) ?_
  refine g_istore_n (L' := [(0, _), (1, _)]) 1 dX10_begins_1 rfl (by decide) rfl rfl ?_
  have loop2 : ∀ (q2 : Nat) (k : Nat) (to1 : Nat → Int32), 1868 - k < q2 → (k ≤ 1868) → (to1 = fun j => if j < k then nI 0 else fresh_ j) → GG l D cl tys cX10_begins 2 none RX10 ({ frames := 0, cells := 0, slots := 0, locals := 0 } : Room) (AM ma) MT (QM (Qv (fun (u : Nat → Int32) => u = begF fresh_) (fun (u : Nat → Int32) => HM D cl tys mi cI cJ cZ ma known u saved images isImage thrown tape taped size_ at_ begin_ token value open_ bad badPlace faultKind faultPlace xs ys pairs rows top heaps endsBehind path order firstOrder ordersMany tSort tMany numbers) (AM ma)) 0 0 (AM ma)) (HM D cl tys mi cI cJ cZ ma known to1 saved images isImage thrown tape taped size_ at_ begin_ token value open_ bad badPlace faultKind faultPlace xs ys pairs rows top heaps endsBehind path order firstOrder ordersMany tSort tMany numbers) 0 0 2 [(0, .ref (ma 2)), (1, .int (nI k))] [] := by
    intro q2
    induction q2 with
    | zero => intro k to1 hq2; exact absurd hq2 (Nat.not_lt_zero _)
    | succ q2 ih2 =>
      intro k to1 hq2 hk hi
      refine g_iload_n 1 dX10_begins_2 rfl rfl ?_
      refine g_sipush (v := nI 1868) dX10_begins_3 (by decide +kernel) ?_
      refine g_icmp_ge_n (tgt := 19) dX10_begins_6 (by decide) (by omega) (by omega) (fun c6 => ?_) (fun c6 => ?_)
      · skip
        refine g_aload_n 0 dX10_begins_19 rfl rfl ?_
        refine g_iconst (v := nI 1) dX10_begins_20 (by decide +kernel) ?_
        refine g_iconst (v := nI 2) dX10_begins_21 (by decide +kernel) ?_
        refine m_st_fresh dX10_begins_22 (by omega) ?_
        refine g_aload_n 0 dX10_begins_23 rfl rfl ?_
        refine g_iconst (v := nI 2) dX10_begins_24 (by decide +kernel) ?_
        refine g_bipush (v := nI 20) dX10_begins_25 (by decide +kernel) ?_
        refine m_st_fresh dX10_begins_27 (by omega) ?_
        refine g_aload_n 0 dX10_begins_28 rfl rfl ?_
        refine g_iconst (v := nI 3) dX10_begins_29 (by decide +kernel) ?_
        refine g_bipush (v := nI 120) dX10_begins_30 (by decide +kernel) ?_
        refine m_st_fresh dX10_begins_32 (by omega) ?_
        exact g_vret _ dX10_begins_33 (Nat.le_refl _) (Nat.le_refl _) (by have e9 : k = 1868 := (by omega); rw [hi, e9]; rfl) (fun _ h => h)
      · skip
        refine g_aload_n 0 dX10_begins_9 rfl rfl ?_
        refine g_iload_n 1 dX10_begins_10 rfl rfl ?_
        refine g_iconst (v := nI 0) dX10_begins_11 (by decide +kernel) ?_
        refine m_st_fresh dX10_begins_12 (by omega) ?_
        refine g_iinc_n (b := 1) (L' := [(0, _), (1, _)]) dX10_begins_13 rfl rfl (by decide) rfl rfl ?_
        refine g_goto (tgt := 2) dX10_begins_16 (by decide) ?_
        refine ih2 (k + 1) _ (by omega) (by omega) ?_
        funext j
        unfold up
        rw [hi]
        by_cases q : j = k
        · rw [if_pos q, q, if_pos (Nat.lt_succ_self _)]
        · rw [if_neg q]; dsimp only; by_cases q2 : j < k
          · rw [if_pos q2, if_pos (by omega)]
          · rw [if_neg q2, if_neg (by omega)]
  exact loop2 1869 0 fresh_ (by omega) (by omega) (funext fun j => (if_neg (Nat.not_lt_zero _)).symm)
set_option maxHeartbeats 4000000 in
/-- how many are left if one alone lies -/
theorem ct_leftBy (T : Talk) (i : Nat) (hK : KIs known T) (hi : i < tNS T) : CT l D cl tys yX10_leftBy cX10_leftBy 3 (some .int) ({ frames := 88, cells := 0, slots := 0, locals := 2590 } : Room) [.ref (ma 0), .int (nI i)] (HM D cl tys mi cI cJ cZ ma known fresh_ saved images isImage thrown tape taped size_ at_ begin_ token value open_ bad badPlace faultKind faultPlace xs ys pairs rows top heaps endsBehind path order firstOrder ordersMany tSort tMany numbers) (Qi (fun (v : Int32) (u : (Nat → Nat) × (Nat → Int64) × (Nat → Nat) × (Nat → Nat) × Nat × (Nat → Int32)) => v = nI (leftN (tLi T i) (tNT T))) (fun (u : (Nat → Nat) × (Nat → Int64) × (Nat → Nat) × (Nat → Nat) × Nat × (Nat → Int32)) => HM D cl tys mi cI cJ cZ ma known fresh_ u.2.2.2.2.2 images isImage thrown tape taped size_ at_ begin_ token value open_ bad badPlace faultKind faultPlace u.2.2.1 u.2.2.2.1 u.2.2.2.2.1 u.2.1 21 u.1 endsBehind path order firstOrder ordersMany tSort tMany numbers) (AM ma)) (AM ma) := by
  obtain ⟨⟨o1, o2, o3, o4, o5, o6, o7, o8, o9, o10⟩, k0, k1, k2, k3, k4, k5, k6, k7, k8⟩ := id hK
  refine CT.of (L := [(0, .ref (ma 0)), (1, .int (nI i))]) rfl (by decide +kernel) rfl (Nat.le_of_ble_eq_true rfl) ?_
  refine g_aload_n 0 dX10_leftBy_0 rfl rfl ?_
  refine m_get_known dX10_leftBy_1 ?_
  refine g_aload_n 0 dX10_leftBy_4 rfl rfl ?_
  refine m_get_saved dX10_leftBy_5 ?_
  refine m_cSv (ct_copies_known_saved) hsX10_copies hyX10_copies rfl ⟨Nat.le_of_ble_eq_true rfl, Nat.le_of_ble_eq_true rfl⟩ ⟨Nat.zero_le _, Nat.zero_le _⟩ rfl (Nat.le_of_ble_eq_true rfl) dX10_leftBy_8 (fun sv1 hsv1 => ?_)
  have hsv1 : sv1 = _ := hsv1
  refine g_iconst (v := nI 0) dX10_leftBy_11 (by decide +kernel) ?_
  refine g_istore_n (L' := [(0, _), (1, _), (2, _)]) 2 dX10_leftBy_12 rfl (by decide) rfl rfl ?_
  have loop13 : ∀ (q13 : Nat) (s : Nat) (known1 : Nat → Int32), tNS T - s < q13 → (s ≤ tNS T) → (∀ z, z < s → known1 (8 + 3 * z + 1) = bI (decide (z = i))) → (∀ j, (∀ z, z < s → ¬ j = 8 + 3 * z + 1) → known1 j = known j) → GG l D cl tys cX10_leftBy 3 (some .int) RX10 ({ frames := 88, cells := 0, slots := 0, locals := 2590 } : Room) (AM ma) MT (QM (Qi (fun (v : Int32) (u : (Nat → Nat) × (Nat → Int64) × (Nat → Nat) × (Nat → Nat) × Nat × (Nat → Int32)) => v = nI (leftN (tLi T i) (tNT T))) (fun (u : (Nat → Nat) × (Nat → Int64) × (Nat → Nat) × (Nat → Nat) × Nat × (Nat → Int32)) => HM D cl tys mi cI cJ cZ ma known fresh_ u.2.2.2.2.2 images isImage thrown tape taped size_ at_ begin_ token value open_ bad badPlace faultKind faultPlace u.2.2.1 u.2.2.2.1 u.2.2.2.2.1 u.2.1 21 u.1 endsBehind path order firstOrder ordersMany tSort tMany numbers) (AM ma)) 0 0 (AM ma)) (HM D cl tys mi cI cJ cZ ma known1 fresh_ sv1 images isImage thrown tape taped size_ at_ begin_ token value open_ bad badPlace faultKind faultPlace xs ys pairs rows top heaps endsBehind path order firstOrder ordersMany tSort tMany numbers) 0 0 13 [(0, .ref (ma 0)), (1, .int (nI i)), (2, .int (nI s))] [] := by
    intro q13
    induction q13 with
    | zero => intro s known1 hq13; exact absurd hq13 (Nat.not_lt_zero _)
    | succ q13 ih13 =>
      intro s known1 hq13 hs h1 h2
      refine g_iload_n 2 dX10_leftBy_13 rfl rfl ?_
      refine g_aload_n 0 dX10_leftBy_14 rfl rfl ?_
      refine m_get_known dX10_leftBy_15 ?_
      refine g_iconst (v := nI 5) dX10_leftBy_18 (by decide +kernel) ?_
      refine m_ld_known dX10_leftBy_19 (by omega) ?_
      refine GG.topi (show known1 5 = nI (tNS T) by rw [h2 5 (fun z hz => by omega)]; exact k5) ?_
      refine g_icmp_ge_n (tgt := 52) dX10_leftBy_20 (by decide) (by omega) (by omega) (fun c20 => ?_) (fun c20 => ?_)
      · skip
        refine g_aload_n 0 dX10_leftBy_52 rfl rfl ?_
        refine m_cVi (ct_leftNow (tLi T i) (hK.li (fun z hz => h1 z (by omega)) (fun j hj => h2 j (fun z hz => hj z (by omega))))) hvX10_leftNow hyX10_leftNow rfl ⟨Nat.le_of_ble_eq_true rfl, Nat.le_of_ble_eq_true rfl⟩ ⟨Nat.zero_le _, Nat.zero_le _⟩ rfl (Nat.le_of_ble_eq_true rfl) dX10_leftBy_53 m_rec (fun r ul hul => ?_)
        obtain ⟨heapsL, rowsZ, xsL, ysL, pairsL⟩ := ul
        dsimp only
        obtain ⟨hl, hr, hr7⟩ := hul
        subst hr7
        refine g_istore_n (L' := [(0, _), (1, _), (2, _)]) 2 dX10_leftBy_56 rfl (by decide) rfl rfl ?_
        refine g_aload_n 0 dX10_leftBy_57 rfl rfl ?_
        refine m_get_saved dX10_leftBy_58 ?_
        refine g_aload_n 0 dX10_leftBy_61 rfl rfl ?_
        refine m_get_known dX10_leftBy_62 ?_
        refine m_cSv (ct_copies_saved_known) hsX10_copies hyX10_copies rfl ⟨Nat.le_of_ble_eq_true rfl, Nat.le_of_ble_eq_true rfl⟩ ⟨Nat.zero_le _, Nat.zero_le _⟩ rfl (Nat.le_of_ble_eq_true rfl) dX10_leftBy_65 (fun kn1 hkn1 => ?_)
        have hkn1 : kn1 = _ := hkn1
        have hkk : kn1 = known := by
          rw [hkn1, hsv1]; funext j; unfold cpy
          by_cases q : j < 1868
          · rw [if_pos q, if_pos q]
          · rw [if_neg q]; exact h2 j (fun z hz => by omega)
        rw [hkk]
        refine g_iload_n 2 dX10_leftBy_68 rfl rfl ?_
        exact g_iret (heapsL, rowsZ, xsL, ysL, pairsL, sv1) dX10_leftBy_69 (Nat.le_refl _) (Nat.le_refl _) (rfl) (fun _ h => h)
      · skip
        refine g_aload_n 0 dX10_leftBy_23 rfl rfl ?_
        refine m_get_known dX10_leftBy_24 ?_
        refine g_bipush (v := nI 8) dX10_leftBy_27 (by decide +kernel) ?_
        refine g_iconst (v := nI 3) dX10_leftBy_29 (by decide +kernel) ?_
        refine g_iload_n 2 dX10_leftBy_30 rfl rfl ?_
        refine g_imul_n dX10_leftBy_31 ?_
        refine g_iadd_n dX10_leftBy_32 ?_
        refine g_iconst (v := nI 1) dX10_leftBy_33 (by decide +kernel) ?_
        refine g_iadd_n dX10_leftBy_34 ?_
        refine g_iload_n 2 dX10_leftBy_35 rfl rfl ?_
        refine g_iload_n 1 dX10_leftBy_36 rfl rfl ?_
        refine g_icmp_ne_n (tgt := 44) dX10_leftBy_37 (by decide) (by omega) (by omega) (fun c37 => ?_) (fun c37 => ?_)
        · skip
          refine g_iconst (v := nI 0) dX10_leftBy_44 (by decide +kernel) ?_
          refine m_st_known dX10_leftBy_45 (by omega) ?_
          refine g_iinc_n (b := 1) (L' := [(0, _), (1, _), (2, _)]) dX10_leftBy_46 rfl rfl (by decide) rfl rfl ?_
          refine g_goto (tgt := 13) dX10_leftBy_49 (by decide) ?_
          refine ih13 (s + 1) _ (by omega) (by omega) (fun z hz => ?_) (fun j hj => ?_)
          · by_cases q : z = s
            · rw [q, up_s]; first | (rw [decide_eq_true c37]; rfl) | (rw [decide_eq_false c37]; rfl)
            · rw [up_n (by omega)]; exact h1 z (by omega)
          · rw [up_n (hj s (Nat.lt_succ_self _))]; exact h2 j (fun z hz => hj z (by omega))
        · skip
          refine g_iconst (v := nI 1) dX10_leftBy_40 (by decide +kernel) ?_
          refine g_goto (tgt := 45) dX10_leftBy_41 (by decide) ?_
          refine m_st_known dX10_leftBy_45 (by omega) ?_
          refine g_iinc_n (b := 1) (L' := [(0, _), (1, _), (2, _)]) dX10_leftBy_46 rfl rfl (by decide) rfl rfl ?_
          refine g_goto (tgt := 13) dX10_leftBy_49 (by decide) ?_
          refine ih13 (s + 1) _ (by omega) (by omega) (fun z hz => ?_) (fun j hj => ?_)
          · by_cases q : z = s
            · rw [q, up_s]; first | (rw [decide_eq_true c37]; rfl) | (rw [decide_eq_false c37]; rfl)
            · rw [up_n (by omega)]; exact h1 z (by omega)
          · rw [up_n (hj s (Nat.lt_succ_self _))]; exact h2 j (fun z hz => hj z (by omega))
  exact loop13 (tNS T + 1) 0 known (by omega) (by omega) (fun z hz => absurd hz (Nat.not_lt_zero _)) (fun _ _ => rfl)
set_option maxHeartbeats 4000000 in
/-- how many are left if one alone lies -/
theorem ct_liar (T : Talk) (s0 : Int32) (hK : KIs known T) : CT l D cl tys yX10_liar cX10_liar 2 (some .int) ({ frames := 89, cells := 0, slots := 0, locals := 2612 } : Room) [.ref (ma 0), .int s0] (HM D cl tys mi cI cJ cZ ma known fresh_ saved images isImage thrown tape taped size_ at_ begin_ token value open_ bad badPlace faultKind faultPlace xs ys pairs rows top heaps endsBehind path order firstOrder ordersMany tSort tMany numbers) (Qi (fun (v : Int32) (u : (Nat × (Nat → Nat) × (Nat → Nat) × Nat × (Nat → Int64) × Nat × (Nat → Nat)) × (Nat → Int32)) => ans (aLiar T s0) u.1.1 v) (fun (u : (Nat × (Nat → Nat) × (Nat → Nat) × Nat × (Nat → Int64) × Nat × (Nat → Nat)) × (Nat → Int32)) => HM D cl tys mi cI cJ cZ ma known fresh_ u.2 images isImage u.1.1 tape taped size_ at_ begin_ token value open_ bad badPlace faultKind faultPlace u.1.2.1 u.1.2.2.1 u.1.2.2.2.1 u.1.2.2.2.2.1 u.1.2.2.2.2.2.1 u.1.2.2.2.2.2.2 endsBehind path order firstOrder ordersMany tSort tMany numbers) (AM ma)) (AM ma) := by
  obtain ⟨⟨o1, o2, o3, o4, o5, o6, o7, o8, o9, o10⟩, k0, k1, k2, k3, k4, k5, k6, k7, k8⟩ := id hK
  refine CT.of (L := [(0, .ref (ma 0)), (1, .int s0)]) rfl (by decide +kernel) rfl (Nat.le_of_ble_eq_true rfl) ?_
  rcases his : iR s0 (tNS T) with _ | i
  · skip
    refine g_aload_n 0 dX10_liar_0 rfl rfl ?_
    refine g_aload_n 0 dX10_liar_1 rfl rfl ?_
    refine g_iload_n 1 dX10_liar_2 rfl rfl ?_
    refine m_cVi (ct_isSpeaker _ (tNS T) k5 (by omega)) hvX10_isSpeaker hyX10_isSpeaker rfl ⟨Nat.le_of_ble_eq_true rfl, Nat.le_of_ble_eq_true rfl⟩ ⟨Nat.zero_le _, Nat.zero_le _⟩ rfl (Nat.le_of_ble_eq_true rfl) dX10_liar_3 m_rec (fun r u9 hp => ?_)
    obtain rfl := hp
    refine GG.topi (y := nI 0) (by rw [his]; rfl) ?_
    refine g_if_eq_n (tgt := 13) dX10_liar_6 (by decide) (by decide) (fun _ => ?_) (fun h => absurd h (by decide))
    refine g_iconst (v := nI 1) dX10_liar_13 (by decide +kernel) ?_
    refine m_put_thrown dX10_liar_14 ?_
    refine g_aload_n 0 dX10_liar_17 rfl rfl ?_
    refine m_get_thrown dX10_liar_18 ?_
    refine g_if_le_n (tgt := 28) dX10_liar_21 (by decide) (by decide) (fun h => absurd h (by decide)) (fun _ => ?_)
    refine g_iconst (v := nI 0) dX10_liar_24 (by decide +kernel) ?_
    refine g_goto (tgt := 33) dX10_liar_25 (by decide) ?_
    exact g_iret ((_, _, _, _, _, _, _), _) dX10_liar_33 (Nat.le_refl _) (Nat.le_refl _) (by exact ansF (by first | (unfold aLiar; rw [his]; done) | (unfold aLiar; rw [his]; rfl) | (unfold aLiar; simp only [his]; done) | (unfold aLiar; simp only [his]; rfl)) (Nat.succ_ne_zero _)) (fun _ h => h)
  · skip
    obtain ⟨hi, ei⟩ := iR_some his
    subst ei
    refine g_aload_n 0 dX10_liar_0 rfl rfl ?_
    refine g_aload_n 0 dX10_liar_1 rfl rfl ?_
    refine g_iload_n 1 dX10_liar_2 rfl rfl ?_
    refine m_cVi (ct_isSpeaker _ (tNS T) k5 (by omega)) hvX10_isSpeaker hyX10_isSpeaker rfl ⟨Nat.le_of_ble_eq_true rfl, Nat.le_of_ble_eq_true rfl⟩ ⟨Nat.zero_le _, Nat.zero_le _⟩ rfl (Nat.le_of_ble_eq_true rfl) dX10_liar_3 m_rec (fun r u9 hp => ?_)
    obtain rfl := hp
    refine GG.topi (y := nI 1) (by rw [his]; rfl) ?_
    refine g_if_eq_n (tgt := 13) dX10_liar_6 (by decide) (by decide) (fun h => absurd h (by decide)) (fun _ => ?_)
    refine g_iconst (v := nI 0) dX10_liar_9 (by decide +kernel) ?_
    refine g_goto (tgt := 14) dX10_liar_10 (by decide) ?_
    refine m_put_thrown dX10_liar_14 ?_
    refine g_aload_n 0 dX10_liar_17 rfl rfl ?_
    refine m_get_thrown dX10_liar_18 ?_
    refine g_if_le_n (tgt := 28) dX10_liar_21 (by decide) (by decide) (fun _ => ?_) (fun h => absurd h (by decide))
    refine g_aload_n 0 dX10_liar_28 rfl rfl ?_
    refine g_iload_n 1 dX10_liar_29 rfl rfl ?_
    refine m_cVi (ct_leftBy T _ hK (by omega)) hvX10_leftBy hyX10_leftBy rfl ⟨Nat.le_of_ble_eq_true rfl, Nat.le_of_ble_eq_true rfl⟩ ⟨Nat.zero_le _, Nat.zero_le _⟩ rfl (Nat.le_of_ble_eq_true rfl) dX10_liar_30 m_rec (fun r ul hr7 => ?_)
    obtain ⟨heapsL, rowsZ, xsL, ysL, pairsL, svL⟩ := ul
    dsimp only
    obtain rfl := hr7
    exact g_iret ((_, _, _, _, _, _, _), _) dX10_liar_33 (Nat.le_refl _) (Nat.le_refl _) (by exact ansT (by first | (unfold aLiar; rw [his]; done) | (unfold aLiar; rw [his]; rfl) | (unfold aLiar; simp only [his]; done) | (unfold aLiar; simp only [his]; rfl)) (rfl)) (fun _ h => h)
set_option maxHeartbeats 4000000 in
/-- who might be the only liar -/
theorem ct_which (T : Talk) (hK : KIs known T) : CT l D cl tys yX10_which cX10_which 3 (some .int) ({ frames := 89, cells := 0, slots := 0, locals := 2612 } : Room) [.ref (ma 0)] (HM D cl tys mi cI cJ cZ ma known fresh_ saved images isImage thrown tape taped size_ at_ begin_ token value open_ bad badPlace faultKind faultPlace xs ys pairs rows top heaps endsBehind path order firstOrder ordersMany tSort tMany numbers) (Qi (fun (v : Int32) (u : (Nat × (Nat → Nat) × (Nat → Nat) × Nat × (Nat → Int64) × Nat × (Nat → Nat)) × (Nat → Int32)) => u.1.1 = 0 ∧ v = whF T (tNS T)) (fun (u : (Nat × (Nat → Nat) × (Nat → Nat) × Nat × (Nat → Int64) × Nat × (Nat → Nat)) × (Nat → Int32)) => HM D cl tys mi cI cJ cZ ma known fresh_ u.2 images isImage u.1.1 tape taped size_ at_ begin_ token value open_ bad badPlace faultKind faultPlace u.1.2.1 u.1.2.2.1 u.1.2.2.2.1 u.1.2.2.2.2.1 u.1.2.2.2.2.2.1 u.1.2.2.2.2.2.2 endsBehind path order firstOrder ordersMany tSort tMany numbers) (AM ma)) (AM ma) := by
  obtain ⟨⟨o1, o2, o3, o4, o5, o6, o7, o8, o9, o10⟩, k0, k1, k2, k3, k4, k5, k6, k7, k8⟩ := id hK
  refine CT.of (L := [(0, .ref (ma 0))]) rfl (by decide +kernel) rfl (Nat.le_of_ble_eq_true rfl) ?_
  refine g_aload_n 0 dX10_which_0 rfl rfl ?_
  refine g_iconst (v := nI 0) dX10_which_1 (by decide +kernel) ?_
  refine m_put_thrown dX10_which_2 ?_
  refine g_iconst (v := nI 0) dX10_which_5 (by decide +kernel) ?_
  refine g_istore_n (L' := [(0, _), (1, _)]) 1 dX10_which_6 rfl (by decide) rfl rfl ?_
  refine g_iconst (v := nI 0) dX10_which_7 (by decide +kernel) ?_
  refine g_istore_n (L' := [(0, _), (1, _), (2, _)]) 2 dX10_which_8 rfl (by decide) rfl rfl ?_
  have loop9 : ∀ (q9 : Nat) (s : Nat) (hp1 : Nat → Nat) (rw1 : Nat → Int64) (xs1 ys1 : Nat → Nat) (pr1 tp1 : Nat) (sv1 : Nat → Int32), tNS T - s < q9 → (s ≤ tNS T) → GG l D cl tys cX10_which 3 (some .int) RX10 ({ frames := 89, cells := 0, slots := 0, locals := 2612 } : Room) (AM ma) MT (QM (Qi (fun (v : Int32) (u : (Nat × (Nat → Nat) × (Nat → Nat) × Nat × (Nat → Int64) × Nat × (Nat → Nat)) × (Nat → Int32)) => u.1.1 = 0 ∧ v = whF T (tNS T)) (fun (u : (Nat × (Nat → Nat) × (Nat → Nat) × Nat × (Nat → Int64) × Nat × (Nat → Nat)) × (Nat → Int32)) => HM D cl tys mi cI cJ cZ ma known fresh_ u.2 images isImage u.1.1 tape taped size_ at_ begin_ token value open_ bad badPlace faultKind faultPlace u.1.2.1 u.1.2.2.1 u.1.2.2.2.1 u.1.2.2.2.2.1 u.1.2.2.2.2.2.1 u.1.2.2.2.2.2.2 endsBehind path order firstOrder ordersMany tSort tMany numbers) (AM ma)) 0 0 (AM ma)) (HM D cl tys mi cI cJ cZ ma known fresh_ sv1 images isImage 0 tape taped size_ at_ begin_ token value open_ bad badPlace faultKind faultPlace xs1 ys1 pr1 rw1 tp1 hp1 endsBehind path order firstOrder ordersMany tSort tMany numbers) 0 0 9 [(0, .ref (ma 0)), (1, .int (whF T s)), (2, .int (nI s))] [] := by
    intro q9
    induction q9 with
    | zero => intro s hp1 rw1 xs1 ys1 pr1 tp1 sv1 hq9; exact absurd hq9 (Nat.not_lt_zero _)
    | succ q9 ih9 =>
      intro s hp1 rw1 xs1 ys1 pr1 tp1 sv1 hq9 hs
      refine g_iload_n 2 dX10_which_9 rfl rfl ?_
      refine g_aload_n 0 dX10_which_10 rfl rfl ?_
      refine m_get_known dX10_which_11 ?_
      refine g_iconst (v := nI 5) dX10_which_14 (by decide +kernel) ?_
      refine m_ld_known dX10_which_15 (by omega) ?_
      refine GG.topi k5 ?_
      refine g_icmp_ge_n (tgt := 44) dX10_which_16 (by decide) (by omega) (by omega) (fun c16 => ?_) (fun c16 => ?_)
      · skip
        refine g_iload_n 1 dX10_which_44 rfl rfl ?_
        exact g_iret ((_, _, _, _, _, _, _), _) dX10_which_45 (Nat.le_refl _) (Nat.le_refl _) (by have e9 : s = tNS T := (by omega); exact ⟨rfl, by rw [e9]⟩) (fun _ h => h)
      · skip
        refine g_iload_n 1 dX10_which_19 rfl rfl ?_
        refine g_aload_n 0 dX10_which_20 rfl rfl ?_
        refine g_iload_n 2 dX10_which_21 rfl rfl ?_
        refine m_cVi (ct_leftBy T _ hK (by omega)) hvX10_leftBy hyX10_leftBy rfl ⟨Nat.le_of_ble_eq_true rfl, Nat.le_of_ble_eq_true rfl⟩ ⟨Nat.zero_le _, Nat.zero_le _⟩ rfl (Nat.le_of_ble_eq_true rfl) dX10_which_22 m_rec (fun r ul hr7 => ?_)
        obtain ⟨heapsL, rowsZ, xsL, ysL, pairsL, svL⟩ := ul
        dsimp only
        obtain rfl := hr7
        refine g_iconst (v := nI 1) dX10_which_25 (by decide +kernel) ?_
        refine g_icmp_ne_n (tgt := 35) dX10_which_26 (by decide) (by have h9 := leftN_le (tLi T s) (tNT T); have h8 := wList_len (u := tUn T) (mo := tMost T) o1 o3; have h7 : tP (tLi T s) = (wList (tLow T) (tHigh T) (tMost T) (tUn T)).length := rfl; omega) (by omega) (fun c26 => ?_) (fun c26 => ?_)
        · skip
          refine g_iconst (v := nI 0) dX10_which_35 (by decide +kernel) ?_
          refine g_ior dX10_which_36 ?_
          refine g_istore_n (L' := [(0, _), (1, _), (2, _)]) 1 dX10_which_37 rfl (by decide) rfl rfl ?_
          refine g_iinc_n (b := 1) (L' := [(0, _), (1, _), (2, _)]) dX10_which_38 rfl rfl (by decide) rfl rfl ?_
          refine g_goto (tgt := 9) dX10_which_41 (by decide) ?_
          have e9 : whF T (s + 1) = whF T s ||| (if leftN (tLi T s) (tNT T) = 1 then nI 1 <<< (nI s &&& 31) else nI 0) := rfl
          first | rw [if_pos c26] at e9 | rw [if_neg c26] at e9
          rw [← e9]
          exact ih9 (s + 1) _ _ _ _ _ _ _ (by omega) (by omega)
        · skip
          refine g_iconst (v := nI 1) dX10_which_29 (by decide +kernel) ?_
          refine g_iload_n 2 dX10_which_30 rfl rfl ?_
          refine g_ishl dX10_which_31 ?_
          refine g_goto (tgt := 36) dX10_which_32 (by decide) ?_
          refine g_ior dX10_which_36 ?_
          refine g_istore_n (L' := [(0, _), (1, _), (2, _)]) 1 dX10_which_37 rfl (by decide) rfl rfl ?_
          refine g_iinc_n (b := 1) (L' := [(0, _), (1, _), (2, _)]) dX10_which_38 rfl rfl (by decide) rfl rfl ?_
          refine g_goto (tgt := 9) dX10_which_41 (by decide) ?_
          have e9 : whF T (s + 1) = whF T s ||| (if leftN (tLi T s) (tNT T) = 1 then nI 1 <<< (nI s &&& 31) else nI 0) := rfl
          first | rw [if_pos c26] at e9 | rw [if_neg c26] at e9
          rw [← e9]
          exact ih9 (s + 1) _ _ _ _ _ _ _ (by omega) (by omega)
  exact loop9 (tNS T + 1) 0 _ _ _ _ _ _ _ (by omega) (by omega)
set_option maxHeartbeats 4000000 in
/-- who should have said it -/
theorem ct_mended (T : Talk) (wh : Int32) (hK : KIs known T) : CT l D cl tys yX10_mended cX10_mended 6 (some .int) ({ frames := 89, cells := 0, slots := 0, locals := 2610 } : Room) [.ref (ma 0), .int wh] (HM D cl tys mi cI cJ cZ ma known fresh_ saved images isImage thrown tape taped size_ at_ begin_ token value open_ bad badPlace faultKind faultPlace xs ys pairs rows top heaps endsBehind path order firstOrder ordersMany tSort tMany numbers) (Qi (fun (v : Int32) (u : Nat × (Nat → Nat) × (Nat → Nat) × Nat × (Nat → Int64) × Nat × (Nat → Nat)) => isMended T wh u.1 v) (fun (u : Nat × (Nat → Nat) × (Nat → Nat) × Nat × (Nat → Int64) × Nat × (Nat → Nat)) => HM D cl tys mi cI cJ cZ ma known fresh_ saved images isImage u.1 tape taped size_ at_ begin_ token value open_ bad badPlace faultKind faultPlace u.2.1 u.2.2.1 u.2.2.2.1 u.2.2.2.2.1 u.2.2.2.2.2.1 u.2.2.2.2.2.2 endsBehind path order firstOrder ordersMany tSort tMany numbers) (AM ma)) (AM ma) := by
  obtain ⟨⟨o1, o2, o3, o4, o5, o6, o7, o8, o9, o10⟩, k0, k1, k2, k3, k4, k5, k6, k7, k8⟩ := id hK
  refine CT.of (L := [(0, .ref (ma 0)), (1, .int wh)]) rfl (by decide +kernel) rfl (Nat.le_of_ble_eq_true rfl) ?_
  rcases iR3 wh with e | e | e | ⟨e0, e1, e2, e3⟩
  · skip
    subst e
    refine g_aload_n 0 dX10_mended_0 rfl rfl ?_
    refine g_iload_n 1 dX10_mended_1 rfl rfl ?_
    refine g_i2l_n dX10_mended_2 (by omega) ?_
    refine g_lconst (v := lN 0) dX10_mended_3 (by decide +kernel) ?_
    refine g_ldc2 (v := lN 2) dX10_mended_4 q2376 ?_
    refine m_cSi (ct_within _ _ _) hsX10_within hyX10_within rfl ⟨Nat.le_of_ble_eq_true rfl, Nat.le_of_ble_eq_true rfl⟩ ⟨Nat.zero_le _, Nat.zero_le _⟩ rfl (Nat.le_of_ble_eq_true rfl) dX10_mended_7 (fun r u9 hp => ?_)
    obtain rfl := hp
    refine GG.topi (y := nI 1) (by decide +kernel) ?_
    refine g_if_eq_n (tgt := 17) dX10_mended_10 (by decide) (by decide) (fun h => absurd h (by decide)) (fun _ => ?_)
    refine g_iconst (v := nI 0) dX10_mended_13 (by decide +kernel) ?_
    refine g_goto (tgt := 18) dX10_mended_14 (by decide) ?_
    refine m_put_thrown dX10_mended_18 ?_
    refine g_aload_n 0 dX10_mended_21 rfl rfl ?_
    refine m_get_thrown dX10_mended_22 ?_
    refine g_if_le_n (tgt := 30) dX10_mended_25 (by decide) (by decide) (fun _ => ?_) (fun h => absurd h (by decide))
    refine g_iconst (v := nI 0) dX10_mended_30 (by decide +kernel) ?_
    refine g_istore_n (L' := [(0, _), (1, _), (2, _)]) 2 dX10_mended_31 rfl (by decide) rfl rfl ?_
    have loop32 : ∀ (q32 : Nat) (t : Nat) (hp1 : Nat → Nat) (rw1 : Nat → Int64) (xs1 ys1 : Nat → Nat) (pr1 tp1 : Nat), tNT T - t < q32 → (t ≤ tNT T) → (∀ t' s', t' < tNT T → s' < tNS T → ¬ s' = tWho T t' → (t' < t ∨ (t' = t ∧ s' < 0)) → ¬ leftN (tBy T t' s') (tNT T) = 1) → GG l D cl tys cX10_mended 6 (some .int) RX10 ({ frames := 89, cells := 0, slots := 0, locals := 2610 } : Room) (AM ma) MT (QM (Qi (fun (v : Int32) (u : Nat × (Nat → Nat) × (Nat → Nat) × Nat × (Nat → Int64) × Nat × (Nat → Nat)) => isMended T (nI 0) u.1 v) (fun (u : Nat × (Nat → Nat) × (Nat → Nat) × Nat × (Nat → Int64) × Nat × (Nat → Nat)) => HM D cl tys mi cI cJ cZ ma known fresh_ saved images isImage u.1 tape taped size_ at_ begin_ token value open_ bad badPlace faultKind faultPlace u.2.1 u.2.2.1 u.2.2.2.1 u.2.2.2.2.1 u.2.2.2.2.2.1 u.2.2.2.2.2.2 endsBehind path order firstOrder ordersMany tSort tMany numbers) (AM ma)) 0 0 (AM ma)) (HM D cl tys mi cI cJ cZ ma known fresh_ saved images isImage 0 tape taped size_ at_ begin_ token value open_ bad badPlace faultKind faultPlace xs1 ys1 pr1 rw1 tp1 hp1 endsBehind path order firstOrder ordersMany tSort tMany numbers) 0 0 32 [(0, .ref (ma 0)), (1, .int (nI 0)), (2, .int (nI t))] [] := by
      intro q32
      induction q32 with
      | zero => intro t hp1 rw1 xs1 ys1 pr1 tp1 hq32; exact absurd hq32 (Nat.not_lt_zero _)
      | succ q32 ih32 =>
        intro t hp1 rw1 xs1 ys1 pr1 tp1 hq32 ht hno
        refine g_iload_n 2 dX10_mended_32 rfl rfl ?_
        refine g_aload_n 0 dX10_mended_33 rfl rfl ?_
        refine m_get_known dX10_mended_34 ?_
        refine g_bipush (v := nI 6) dX10_mended_37 (by decide +kernel) ?_
        refine m_ld_known dX10_mended_39 (by omega) ?_
        refine GG.topi k6 ?_
        refine g_icmp_ge_n (tgt := 142) dX10_mended_40 (by decide) (by omega) (by omega) (fun c40 => ?_) (fun c40 => ?_)
        · skip
          refine g_iconst (v := -1) dX10_mended_142 (by decide +kernel) ?_
          exact g_iret (_, _, _, _, _, _, _) dX10_mended_143 (Nat.le_refl _) (Nat.le_refl _) (by unfold isMended; rw [show iR (nI 0) 3 = some 0 from iR_nI (by decide) (by decide)]; refine ⟨rfl, ?_⟩; exact Or.inr ⟨fun t' s' a b c => hno t' s' a b c (Or.inl (by omega)), rfl⟩) (fun _ h => h)
        · skip
          refine g_aload_n 0 dX10_mended_43 rfl rfl ?_
          refine g_iload_n 2 dX10_mended_44 rfl rfl ?_
          refine m_cVi (ct_who _ (by omega)) hvX10_who hyX10_who rfl ⟨Nat.le_of_ble_eq_true rfl, Nat.le_of_ble_eq_true rfl⟩ ⟨Nat.zero_le _, Nat.zero_le _⟩ rfl (Nat.le_of_ble_eq_true rfl) dX10_mended_45 m_rec (fun r u9 hp => ?_)
          obtain rfl := hp
          refine GG.topi (k8 t c40).1 ?_
          refine g_istore_n (L' := [(0, _), (1, _), (2, _), (3, _)]) 3 dX10_mended_48 rfl (by decide) rfl rfl ?_
          refine g_iconst (v := nI 0) dX10_mended_49 (by decide +kernel) ?_
          refine g_istore (L' := [(0, _), (1, _), (2, _), (3, _), (4, _)]) dX10_mended_50 (by decide) rfl rfl ?_
          have loop52 : ∀ (q52 : Nat) (s : Nat) (hp2 : Nat → Nat) (rw2 : Nat → Int64) (xs2 ys2 : Nat → Nat) (pr2 tp2 : Nat), tNS T - s < q52 → (s ≤ tNS T) → (∀ t' s', t' < tNT T → s' < tNS T → ¬ s' = tWho T t' → (t' < t ∨ (t' = t ∧ s' < s)) → ¬ leftN (tBy T t' s') (tNT T) = 1) → GG l D cl tys cX10_mended 6 (some .int) RX10 ({ frames := 89, cells := 0, slots := 0, locals := 2610 } : Room) (AM ma) MT (QM (Qi (fun (v : Int32) (u : Nat × (Nat → Nat) × (Nat → Nat) × Nat × (Nat → Int64) × Nat × (Nat → Nat)) => isMended T (nI 0) u.1 v) (fun (u : Nat × (Nat → Nat) × (Nat → Nat) × Nat × (Nat → Int64) × Nat × (Nat → Nat)) => HM D cl tys mi cI cJ cZ ma known fresh_ saved images isImage u.1 tape taped size_ at_ begin_ token value open_ bad badPlace faultKind faultPlace u.2.1 u.2.2.1 u.2.2.2.1 u.2.2.2.2.1 u.2.2.2.2.2.1 u.2.2.2.2.2.2 endsBehind path order firstOrder ordersMany tSort tMany numbers) (AM ma)) 0 0 (AM ma)) (HM D cl tys mi cI cJ cZ ma known fresh_ saved images isImage 0 tape taped size_ at_ begin_ token value open_ bad badPlace faultKind faultPlace xs2 ys2 pr2 rw2 tp2 hp2 endsBehind path order firstOrder ordersMany tSort tMany numbers) 0 0 52 [(0, .ref (ma 0)), (1, .int (nI 0)), (2, .int (nI t)), (3, .int (nI (tWho T t))), (4, .int (nI s))] [] := by
            intro q52
            induction q52 with
            | zero => intro s hp2 rw2 xs2 ys2 pr2 tp2 hq52; exact absurd hq52 (Nat.not_lt_zero _)
            | succ q52 ih52 =>
              intro s hp2 rw2 xs2 ys2 pr2 tp2 hq52 hs hno2
              refine g_iload dX10_mended_52 rfl ?_
              refine g_aload_n 0 dX10_mended_54 rfl rfl ?_
              refine m_get_known dX10_mended_55 ?_
              refine g_iconst (v := nI 5) dX10_mended_58 (by decide +kernel) ?_
              refine m_ld_known dX10_mended_59 (by omega) ?_
              refine GG.topi k5 ?_
              refine g_icmp_ge_n (tgt := 136) dX10_mended_60 (by decide) (by omega) (by omega) (fun c60 => ?_) (fun c60 => ?_)
              · skip
                refine g_iinc_n (b := 1) (L' := [(0, _), (1, _), (2, _), (3, _), (4, _)]) dX10_mended_136 rfl rfl (by decide) rfl rfl ?_
                refine g_goto (tgt := 32) dX10_mended_139 (by decide) ?_
                refine GG.locals [0, 1, 2] rfl ?_
                exact ih32 (t + 1) _ _ _ _ _ _ (by omega) (by omega) (fun t' s' a b c q => hno2 t' s' a b c (by omega))
              · skip
                refine g_iload dX10_mended_63 rfl ?_
                refine g_iload_n 3 dX10_mended_65 rfl rfl ?_
                refine g_icmp_ne_n (tgt := 72) dX10_mended_66 (by decide) (by omega) (by have := o9 t c40; omega) (fun c66 => ?_) (fun c66 => ?_)
                · skip
                  refine g_aload_n 0 dX10_mended_72 rfl rfl ?_
                  refine m_get_known dX10_mended_73 ?_
                  refine g_bipush (v := nI 26) dX10_mended_76 (by decide +kernel) ?_
                  refine g_iconst (v := nI 2) dX10_mended_78 (by decide +kernel) ?_
                  refine g_iload_n 2 dX10_mended_79 rfl rfl ?_
                  refine g_imul_n dX10_mended_80 ?_
                  refine g_iadd_n dX10_mended_81 ?_
                  refine g_iload dX10_mended_82 rfl ?_
                  refine m_st_known dX10_mended_84 (by omega) ?_
                  refine g_aload_n 0 dX10_mended_85 rfl rfl ?_
                  refine m_cVi (ct_onlyNow (tBy T t s) (hK.by_ c40 c60)) hvX10_onlyNow hyX10_onlyNow rfl ⟨Nat.le_of_ble_eq_true rfl, Nat.le_of_ble_eq_true rfl⟩ ⟨Nat.zero_le _, Nat.zero_le _⟩ rfl (Nat.le_of_ble_eq_true rfl) dX10_mended_86 m_rec (fun r ul hul => ?_)
                  obtain ⟨heapsL, rowsZ, xsL, ysL, pairsL⟩ := ul
                  dsimp only
                  obtain ⟨hl, hr, hO⟩ := hul
                  refine g_istore (L' := [(0, _), (1, _), (2, _), (3, _), (4, _), (5, _)]) dX10_mended_89 (by decide) rfl rfl ?_
                  refine g_aload_n 0 dX10_mended_91 rfl rfl ?_
                  refine m_get_known dX10_mended_92 ?_
                  refine g_bipush (v := nI 26) dX10_mended_95 (by decide +kernel) ?_
                  refine g_iconst (v := nI 2) dX10_mended_97 (by decide +kernel) ?_
                  refine g_iload_n 2 dX10_mended_98 rfl rfl ?_
                  refine g_imul_n dX10_mended_99 ?_
                  refine g_iadd_n dX10_mended_100 ?_
                  refine g_iload_n 3 dX10_mended_101 rfl rfl ?_
                  refine m_st_known dX10_mended_102 (by omega) ?_
                  have hkr : up (up known (26 + 2 * t) (nI s)) (26 + 2 * t) (nI (tWho T t)) = known := by
                    funext j; unfold up; by_cases q : j = 26 + 2 * t
                    · rw [if_pos q, q]; exact (k8 t c40).1.symm
                    · rw [if_neg q, if_neg q]
                  rw [hkr]
                  refine g_iload dX10_mended_103 rfl ?_
                  refine g_iconst (v := -1) dX10_mended_105 (by decide +kernel) ?_
                  refine g_icmp_eq (tgt := 130) dX10_mended_106 (by decide) (fun c106 => ?_) (fun c106 => ?_)
                  · skip
                    refine g_iinc_n (b := 1) (L' := [(0, _), (1, _), (2, _), (3, _), (4, _), (5, _)]) dX10_mended_130 rfl rfl (by decide) rfl rfl ?_
                    refine g_goto (tgt := 52) dX10_mended_133 (by decide) ?_
                    refine GG.locals [0, 1, 2, 3, 4] rfl ?_
                    refine ih52 (s + 1) _ _ _ _ _ _ (by omega) (by omega) (fun t' s' a b c q => ?_)
                    by_cases z : t' = t ∧ s' = s
                    · rw [z.1, z.2]
                      first | exact absurd (by rw [← z.2, ← z.1]; exact c66 ▸ rfl) (z.1 ▸ z.2 ▸ c) | (exfalso; rw [z.1, z.2] at c; exact c c66) | exact (isOnly_m1 (by have h8 := wList_len (u := tUn T) (mo := tMost T) o1 o3; have h7 : tP (tBy T t s) = (wList (tLow T) (tHigh T) (tMost T) (tUn T)).length := rfl; omega) hO).mp c106
                    · exact hno2 t' s' a b c (by omega)
                  · skip
                    refine g_iload_n 1 dX10_mended_109 rfl rfl ?_
                    refine g_if_ne_n (tgt := 117) dX10_mended_110 (by decide) (by decide) (fun h => absurd h (by decide)) (fun _ => ?_)
                    refine g_iload_n 2 dX10_mended_113 rfl rfl ?_
                    refine g_goto (tgt := 129) dX10_mended_114 (by decide) ?_
                    exact g_iret (_, _, _, _, _, _, _) dX10_mended_129 (Nat.le_refl _) (Nat.le_refl _) (by unfold isMended; rw [show iR (nI 0) 3 = some 0 from iR_nI (by decide) (by decide)]; refine ⟨rfl, ?_⟩; have h1 : leftN (tBy T t s) (tNT T) = 1 := Decidable.byContradiction (fun q => c106 ((isOnly_m1 (by have h8 := wList_len (u := tUn T) (mo := tMost T) o1 o3; have h7 : tP (tBy T t s) = (wList (tLow T) (tHigh T) (tMost T) (tUn T)).length := rfl; omega) hO).mpr q)); exact Or.inl ⟨t, s, _, by omega, by omega, c66, h1, hO, hno2, by rw [if_pos rfl]⟩) (fun _ h => h)
                · skip
                  refine g_goto (tgt := 130) dX10_mended_69 (by decide) ?_
                  refine g_iinc_n (b := 1) (L' := [(0, _), (1, _), (2, _), (3, _), (4, _)]) dX10_mended_130 rfl rfl (by decide) rfl rfl ?_
                  refine g_goto (tgt := 52) dX10_mended_133 (by decide) ?_
                  refine ih52 (s + 1) _ _ _ _ _ _ (by omega) (by omega) (fun t' s' a b c q => ?_)
                  by_cases z : t' = t ∧ s' = s
                  · rw [z.1, z.2]
                    first | exact absurd (by rw [← z.2, ← z.1]; exact c66 ▸ rfl) (z.1 ▸ z.2 ▸ c) | (exfalso; rw [z.1, z.2] at c; exact c c66) | exact (isOnly_m1 (by have h8 := wList_len (u := tUn T) (mo := tMost T) o1 o3; have h7 : tP (tBy T t s) = (wList (tLow T) (tHigh T) (tMost T) (tUn T)).length := rfl; omega) hO).mp c106
                  · exact hno2 t' s' a b c (by omega)
          exact loop52 (tNS T + 1) 0 _ _ _ _ _ _ (by omega) (by omega) (fun t' s' a b c q => hno t' s' a b c q)
    exact loop32 (tNT T + 1) 0 _ _ _ _ _ _ (by omega) (by omega) (fun t' s' a b c q => by omega)
  · skip
    subst e
    refine g_aload_n 0 dX10_mended_0 rfl rfl ?_
    refine g_iload_n 1 dX10_mended_1 rfl rfl ?_
    refine g_i2l_n dX10_mended_2 (by omega) ?_
    refine g_lconst (v := lN 0) dX10_mended_3 (by decide +kernel) ?_
    refine g_ldc2 (v := lN 2) dX10_mended_4 q2376 ?_
    refine m_cSi (ct_within _ _ _) hsX10_within hyX10_within rfl ⟨Nat.le_of_ble_eq_true rfl, Nat.le_of_ble_eq_true rfl⟩ ⟨Nat.zero_le _, Nat.zero_le _⟩ rfl (Nat.le_of_ble_eq_true rfl) dX10_mended_7 (fun r u9 hp => ?_)
    obtain rfl := hp
    refine GG.topi (y := nI 1) (by decide +kernel) ?_
    refine g_if_eq_n (tgt := 17) dX10_mended_10 (by decide) (by decide) (fun h => absurd h (by decide)) (fun _ => ?_)
    refine g_iconst (v := nI 0) dX10_mended_13 (by decide +kernel) ?_
    refine g_goto (tgt := 18) dX10_mended_14 (by decide) ?_
    refine m_put_thrown dX10_mended_18 ?_
    refine g_aload_n 0 dX10_mended_21 rfl rfl ?_
    refine m_get_thrown dX10_mended_22 ?_
    refine g_if_le_n (tgt := 30) dX10_mended_25 (by decide) (by decide) (fun _ => ?_) (fun h => absurd h (by decide))
    refine g_iconst (v := nI 0) dX10_mended_30 (by decide +kernel) ?_
    refine g_istore_n (L' := [(0, _), (1, _), (2, _)]) 2 dX10_mended_31 rfl (by decide) rfl rfl ?_
    have loop32 : ∀ (q32 : Nat) (t : Nat) (hp1 : Nat → Nat) (rw1 : Nat → Int64) (xs1 ys1 : Nat → Nat) (pr1 tp1 : Nat), tNT T - t < q32 → (t ≤ tNT T) → (∀ t' s', t' < tNT T → s' < tNS T → ¬ s' = tWho T t' → (t' < t ∨ (t' = t ∧ s' < 0)) → ¬ leftN (tBy T t' s') (tNT T) = 1) → GG l D cl tys cX10_mended 6 (some .int) RX10 ({ frames := 89, cells := 0, slots := 0, locals := 2610 } : Room) (AM ma) MT (QM (Qi (fun (v : Int32) (u : Nat × (Nat → Nat) × (Nat → Nat) × Nat × (Nat → Int64) × Nat × (Nat → Nat)) => isMended T (nI 1) u.1 v) (fun (u : Nat × (Nat → Nat) × (Nat → Nat) × Nat × (Nat → Int64) × Nat × (Nat → Nat)) => HM D cl tys mi cI cJ cZ ma known fresh_ saved images isImage u.1 tape taped size_ at_ begin_ token value open_ bad badPlace faultKind faultPlace u.2.1 u.2.2.1 u.2.2.2.1 u.2.2.2.2.1 u.2.2.2.2.2.1 u.2.2.2.2.2.2 endsBehind path order firstOrder ordersMany tSort tMany numbers) (AM ma)) 0 0 (AM ma)) (HM D cl tys mi cI cJ cZ ma known fresh_ saved images isImage 0 tape taped size_ at_ begin_ token value open_ bad badPlace faultKind faultPlace xs1 ys1 pr1 rw1 tp1 hp1 endsBehind path order firstOrder ordersMany tSort tMany numbers) 0 0 32 [(0, .ref (ma 0)), (1, .int (nI 1)), (2, .int (nI t))] [] := by
      intro q32
      induction q32 with
      | zero => intro t hp1 rw1 xs1 ys1 pr1 tp1 hq32; exact absurd hq32 (Nat.not_lt_zero _)
      | succ q32 ih32 =>
        intro t hp1 rw1 xs1 ys1 pr1 tp1 hq32 ht hno
        refine g_iload_n 2 dX10_mended_32 rfl rfl ?_
        refine g_aload_n 0 dX10_mended_33 rfl rfl ?_
        refine m_get_known dX10_mended_34 ?_
        refine g_bipush (v := nI 6) dX10_mended_37 (by decide +kernel) ?_
        refine m_ld_known dX10_mended_39 (by omega) ?_
        refine GG.topi k6 ?_
        refine g_icmp_ge_n (tgt := 142) dX10_mended_40 (by decide) (by omega) (by omega) (fun c40 => ?_) (fun c40 => ?_)
        · skip
          refine g_iconst (v := -1) dX10_mended_142 (by decide +kernel) ?_
          exact g_iret (_, _, _, _, _, _, _) dX10_mended_143 (Nat.le_refl _) (Nat.le_refl _) (by unfold isMended; rw [show iR (nI 1) 3 = some 1 from iR_nI (by decide) (by decide)]; refine ⟨rfl, ?_⟩; exact Or.inr ⟨fun t' s' a b c => hno t' s' a b c (Or.inl (by omega)), rfl⟩) (fun _ h => h)
        · skip
          refine g_aload_n 0 dX10_mended_43 rfl rfl ?_
          refine g_iload_n 2 dX10_mended_44 rfl rfl ?_
          refine m_cVi (ct_who _ (by omega)) hvX10_who hyX10_who rfl ⟨Nat.le_of_ble_eq_true rfl, Nat.le_of_ble_eq_true rfl⟩ ⟨Nat.zero_le _, Nat.zero_le _⟩ rfl (Nat.le_of_ble_eq_true rfl) dX10_mended_45 m_rec (fun r u9 hp => ?_)
          obtain rfl := hp
          refine GG.topi (k8 t c40).1 ?_
          refine g_istore_n (L' := [(0, _), (1, _), (2, _), (3, _)]) 3 dX10_mended_48 rfl (by decide) rfl rfl ?_
          refine g_iconst (v := nI 0) dX10_mended_49 (by decide +kernel) ?_
          refine g_istore (L' := [(0, _), (1, _), (2, _), (3, _), (4, _)]) dX10_mended_50 (by decide) rfl rfl ?_
          have loop52 : ∀ (q52 : Nat) (s : Nat) (hp2 : Nat → Nat) (rw2 : Nat → Int64) (xs2 ys2 : Nat → Nat) (pr2 tp2 : Nat), tNS T - s < q52 → (s ≤ tNS T) → (∀ t' s', t' < tNT T → s' < tNS T → ¬ s' = tWho T t' → (t' < t ∨ (t' = t ∧ s' < s)) → ¬ leftN (tBy T t' s') (tNT T) = 1) → GG l D cl tys cX10_mended 6 (some .int) RX10 ({ frames := 89, cells := 0, slots := 0, locals := 2610 } : Room) (AM ma) MT (QM (Qi (fun (v : Int32) (u : Nat × (Nat → Nat) × (Nat → Nat) × Nat × (Nat → Int64) × Nat × (Nat → Nat)) => isMended T (nI 1) u.1 v) (fun (u : Nat × (Nat → Nat) × (Nat → Nat) × Nat × (Nat → Int64) × Nat × (Nat → Nat)) => HM D cl tys mi cI cJ cZ ma known fresh_ saved images isImage u.1 tape taped size_ at_ begin_ token value open_ bad badPlace faultKind faultPlace u.2.1 u.2.2.1 u.2.2.2.1 u.2.2.2.2.1 u.2.2.2.2.2.1 u.2.2.2.2.2.2 endsBehind path order firstOrder ordersMany tSort tMany numbers) (AM ma)) 0 0 (AM ma)) (HM D cl tys mi cI cJ cZ ma known fresh_ saved images isImage 0 tape taped size_ at_ begin_ token value open_ bad badPlace faultKind faultPlace xs2 ys2 pr2 rw2 tp2 hp2 endsBehind path order firstOrder ordersMany tSort tMany numbers) 0 0 52 [(0, .ref (ma 0)), (1, .int (nI 1)), (2, .int (nI t)), (3, .int (nI (tWho T t))), (4, .int (nI s))] [] := by
            intro q52
            induction q52 with
            | zero => intro s hp2 rw2 xs2 ys2 pr2 tp2 hq52; exact absurd hq52 (Nat.not_lt_zero _)
            | succ q52 ih52 =>
              intro s hp2 rw2 xs2 ys2 pr2 tp2 hq52 hs hno2
              refine g_iload dX10_mended_52 rfl ?_
              refine g_aload_n 0 dX10_mended_54 rfl rfl ?_
              refine m_get_known dX10_mended_55 ?_
              refine g_iconst (v := nI 5) dX10_mended_58 (by decide +kernel) ?_
              refine m_ld_known dX10_mended_59 (by omega) ?_
              refine GG.topi k5 ?_
              refine g_icmp_ge_n (tgt := 136) dX10_mended_60 (by decide) (by omega) (by omega) (fun c60 => ?_) (fun c60 => ?_)
              · skip
                refine g_iinc_n (b := 1) (L' := [(0, _), (1, _), (2, _), (3, _), (4, _)]) dX10_mended_136 rfl rfl (by decide) rfl rfl ?_
                refine g_goto (tgt := 32) dX10_mended_139 (by decide) ?_
                refine GG.locals [0, 1, 2] rfl ?_
                exact ih32 (t + 1) _ _ _ _ _ _ (by omega) (by omega) (fun t' s' a b c q => hno2 t' s' a b c (by omega))
              · skip
                refine g_iload dX10_mended_63 rfl ?_
                refine g_iload_n 3 dX10_mended_65 rfl rfl ?_
                refine g_icmp_ne_n (tgt := 72) dX10_mended_66 (by decide) (by omega) (by have := o9 t c40; omega) (fun c66 => ?_) (fun c66 => ?_)
                · skip
                  refine g_aload_n 0 dX10_mended_72 rfl rfl ?_
                  refine m_get_known dX10_mended_73 ?_
                  refine g_bipush (v := nI 26) dX10_mended_76 (by decide +kernel) ?_
                  refine g_iconst (v := nI 2) dX10_mended_78 (by decide +kernel) ?_
                  refine g_iload_n 2 dX10_mended_79 rfl rfl ?_
                  refine g_imul_n dX10_mended_80 ?_
                  refine g_iadd_n dX10_mended_81 ?_
                  refine g_iload dX10_mended_82 rfl ?_
                  refine m_st_known dX10_mended_84 (by omega) ?_
                  refine g_aload_n 0 dX10_mended_85 rfl rfl ?_
                  refine m_cVi (ct_onlyNow (tBy T t s) (hK.by_ c40 c60)) hvX10_onlyNow hyX10_onlyNow rfl ⟨Nat.le_of_ble_eq_true rfl, Nat.le_of_ble_eq_true rfl⟩ ⟨Nat.zero_le _, Nat.zero_le _⟩ rfl (Nat.le_of_ble_eq_true rfl) dX10_mended_86 m_rec (fun r ul hul => ?_)
                  obtain ⟨heapsL, rowsZ, xsL, ysL, pairsL⟩ := ul
                  dsimp only
                  obtain ⟨hl, hr, hO⟩ := hul
                  refine g_istore (L' := [(0, _), (1, _), (2, _), (3, _), (4, _), (5, _)]) dX10_mended_89 (by decide) rfl rfl ?_
                  refine g_aload_n 0 dX10_mended_91 rfl rfl ?_
                  refine m_get_known dX10_mended_92 ?_
                  refine g_bipush (v := nI 26) dX10_mended_95 (by decide +kernel) ?_
                  refine g_iconst (v := nI 2) dX10_mended_97 (by decide +kernel) ?_
                  refine g_iload_n 2 dX10_mended_98 rfl rfl ?_
                  refine g_imul_n dX10_mended_99 ?_
                  refine g_iadd_n dX10_mended_100 ?_
                  refine g_iload_n 3 dX10_mended_101 rfl rfl ?_
                  refine m_st_known dX10_mended_102 (by omega) ?_
                  have hkr : up (up known (26 + 2 * t) (nI s)) (26 + 2 * t) (nI (tWho T t)) = known := by
                    funext j; unfold up; by_cases q : j = 26 + 2 * t
                    · rw [if_pos q, q]; exact (k8 t c40).1.symm
                    · rw [if_neg q, if_neg q]
                  rw [hkr]
                  refine g_iload dX10_mended_103 rfl ?_
                  refine g_iconst (v := -1) dX10_mended_105 (by decide +kernel) ?_
                  refine g_icmp_eq (tgt := 130) dX10_mended_106 (by decide) (fun c106 => ?_) (fun c106 => ?_)
                  · skip
                    refine g_iinc_n (b := 1) (L' := [(0, _), (1, _), (2, _), (3, _), (4, _), (5, _)]) dX10_mended_130 rfl rfl (by decide) rfl rfl ?_
                    refine g_goto (tgt := 52) dX10_mended_133 (by decide) ?_
                    refine GG.locals [0, 1, 2, 3, 4] rfl ?_
                    refine ih52 (s + 1) _ _ _ _ _ _ (by omega) (by omega) (fun t' s' a b c q => ?_)
                    by_cases z : t' = t ∧ s' = s
                    · rw [z.1, z.2]
                      first | exact absurd (by rw [← z.2, ← z.1]; exact c66 ▸ rfl) (z.1 ▸ z.2 ▸ c) | (exfalso; rw [z.1, z.2] at c; exact c c66) | exact (isOnly_m1 (by have h8 := wList_len (u := tUn T) (mo := tMost T) o1 o3; have h7 : tP (tBy T t s) = (wList (tLow T) (tHigh T) (tMost T) (tUn T)).length := rfl; omega) hO).mp c106
                    · exact hno2 t' s' a b c (by omega)
                  · skip
                    refine g_iload_n 1 dX10_mended_109 rfl rfl ?_
                    refine g_if_ne_n (tgt := 117) dX10_mended_110 (by decide) (by decide) (fun _ => ?_) (fun h => absurd h (by decide))
                    refine g_iload_n 1 dX10_mended_117 rfl rfl ?_
                    refine g_iconst (v := nI 1) dX10_mended_118 (by decide +kernel) ?_
                    refine g_icmp_ne_n (tgt := 127) dX10_mended_119 (by decide) (by decide) (by decide) (fun h => absurd h (by decide)) (fun _ => ?_)
                    refine g_iload dX10_mended_122 rfl ?_
                    refine g_goto (tgt := 129) dX10_mended_124 (by decide) ?_
                    exact g_iret (_, _, _, _, _, _, _) dX10_mended_129 (Nat.le_refl _) (Nat.le_refl _) (by unfold isMended; rw [show iR (nI 1) 3 = some 1 from iR_nI (by decide) (by decide)]; refine ⟨rfl, ?_⟩; have h1 : leftN (tBy T t s) (tNT T) = 1 := Decidable.byContradiction (fun q => c106 ((isOnly_m1 (by have h8 := wList_len (u := tUn T) (mo := tMost T) o1 o3; have h7 : tP (tBy T t s) = (wList (tLow T) (tHigh T) (tMost T) (tUn T)).length := rfl; omega) hO).mpr q)); exact Or.inl ⟨t, s, _, by omega, by omega, c66, h1, hO, hno2, by rw [if_neg (by decide), if_pos rfl]⟩) (fun _ h => h)
                · skip
                  refine g_goto (tgt := 130) dX10_mended_69 (by decide) ?_
                  refine g_iinc_n (b := 1) (L' := [(0, _), (1, _), (2, _), (3, _), (4, _)]) dX10_mended_130 rfl rfl (by decide) rfl rfl ?_
                  refine g_goto (tgt := 52) dX10_mended_133 (by decide) ?_
                  refine ih52 (s + 1) _ _ _ _ _ _ (by omega) (by omega) (fun t' s' a b c q => ?_)
                  by_cases z : t' = t ∧ s' = s
                  · rw [z.1, z.2]
                    first | exact absurd (by rw [← z.2, ← z.1]; exact c66 ▸ rfl) (z.1 ▸ z.2 ▸ c) | (exfalso; rw [z.1, z.2] at c; exact c c66) | exact (isOnly_m1 (by have h8 := wList_len (u := tUn T) (mo := tMost T) o1 o3; have h7 : tP (tBy T t s) = (wList (tLow T) (tHigh T) (tMost T) (tUn T)).length := rfl; omega) hO).mp c106
                  · exact hno2 t' s' a b c (by omega)
          exact loop52 (tNS T + 1) 0 _ _ _ _ _ _ (by omega) (by omega) (fun t' s' a b c q => hno t' s' a b c q)
    exact loop32 (tNT T + 1) 0 _ _ _ _ _ _ (by omega) (by omega) (fun t' s' a b c q => by omega)
  · skip
    subst e
    refine g_aload_n 0 dX10_mended_0 rfl rfl ?_
    refine g_iload_n 1 dX10_mended_1 rfl rfl ?_
    refine g_i2l_n dX10_mended_2 (by omega) ?_
    refine g_lconst (v := lN 0) dX10_mended_3 (by decide +kernel) ?_
    refine g_ldc2 (v := lN 2) dX10_mended_4 q2376 ?_
    refine m_cSi (ct_within _ _ _) hsX10_within hyX10_within rfl ⟨Nat.le_of_ble_eq_true rfl, Nat.le_of_ble_eq_true rfl⟩ ⟨Nat.zero_le _, Nat.zero_le _⟩ rfl (Nat.le_of_ble_eq_true rfl) dX10_mended_7 (fun r u9 hp => ?_)
    obtain rfl := hp
    refine GG.topi (y := nI 1) (by decide +kernel) ?_
    refine g_if_eq_n (tgt := 17) dX10_mended_10 (by decide) (by decide) (fun h => absurd h (by decide)) (fun _ => ?_)
    refine g_iconst (v := nI 0) dX10_mended_13 (by decide +kernel) ?_
    refine g_goto (tgt := 18) dX10_mended_14 (by decide) ?_
    refine m_put_thrown dX10_mended_18 ?_
    refine g_aload_n 0 dX10_mended_21 rfl rfl ?_
    refine m_get_thrown dX10_mended_22 ?_
    refine g_if_le_n (tgt := 30) dX10_mended_25 (by decide) (by decide) (fun _ => ?_) (fun h => absurd h (by decide))
    refine g_iconst (v := nI 0) dX10_mended_30 (by decide +kernel) ?_
    refine g_istore_n (L' := [(0, _), (1, _), (2, _)]) 2 dX10_mended_31 rfl (by decide) rfl rfl ?_
    have loop32 : ∀ (q32 : Nat) (t : Nat) (hp1 : Nat → Nat) (rw1 : Nat → Int64) (xs1 ys1 : Nat → Nat) (pr1 tp1 : Nat), tNT T - t < q32 → (t ≤ tNT T) → (∀ t' s', t' < tNT T → s' < tNS T → ¬ s' = tWho T t' → (t' < t ∨ (t' = t ∧ s' < 0)) → ¬ leftN (tBy T t' s') (tNT T) = 1) → GG l D cl tys cX10_mended 6 (some .int) RX10 ({ frames := 89, cells := 0, slots := 0, locals := 2610 } : Room) (AM ma) MT (QM (Qi (fun (v : Int32) (u : Nat × (Nat → Nat) × (Nat → Nat) × Nat × (Nat → Int64) × Nat × (Nat → Nat)) => isMended T (nI 2) u.1 v) (fun (u : Nat × (Nat → Nat) × (Nat → Nat) × Nat × (Nat → Int64) × Nat × (Nat → Nat)) => HM D cl tys mi cI cJ cZ ma known fresh_ saved images isImage u.1 tape taped size_ at_ begin_ token value open_ bad badPlace faultKind faultPlace u.2.1 u.2.2.1 u.2.2.2.1 u.2.2.2.2.1 u.2.2.2.2.2.1 u.2.2.2.2.2.2 endsBehind path order firstOrder ordersMany tSort tMany numbers) (AM ma)) 0 0 (AM ma)) (HM D cl tys mi cI cJ cZ ma known fresh_ saved images isImage 0 tape taped size_ at_ begin_ token value open_ bad badPlace faultKind faultPlace xs1 ys1 pr1 rw1 tp1 hp1 endsBehind path order firstOrder ordersMany tSort tMany numbers) 0 0 32 [(0, .ref (ma 0)), (1, .int (nI 2)), (2, .int (nI t))] [] := by
      intro q32
      induction q32 with
      | zero => intro t hp1 rw1 xs1 ys1 pr1 tp1 hq32; exact absurd hq32 (Nat.not_lt_zero _)
      | succ q32 ih32 =>
        intro t hp1 rw1 xs1 ys1 pr1 tp1 hq32 ht hno
        refine g_iload_n 2 dX10_mended_32 rfl rfl ?_
        refine g_aload_n 0 dX10_mended_33 rfl rfl ?_
        refine m_get_known dX10_mended_34 ?_
        refine g_bipush (v := nI 6) dX10_mended_37 (by decide +kernel) ?_
        refine m_ld_known dX10_mended_39 (by omega) ?_
        refine GG.topi k6 ?_
        refine g_icmp_ge_n (tgt := 142) dX10_mended_40 (by decide) (by omega) (by omega) (fun c40 => ?_) (fun c40 => ?_)
        · skip
          refine g_iconst (v := -1) dX10_mended_142 (by decide +kernel) ?_
          exact g_iret (_, _, _, _, _, _, _) dX10_mended_143 (Nat.le_refl _) (Nat.le_refl _) (by unfold isMended; rw [show iR (nI 2) 3 = some 2 from iR_nI (by decide) (by decide)]; refine ⟨rfl, ?_⟩; exact Or.inr ⟨fun t' s' a b c => hno t' s' a b c (Or.inl (by omega)), rfl⟩) (fun _ h => h)
        · skip
          refine g_aload_n 0 dX10_mended_43 rfl rfl ?_
          refine g_iload_n 2 dX10_mended_44 rfl rfl ?_
          refine m_cVi (ct_who _ (by omega)) hvX10_who hyX10_who rfl ⟨Nat.le_of_ble_eq_true rfl, Nat.le_of_ble_eq_true rfl⟩ ⟨Nat.zero_le _, Nat.zero_le _⟩ rfl (Nat.le_of_ble_eq_true rfl) dX10_mended_45 m_rec (fun r u9 hp => ?_)
          obtain rfl := hp
          refine GG.topi (k8 t c40).1 ?_
          refine g_istore_n (L' := [(0, _), (1, _), (2, _), (3, _)]) 3 dX10_mended_48 rfl (by decide) rfl rfl ?_
          refine g_iconst (v := nI 0) dX10_mended_49 (by decide +kernel) ?_
          refine g_istore (L' := [(0, _), (1, _), (2, _), (3, _), (4, _)]) dX10_mended_50 (by decide) rfl rfl ?_
          have loop52 : ∀ (q52 : Nat) (s : Nat) (hp2 : Nat → Nat) (rw2 : Nat → Int64) (xs2 ys2 : Nat → Nat) (pr2 tp2 : Nat), tNS T - s < q52 → (s ≤ tNS T) → (∀ t' s', t' < tNT T → s' < tNS T → ¬ s' = tWho T t' → (t' < t ∨ (t' = t ∧ s' < s)) → ¬ leftN (tBy T t' s') (tNT T) = 1) → GG l D cl tys cX10_mended 6 (some .int) RX10 ({ frames := 89, cells := 0, slots := 0, locals := 2610 } : Room) (AM ma) MT (QM (Qi (fun (v : Int32) (u : Nat × (Nat → Nat) × (Nat → Nat) × Nat × (Nat → Int64) × Nat × (Nat → Nat)) => isMended T (nI 2) u.1 v) (fun (u : Nat × (Nat → Nat) × (Nat → Nat) × Nat × (Nat → Int64) × Nat × (Nat → Nat)) => HM D cl tys mi cI cJ cZ ma known fresh_ saved images isImage u.1 tape taped size_ at_ begin_ token value open_ bad badPlace faultKind faultPlace u.2.1 u.2.2.1 u.2.2.2.1 u.2.2.2.2.1 u.2.2.2.2.2.1 u.2.2.2.2.2.2 endsBehind path order firstOrder ordersMany tSort tMany numbers) (AM ma)) 0 0 (AM ma)) (HM D cl tys mi cI cJ cZ ma known fresh_ saved images isImage 0 tape taped size_ at_ begin_ token value open_ bad badPlace faultKind faultPlace xs2 ys2 pr2 rw2 tp2 hp2 endsBehind path order firstOrder ordersMany tSort tMany numbers) 0 0 52 [(0, .ref (ma 0)), (1, .int (nI 2)), (2, .int (nI t)), (3, .int (nI (tWho T t))), (4, .int (nI s))] [] := by
            intro q52
            induction q52 with
            | zero => intro s hp2 rw2 xs2 ys2 pr2 tp2 hq52; exact absurd hq52 (Nat.not_lt_zero _)
            | succ q52 ih52 =>
              intro s hp2 rw2 xs2 ys2 pr2 tp2 hq52 hs hno2
              refine g_iload dX10_mended_52 rfl ?_
              refine g_aload_n 0 dX10_mended_54 rfl rfl ?_
              refine m_get_known dX10_mended_55 ?_
              refine g_iconst (v := nI 5) dX10_mended_58 (by decide +kernel) ?_
              refine m_ld_known dX10_mended_59 (by omega) ?_
              refine GG.topi k5 ?_
              refine g_icmp_ge_n (tgt := 136) dX10_mended_60 (by decide) (by omega) (by omega) (fun c60 => ?_) (fun c60 => ?_)
              · skip
                refine g_iinc_n (b := 1) (L' := [(0, _), (1, _), (2, _), (3, _), (4, _)]) dX10_mended_136 rfl rfl (by decide) rfl rfl ?_
                refine g_goto (tgt := 32) dX10_mended_139 (by decide) ?_
                refine GG.locals [0, 1, 2] rfl ?_
                exact ih32 (t + 1) _ _ _ _ _ _ (by omega) (by omega) (fun t' s' a b c q => hno2 t' s' a b c (by omega))
              · skip
                refine g_iload dX10_mended_63 rfl ?_
                refine g_iload_n 3 dX10_mended_65 rfl rfl ?_
                refine g_icmp_ne_n (tgt := 72) dX10_mended_66 (by decide) (by omega) (by have := o9 t c40; omega) (fun c66 => ?_) (fun c66 => ?_)
                · skip
                  refine g_aload_n 0 dX10_mended_72 rfl rfl ?_
                  refine m_get_known dX10_mended_73 ?_
                  refine g_bipush (v := nI 26) dX10_mended_76 (by decide +kernel) ?_
                  refine g_iconst (v := nI 2) dX10_mended_78 (by decide +kernel) ?_
                  refine g_iload_n 2 dX10_mended_79 rfl rfl ?_
                  refine g_imul_n dX10_mended_80 ?_
                  refine g_iadd_n dX10_mended_81 ?_
                  refine g_iload dX10_mended_82 rfl ?_
                  refine m_st_known dX10_mended_84 (by omega) ?_
                  refine g_aload_n 0 dX10_mended_85 rfl rfl ?_
                  refine m_cVi (ct_onlyNow (tBy T t s) (hK.by_ c40 c60)) hvX10_onlyNow hyX10_onlyNow rfl ⟨Nat.le_of_ble_eq_true rfl, Nat.le_of_ble_eq_true rfl⟩ ⟨Nat.zero_le _, Nat.zero_le _⟩ rfl (Nat.le_of_ble_eq_true rfl) dX10_mended_86 m_rec (fun r ul hul => ?_)
                  obtain ⟨heapsL, rowsZ, xsL, ysL, pairsL⟩ := ul
                  dsimp only
                  obtain ⟨hl, hr, hO⟩ := hul
                  refine g_istore (L' := [(0, _), (1, _), (2, _), (3, _), (4, _), (5, _)]) dX10_mended_89 (by decide) rfl rfl ?_
                  refine g_aload_n 0 dX10_mended_91 rfl rfl ?_
                  refine m_get_known dX10_mended_92 ?_
                  refine g_bipush (v := nI 26) dX10_mended_95 (by decide +kernel) ?_
                  refine g_iconst (v := nI 2) dX10_mended_97 (by decide +kernel) ?_
                  refine g_iload_n 2 dX10_mended_98 rfl rfl ?_
                  refine g_imul_n dX10_mended_99 ?_
                  refine g_iadd_n dX10_mended_100 ?_
                  refine g_iload_n 3 dX10_mended_101 rfl rfl ?_
                  refine m_st_known dX10_mended_102 (by omega) ?_
                  have hkr : up (up known (26 + 2 * t) (nI s)) (26 + 2 * t) (nI (tWho T t)) = known := by
                    funext j; unfold up; by_cases q : j = 26 + 2 * t
                    · rw [if_pos q, q]; exact (k8 t c40).1.symm
                    · rw [if_neg q, if_neg q]
                  rw [hkr]
                  refine g_iload dX10_mended_103 rfl ?_
                  refine g_iconst (v := -1) dX10_mended_105 (by decide +kernel) ?_
                  refine g_icmp_eq (tgt := 130) dX10_mended_106 (by decide) (fun c106 => ?_) (fun c106 => ?_)
                  · skip
                    refine g_iinc_n (b := 1) (L' := [(0, _), (1, _), (2, _), (3, _), (4, _), (5, _)]) dX10_mended_130 rfl rfl (by decide) rfl rfl ?_
                    refine g_goto (tgt := 52) dX10_mended_133 (by decide) ?_
                    refine GG.locals [0, 1, 2, 3, 4] rfl ?_
                    refine ih52 (s + 1) _ _ _ _ _ _ (by omega) (by omega) (fun t' s' a b c q => ?_)
                    by_cases z : t' = t ∧ s' = s
                    · rw [z.1, z.2]
                      first | exact absurd (by rw [← z.2, ← z.1]; exact c66 ▸ rfl) (z.1 ▸ z.2 ▸ c) | (exfalso; rw [z.1, z.2] at c; exact c c66) | exact (isOnly_m1 (by have h8 := wList_len (u := tUn T) (mo := tMost T) o1 o3; have h7 : tP (tBy T t s) = (wList (tLow T) (tHigh T) (tMost T) (tUn T)).length := rfl; omega) hO).mp c106
                    · exact hno2 t' s' a b c (by omega)
                  · skip
                    refine g_iload_n 1 dX10_mended_109 rfl rfl ?_
                    refine g_if_ne_n (tgt := 117) dX10_mended_110 (by decide) (by decide) (fun _ => ?_) (fun h => absurd h (by decide))
                    refine g_iload_n 1 dX10_mended_117 rfl rfl ?_
                    refine g_iconst (v := nI 1) dX10_mended_118 (by decide +kernel) ?_
                    refine g_icmp_ne_n (tgt := 127) dX10_mended_119 (by decide) (by decide) (by decide) (fun _ => ?_) (fun h => absurd h (by decide))
                    refine g_iload dX10_mended_127 rfl ?_
                    exact g_iret (_, _, _, _, _, _, _) dX10_mended_129 (Nat.le_refl _) (Nat.le_refl _) (by unfold isMended; rw [show iR (nI 2) 3 = some 2 from iR_nI (by decide) (by decide)]; refine ⟨rfl, ?_⟩; have h1 : leftN (tBy T t s) (tNT T) = 1 := Decidable.byContradiction (fun q => c106 ((isOnly_m1 (by have h8 := wList_len (u := tUn T) (mo := tMost T) o1 o3; have h7 : tP (tBy T t s) = (wList (tLow T) (tHigh T) (tMost T) (tUn T)).length := rfl; omega) hO).mpr q)); exact Or.inl ⟨t, s, _, by omega, by omega, c66, h1, hO, hno2, by rw [if_neg (by decide), if_neg (by decide)]⟩) (fun _ h => h)
                · skip
                  refine g_goto (tgt := 130) dX10_mended_69 (by decide) ?_
                  refine g_iinc_n (b := 1) (L' := [(0, _), (1, _), (2, _), (3, _), (4, _)]) dX10_mended_130 rfl rfl (by decide) rfl rfl ?_
                  refine g_goto (tgt := 52) dX10_mended_133 (by decide) ?_
                  refine ih52 (s + 1) _ _ _ _ _ _ (by omega) (by omega) (fun t' s' a b c q => ?_)
                  by_cases z : t' = t ∧ s' = s
                  · rw [z.1, z.2]
                    first | exact absurd (by rw [← z.2, ← z.1]; exact c66 ▸ rfl) (z.1 ▸ z.2 ▸ c) | (exfalso; rw [z.1, z.2] at c; exact c c66) | exact (isOnly_m1 (by have h8 := wList_len (u := tUn T) (mo := tMost T) o1 o3; have h7 : tP (tBy T t s) = (wList (tLow T) (tHigh T) (tMost T) (tUn T)).length := rfl; omega) hO).mp c106
                  · exact hno2 t' s' a b c (by omega)
          exact loop52 (tNS T + 1) 0 _ _ _ _ _ _ (by omega) (by omega) (fun t' s' a b c q => hno t' s' a b c q)
    exact loop32 (tNT T + 1) 0 _ _ _ _ _ _ (by omega) (by omega) (fun t' s' a b c q => by omega)
  · skip
    refine g_aload_n 0 dX10_mended_0 rfl rfl ?_
    refine g_iload_n 1 dX10_mended_1 rfl rfl ?_
    refine g_i2l dX10_mended_2 rfl ?_
    refine g_lconst (v := lN 0) dX10_mended_3 (by decide +kernel) ?_
    refine g_ldc2 (v := lN 2) dX10_mended_4 q2376 ?_
    refine m_cSi (ct_within _ _ _) hsX10_within hyX10_within rfl ⟨Nat.le_of_ble_eq_true rfl, Nat.le_of_ble_eq_true rfl⟩ ⟨Nat.zero_le _, Nat.zero_le _⟩ rfl (Nat.le_of_ble_eq_true rfl) dX10_mended_7 (fun r u9 hp => ?_)
    obtain rfl := hp
    refine GG.topi (y := nI 0) (by rw [wIn_0 wh (by decide) e3]; rfl) ?_
    refine g_if_eq_n (tgt := 17) dX10_mended_10 (by decide) (by decide) (fun _ => ?_) (fun h => absurd h (by decide))
    refine g_iconst (v := nI 1) dX10_mended_17 (by decide +kernel) ?_
    refine m_put_thrown dX10_mended_18 ?_
    refine g_aload_n 0 dX10_mended_21 rfl rfl ?_
    refine m_get_thrown dX10_mended_22 ?_
    refine g_if_le_n (tgt := 30) dX10_mended_25 (by decide) (by decide) (fun h => absurd h (by decide)) (fun _ => ?_)
    refine g_iconst (v := nI 0) dX10_mended_28 (by decide +kernel) ?_
    exact g_iret (_, _, _, _, _, _, _) dX10_mended_29 (Nat.le_refl _) (Nat.le_refl _) (by unfold isMended; rw [e3]) (fun _ h => h)
end
