/-! SPEC: orders of turns -/
set_option maxRecDepth 100000
theorem sBit_get (x : Int32) {s : Nat} (hs : s < 32) : sBit x s = x.toBitVec.getLsbD s := by
  have e0 : ∀ k, k < 32 → (nI k &&& 31).toBitVec.smod 32 = BitVec.ofNat 32 k := by decide +kernel
  have h1 : ((x >>> (nI s &&& 31)) &&& nI 1).toBitVec = (x.toBitVec.sshiftRight s) &&& 1#32 := by
    show (x.toBitVec.sshiftRight' ((nI s &&& 31).toBitVec.smod 32)) &&& (nI 1).toBitVec = _
    rw [e0 s hs]
    show (x.toBitVec.sshiftRight (BitVec.ofNat 32 s).toNat) &&& 1#32 = _
    rw [BitVec.toNat_ofNat, Nat.mod_eq_of_lt (Nat.lt_trans hs (by decide))]
  have h2 : ((x.toBitVec.sshiftRight s) &&& 1#32).getLsbD 0 = x.toBitVec.getLsbD s := by
    rw [BitVec.getLsbD_and, BitVec.getLsbD_one, BitVec.getLsbD_sshiftRight]
    simp [hs]
  unfold sBit
  rcases bxor1 (x >>> (nI s &&& 31)) with h | h
  · rw [h]
    have h3 : ((x.toBitVec.sshiftRight s) &&& 1#32).getLsbD 0 = false := by rw [← h1, h]; decide +kernel
    rw [← h2, h3]; decide +kernel
  · rw [h]
    have h3 : ((x.toBitVec.sshiftRight s) &&& 1#32).getLsbD 0 = true := by rw [← h1, h]; decide +kernel
    rw [← h2, h3]; decide +kernel
theorem sBit_or (x : Int32) {t t' : Nat} (ht : t < 32) (ht' : t' < 32) : sBit (x ||| (nI 1 <<< (nI t &&& 31))) t' = (sBit x t' || decide (t' = t)) := by
  rw [sBit_get _ ht', sBit_get _ ht']
  have e0 : ∀ k, k < 32 → (nI 1 <<< (nI k &&& 31)).toBitVec = 1#32 <<< k := by decide +kernel
  show (x.toBitVec ||| (nI 1 <<< (nI t &&& 31)).toBitVec).getLsbD t' = _
  rw [e0 t ht, BitVec.getLsbD_or, BitVec.getLsbD_shiftLeft, BitVec.getLsbD_one]
  congr 1
  by_cases h : t' = t
  · subst h; simp [ht']
  · by_cases h2 : t' < t
    · simp [h, h2]
    · have : ¬ (t' - t = 0) := by omega
      simp [h, this]
theorem sBit_0 {t : Nat} (ht : t < 32) : sBit (nI 0) t = false := by
  have : ∀ k, k < 32 → sBit (nI 0) k = false := by decide +kernel
  exact this t ht
def ordL (P : List Nat → Bool) (n : Nat) : Nat → List Nat → List (List Nat)
  | 0, o => if P o = true then [o] else []
  | d + 1, o => (List.range n).flatMap (fun t => if decide (t ∈ o) = true then [] else ordL P n d (o ++ [t]))
def ordT (P : List Nat → Bool) (n d : Nat) (o : List Nat) (t : Nat) : List (List Nat) := (List.range t).flatMap (fun t => if decide (t ∈ o) = true then [] else ordL P n d (o ++ [t]))
theorem ordT_skip {P : List Nat → Bool} {n d t : Nat} {o : List Nat} (h : decide (t ∈ o) = true) : ordT P n d o (t + 1) = ordT P n d o t := by
  unfold ordT
  rw [List.range_succ, List.flatMap_append]
  show _ ++ ((if decide (t ∈ o) = true then [] else ordL P n d (o ++ [t])) ++ []) = _
  rw [if_pos h]; simp
theorem ordT_step {P : List Nat → Bool} {n d t : Nat} {o : List Nat} (h : decide (t ∈ o) = false) : ordT P n d o (t + 1) = ordT P n d o t ++ ordL P n d (o ++ [t]) := by
  unfold ordT
  rw [List.range_succ, List.flatMap_append]
  show _ ++ ((if decide (t ∈ o) = true then [] else ordL P n d (o ++ [t])) ++ []) = _
  rw [if_neg (by rw [h]; decide), List.append_nil]
theorem ordT_len {P : List Nat → Bool} {n d B : Nat} (hB : ∀ o, (ordL P n d o).length ≤ B) (o : List Nat) : ∀ t, (ordT P n d o t).length ≤ t * B
  | 0 => Nat.zero_le _
  | t + 1 => by
    have h1 := ordT_len hB o t
    have h2 := hB (o ++ [t])
    cases hm : decide (t ∈ o) with
    | true => rw [ordT_skip hm, Nat.succ_mul]; omega
    | false => rw [ordT_step hm, List.length_append, Nat.succ_mul]; omega
theorem ordL_le {P : List Nat → Bool} {n : Nat} (hn : n ≤ 6) : ∀ (d : Nat) (o : List Nat), (ordL P n d o).length ≤ 6 ^ d
  | 0, o => by
    unfold ordL
    split
    · exact Nat.le_refl 1
    · exact Nat.zero_le _
  | d + 1, o => by
    have h1 := ordT_len (ordL_le (P := P) hn d) o n
    have h2 : n * 6 ^ d ≤ 6 * 6 ^ d := Nat.mul_le_mul_right _ hn
    rw [Nat.pow_succ, Nat.mul_comm]
    exact Nat.le_trans h1 h2
def tOrd (T : Talk) (o : List Nat) : Talk := (tLines T, tLow T, tHigh T, tMost T, tUn T, tNS T, tKind T, tLiar T, tDeaf T, tNT T, (fun k => tWho T (o.getD k 0)), (fun k => tSem T (o.getD k 0)))
def ordP (T : Talk) (w : Nat) (o : List Nat) : Bool := leftT (tOrd T o) (tNT T) w
/-- the turns' places hold the turns of o, so far -/
def OrdK (saved known : Nat → Int32) (n : Nat) (o : List Nat) : Prop := (∀ k, k < o.length → known (26 + 2 * k) = saved (26 + 2 * o.getD k 0) ∧ known (26 + 2 * k + 1) = saved (26 + 2 * o.getD k 0 + 1)) ∧ ∀ j, j < 1868 → (j < 26 ∨ 26 + 2 * n ≤ j) → known j = saved j
theorem ChM_congr3 {say say2 : Sem → Nat → Prop} {K K2 : Nat → Int32} (hs : ∀ g r, say g r → say2 g r) (hK : ∀ i, 66 ≤ i → i < 1868 → K2 i = K i) : ∀ {gs : List Sem} {p : Int32}, ChM say K gs p → ChM say2 K2 gs p
  | [], _, h => h
  | g :: gs, p, h => by
    obtain ⟨q, r, h1, h2, h3, h4, h5⟩ := h
    exact ⟨q, r, h1, h2, by rw [hK _ (by omega) (by omega)]; exact h3, hs g r h4, by rw [hK _ (by omega) (by omega)]; exact ChM_congr3 hs hK h5⟩
theorem SayM_congr3 {nS : Nat} {K K2 : Nat → Int32} (hK : ∀ i, 66 ≤ i → i < 1868 → K2 i = K i) : ∀ {d : Nat} {f : Sem} {m : Nat}, SayM nS d f m K → SayM nS d f m K2
  | 0, _, _, h => h
  | d + 1, f, m, h => by
    obtain ⟨h1, h2⟩ := h
    have e0 := hK (66 + 4 * m + 0) (by omega) (by omega)
    have e1 := hK (66 + 4 * m + 1) (by omega) (by omega)
    have e2 := hK (66 + 4 * m + 2) (by omega) (by omega)
    refine ⟨h1, ?_⟩
    rw [e0, e1, e2]
    rcases h2 with h | h | h | h | ⟨s, p, g, a1, a2, a3, a4, a5, a6⟩ | ⟨s, p, g, a1, a2, a3, a4, a5, a6⟩ | ⟨p, g, a1, a2, a3, a4⟩ | ⟨gs, a1, a2, a3⟩ | ⟨gs, a1, a2, a3⟩
    · exact Or.inl h
    · exact Or.inr (Or.inl h)
    · exact Or.inr (Or.inr (Or.inl h))
    · exact Or.inr (Or.inr (Or.inr (Or.inl h)))
    · exact Or.inr (Or.inr (Or.inr (Or.inr (Or.inl ⟨s, p, g, a1, a2, a3, a4, SayM_congr3 hK a5, a6⟩))))
    · exact Or.inr (Or.inr (Or.inr (Or.inr (Or.inr (Or.inl ⟨s, p, g, a1, a2, a3, a4, SayM_congr3 hK a5, a6⟩)))))
    · exact Or.inr (Or.inr (Or.inr (Or.inr (Or.inr (Or.inr (Or.inl ⟨p, g, a1, a2, SayM_congr3 hK a3, a4⟩))))))
    · exact Or.inr (Or.inr (Or.inr (Or.inr (Or.inr (Or.inr (Or.inr (Or.inl ⟨gs, a1, ChM_congr3 (fun g r h => SayM_congr3 hK h) hK a2, a3⟩)))))))
    · exact Or.inr (Or.inr (Or.inr (Or.inr (Or.inr (Or.inr (Or.inr (Or.inr ⟨gs, a1, ChM_congr3 (fun g r h => SayM_congr3 hK h) hK a2, a3⟩)))))))
theorem KIs.ord {saved known : Nat → Int32} {T : Talk} {o : List Nat} (h : KIs saved T) (ho : OrdK saved known (tNT T) o) (hl : o.length = tNT T) (hm : ∀ k, k < tNT T → o.getD k 0 < tNT T) : KIs known (tOrd T o) := by
  obtain ⟨⟨o1, o2, o3, o4, o5, o6, o7, o8, o9, o10⟩, k0, k1, k2, k3, k4, k5, k6, k7, k8⟩ := h
  have e := ho.2
  refine ⟨⟨o1, o2, o3, o4, o5, o6, o7, o8, fun z hz => o9 _ (hm z hz), o10⟩, ?_, ?_, ?_, ?_, ?_, ?_, ?_, ?_, ?_⟩
  · rw [e 0 (by omega) (by omega)]; exact k0
  · rw [e 1 (by omega) (by omega)]; exact k1
  · rw [e 2 (by omega) (by omega)]; exact k2
  · rw [e 3 (by omega) (by omega)]; exact k3
  · rw [e 4 (by omega) (by omega)]; exact k4
  · rw [e 5 (by omega) (by omega)]; exact k5
  · rw [e 6 (by omega) (by omega)]; exact k6
  · intro s hs
    have hs2 : s < tNS T := hs
    rw [e _ (by omega) (by omega), e _ (by omega) (by omega), e _ (by omega) (by omega)]
    exact k7 s hs
  · intro t ht
    have ht2 : t < tNT T := ht
    obtain ⟨a1, a2⟩ := ho.1 t (by omega)
    obtain ⟨b1, m, b2, b3⟩ := k8 _ (hm t ht2)
    exact ⟨by rw [a1]; exact b1, m, by rw [a2]; exact b2, SayM_congr3 (fun j hj hj2 => e j hj2 (by omega)) b3⟩
/-- the first of the orders found is kept -/
def foR (n om : Nat) (fo : Nat → Nat) (L : List (List Nat)) (fo2 : Nat → Nat) : Prop := ((¬ om = 0 ∨ L = []) → ∀ k, k < n → fo2 k = fo k) ∧ (om = 0 → ∀ o, L.head? = some o → ∀ k, k < n → fo2 k = o.getD k 0)
theorem foR_nil {n om : Nat} {fo : Nat → Nat} : foR n om fo [] fo := ⟨fun _ _ _ => rfl, fun _ o h => by cases h⟩
theorem foR_app {n om om2 : Nat} {fo fo1 fo2 : Nat → Nat} {L L2 : List (List Nat)} (h1 : foR n om fo L fo1) (h2 : foR n om2 fo1 L2 fo2) (ho : om2 = om + L.length) : foR n om fo (L ++ L2) fo2 := by
  refine ⟨fun q k hk => ?_, fun q o hh k hk => ?_⟩
  · rcases q with q | q
    · rw [h2.1 (Or.inl (by omega)) k hk, h1.1 (Or.inl q) k hk]
    · rw [List.append_eq_nil_iff] at q
      rw [h2.1 (Or.inr q.2) k hk, h1.1 (Or.inr q.1) k hk]
  · cases L with
    | nil => exact (h2.2 (by rw [ho, q]; rfl) o hh k hk)
    | cons a L =>
      have ha : a = o := Option.some.inj hh
      rw [h2.1 (Or.inl (by rw [ho]; show ¬ om + (L.length + 1) = 0; omega)) k hk]
      exact h1.2 q o (by rw [← ha]; rfl) k hk
theorem foR_one {n om k : Nat} {fo fo1 order : Nat → Nat} {o : List Nat} (hk0 : ¬ om = 0 → fo1 = fo) (hfo : ∀ j, j < k → fo1 j = order j) (hod : ∀ k, k < o.length → order k = o.getD k 0) (hl : o.length = n) (hx : n ≤ k ∨ ¬ om = 0) : foR n om fo [o] fo1 := by
  refine ⟨fun q k hk => ?_, fun q o2 hh z hz => ?_⟩
  · rcases q with q | q
    · rw [hk0 q]
    · cases q
  · have e : o = o2 := Option.some.inj hh
    subst e
    rcases hx with h | h
    · rw [hfo z (by omega)]; exact hod z (by omega)
    · exact absurd q h
def isOrders (T : Talk) (w k : Int32) (thr : Nat) (v : Int32) : Prop := match iR w (tP T) with
  | none => thr = 1
  | some j => thr = 0 ∧ (if 6 < tNT T then v = -1 else
      if k = -1 then v = nI (ordL (ordP T j) (tNT T) (tNT T) []).length else
      match (ordL (ordP T j) (tNT T) (tNT T) []).head?, iR k (tNT T) with
      | some o, some i => v = nI (o.getD i 0)
      | _, _ => v = -1)
/-! THE MODEL, 13: orders -/
set_option maxRecDepth 100000
theorem getD_snoc {o : List Nat} {t k : Nat} : (o ++ [t]).getD k 0 = if k = o.length then t else o.getD k 0 := by
  rw [List.getD_eq_getElem?_getD, List.getD_eq_getElem?_getD]
  rcases Nat.lt_trichotomy k o.length with q | q | q
  · rw [List.getElem?_append_left q, if_neg (by omega)]
  · rw [if_pos q, q, List.getElem?_append_right (Nat.le_refl _), Nat.sub_self]; rfl
  · rw [if_neg (by omega), List.getElem?_eq_none (by rw [List.length_append]; show o.length + 1 ≤ k; omega), List.getElem?_eq_none (by omega)]
theorem OrdK_snoc {saved known kn1 : Nat → Int32} {n t : Nat} {o : List Nat} (hO : OrdK saved known n o) (hkn : ∀ j, (j < 26 + 2 * o.length ∨ 26 + 2 * n ≤ j) → kn1 j = known j) (hn : o.length < n) : OrdK saved (up (up kn1 (26 + 2 * o.length) (saved (26 + 2 * t))) (26 + 2 * o.length + 1) (saved (26 + 2 * t + 1))) n (o ++ [t]) := by
  refine ⟨fun k hk => ?_, fun j hj hj3 => ?_⟩
  · rw [List.length_append] at hk
    have hk : k < o.length + 1 := hk
    rw [getD_snoc]
    by_cases q : k = o.length
    · rw [if_pos q, q, up_n (by omega), up_s, up_s]; exact ⟨rfl, rfl⟩
    · rw [if_neg q, up_n (by omega), up_n (by omega), up_n (by omega), up_n (by omega), hkn _ (by omega), hkn _ (by omega)]
      exact hO.1 k (by omega)
  · rw [up_n (by omega), up_n (by omega), hkn j (by omega)]
    exact hO.2 j hj hj3
section
variable {l : Launch} {D : va_G} {cl : List vw_C} {tys : List (ClassId × FieldType)} {mi : Nat} {cI cJ cZ : ClassId} {ma : Nat → Nat} {known fresh_ saved images : Nat → Int32} {isImage : Nat → Bool} {thrown : Nat} {tape : Nat → Nat} {taped size_ at_ begin_ token value open_ bad badPlace faultKind : Nat} {faultPlace : Int32} {xs ys : Nat → Nat} {pairs : Nat} {rows : Nat → Int64} {top : Nat} {heaps : Nat → Nat} {endsBehind : Nat → Int32} {path order firstOrder : Nat → Nat} {ordersMany : Nat} {tSort : Nat → Int32} {tMany : Nat → Nat} {numbers : Nat → Int64}
abbrev ToOK (l : Launch) (D : va_G) (cl : List vw_C) (tys : List (ClassId × FieldType)) (mi : Nat) (cI cJ cZ : ClassId) (ma : Nat → Nat) (T : Talk) (w0 d : Nat) : Prop := ∀ {known fresh_ saved images : Nat → Int32} {isImage : Nat → Bool} {thrown : Nat} {tape : Nat → Nat} {taped size_ at_ begin_ token value open_ bad badPlace faultKind : Nat} {faultPlace : Int32} {xs ys : Nat → Nat} {pairs : Nat} {rows : Nat → Int64} {top : Nat} {heaps : Nat → Nat} {endsBehind : Nat → Int32} {path order firstOrder : Nat → Nat} {ordersMany : Nat} {tSort : Nat → Int32} {tMany : Nat → Nat} {numbers : Nat → Int64} (uB : Int32) (o : List Nat), (KIs saved T) → (OrdK saved known (tNT T) o) → (∀ k, k < o.length → order k = o.getD k 0) → (o.length + d = tNT T) → (tNT T ≤ 6) → (∀ x, x ∈ o → x < tNT T) → (∀ t, t < tNT T → sBit uB t = decide (t ∈ o)) → (w0 < tP T) → (ordersMany + 6 ^ (d) ≤ 2 ^ 20) → CT l D cl tys yX10_triesOrders cX10_triesOrders 6 none ({ frames := 88 + (d), cells := 0, slots := 0, locals := 2570 + 40 * (d) } : Room) [.ref (ma 0), .int uB, .int (nI o.length), .int (nI w0)] (HM D cl tys mi cI cJ cZ ma known fresh_ saved images isImage thrown tape taped size_ at_ begin_ token value open_ bad badPlace faultKind faultPlace xs ys pairs rows top heaps endsBehind path order firstOrder ordersMany tSort tMany numbers) (Qv (fun (u : (Nat → Int32) × (Nat → Nat) × (Nat → Nat) × Nat × (Nat → Nat) × (Nat → Int64) × (Nat → Nat) × (Nat → Nat) × Nat × Nat) => u.2.2.2.1 = ordersMany + (ordL (ordP T w0) (tNT T) d o).length ∧ foR (tNT T) ordersMany firstOrder (ordL (ordP T w0) (tNT T) d o) u.2.2.1 ∧ (∀ k, k < o.length → u.2.1 k = order k) ∧ (∀ j, (j < 26 + 2 * o.length ∨ 26 + 2 * tNT T ≤ j) → u.1 j = known j)) (fun (u : (Nat → Int32) × (Nat → Nat) × (Nat → Nat) × Nat × (Nat → Nat) × (Nat → Int64) × (Nat → Nat) × (Nat → Nat) × Nat × Nat) => HM D cl tys mi cI cJ cZ ma u.1 fresh_ saved images isImage thrown tape taped size_ at_ begin_ token value open_ bad badPlace faultKind faultPlace u.2.2.2.2.2.2.1 u.2.2.2.2.2.2.2.1 u.2.2.2.2.2.2.2.2.1 u.2.2.2.2.2.1 u.2.2.2.2.2.2.2.2.2 u.2.2.2.2.1 endsBehind path u.2.1 u.2.2.1 u.2.2.2.1 tSort tMany numbers) (AM ma)) (AM ma)
set_option maxHeartbeats 4000000 in
/-- an order is whole -/
theorem ct_to0 (T : Talk) (w0 : Nat) (uB : Int32) (o : List Nat) (hs : KIs saved T) (hO : OrdK saved known (tNT T) o) (hod : ∀ k, k < o.length → order k = o.getD k 0) (hlen : o.length + 0 = tNT T) (hn6 : tNT T ≤ 6) (hmem : ∀ x, x ∈ o → x < tNT T) (hbit : ∀ t, t < tNT T → sBit uB t = decide (t ∈ o)) (hw : w0 < tP T) (hom : ordersMany + 6 ^ (0) ≤ 2 ^ 20) : CT l D cl tys yX10_triesOrders cX10_triesOrders 6 none ({ frames := 88 + (0), cells := 0, slots := 0, locals := 2570 + 40 * (0) } : Room) [.ref (ma 0), .int uB, .int (nI o.length), .int (nI w0)] (HM D cl tys mi cI cJ cZ ma known fresh_ saved images isImage thrown tape taped size_ at_ begin_ token value open_ bad badPlace faultKind faultPlace xs ys pairs rows top heaps endsBehind path order firstOrder ordersMany tSort tMany numbers) (Qv (fun (u : (Nat → Int32) × (Nat → Nat) × (Nat → Nat) × Nat × (Nat → Nat) × (Nat → Int64) × (Nat → Nat) × (Nat → Nat) × Nat × Nat) => u.2.2.2.1 = ordersMany + (ordL (ordP T w0) (tNT T) 0 o).length ∧ foR (tNT T) ordersMany firstOrder (ordL (ordP T w0) (tNT T) 0 o) u.2.2.1 ∧ (∀ k, k < o.length → u.2.1 k = order k) ∧ (∀ j, (j < 26 + 2 * o.length ∨ 26 + 2 * tNT T ≤ j) → u.1 j = known j)) (fun (u : (Nat → Int32) × (Nat → Nat) × (Nat → Nat) × Nat × (Nat → Nat) × (Nat → Int64) × (Nat → Nat) × (Nat → Nat) × Nat × Nat) => HM D cl tys mi cI cJ cZ ma u.1 fresh_ saved images isImage thrown tape taped size_ at_ begin_ token value open_ bad badPlace faultKind faultPlace u.2.2.2.2.2.2.1 u.2.2.2.2.2.2.2.1 u.2.2.2.2.2.2.2.2.1 u.2.2.2.2.2.1 u.2.2.2.2.2.2.2.2.2 u.2.2.2.2.1 endsBehind path u.2.1 u.2.2.1 u.2.2.2.1 tSort tMany numbers) (AM ma)) (AM ma) := by
  obtain ⟨⟨o1, o2, o3, o4, o5, o6, o7, o8, o9, o10⟩, k0, k1, k2, k3, k4, k5, k6, k7, k8⟩ := id hs
  have hgm : ∀ k, k < o.length → o.getD k 0 < tNT T := fun k hk => by
    rw [List.getD_eq_getElem?_getD, List.getElem?_eq_getElem hk]; exact hmem _ (List.getElem_mem hk)
  have h8 := wList_len (u := tUn T) (mo := tMost T) o1 o3
  have hPle : tP T ≤ 1830 := h8
  refine CT.of (L := [(0, .ref (ma 0)), (1, .int uB), (2, .int (nI o.length)), (3, .int (nI w0))]) rfl (by decide +kernel) rfl (Nat.le_of_ble_eq_true rfl) ?_
  refine g_aload_n 0 dX10_triesOrders_0 rfl rfl ?_
  refine m_get_saved dX10_triesOrders_1 ?_
  refine g_bipush (v := nI 6) dX10_triesOrders_4 (by decide +kernel) ?_
  refine m_ld_saved dX10_triesOrders_6 (by omega) ?_
  refine GG.topi k6 ?_
  refine g_istore (L' := [(0, _), (1, _), (2, _), (3, _), (4, _)]) dX10_triesOrders_7 (by decide) rfl rfl ?_
  refine g_iload_n 2 dX10_triesOrders_9 rfl rfl ?_
  refine g_iload dX10_triesOrders_10 rfl ?_
  refine g_icmp_ne_n (tgt := 78) dX10_triesOrders_12 (by decide) (by omega) (by omega) (fun c12 => ?_) (fun c12 => ?_)
  · skip
    exact absurd (by omega) c12
  · skip
    refine g_aload_n 0 dX10_triesOrders_15 rfl rfl ?_
    refine m_cVv (ct_lays (tOrd T o) (hs.ord hO (by omega) (fun k hk => hgm k (by omega)))) hvX10_lays hyX10_lays rfl ⟨by dsimp only; omega, by dsimp only; omega⟩ ⟨Nat.zero_le _, Nat.zero_le _⟩ rfl (Nat.le_of_ble_eq_true rfl) dX10_triesOrders_16 m_rec (fun ul hul => ?_)
    obtain ⟨heapsL, rowsZ, xsL, ysL, pairsL⟩ := ul
    dsimp only
    obtain ⟨hl, hr⟩ := hul
    have hl : layd xsL ysL pairsL (tW T) := hl
    have hr : rowsL rowsZ (tOrd T o) (tNT T) := hr
    have hPT : pairsL = tP T := hl.1
    refine g_aload_n 0 dX10_triesOrders_19 rfl rfl ?_
    refine g_iload dX10_triesOrders_20 rfl ?_
    refine g_iload_n 3 dX10_triesOrders_22 rfl rfl ?_
    refine m_cVi (ct_has _ _ (by omega) (by omega)) hvX10_has hyX10_has rfl ⟨by dsimp only; omega, by dsimp only; omega⟩ ⟨Nat.zero_le _, Nat.zero_le _⟩ rfl (Nat.le_of_ble_eq_true rfl) dX10_triesOrders_23 m_rec (fun r u9 hp => ?_)
    obtain rfl := hp
    refine GG.topi (y := bI (ordP T w0 o)) (congrArg bI (hr _ w0 (Nat.le_refl _) hw)) ?_
    refine g_if_ne_b (tgt := 30) dX10_triesOrders_26 (by decide) (fun c26 => ?_) (fun c26 => ?_)
    · skip
      refine g_iconst (v := nI 0) dX10_triesOrders_30 (by decide +kernel) ?_
      refine g_istore (L' := [(0, _), (1, _), (2, _), (3, _), (4, _), (5, _)]) dX10_triesOrders_31 (by decide) rfl rfl ?_
      have loop33 : ∀ (q33 : Nat) (k : Nat) (fo1 : Nat → Nat), tNT T + 1 - k < q33 → (k ≤ tNT T) → (∀ j, j < k → fo1 j = order j) → (¬ ordersMany = 0 → fo1 = firstOrder) → GG l D cl tys cX10_triesOrders 6 none RX10 ({ frames := 88 + (0), cells := 0, slots := 0, locals := 2570 + 40 * (0) } : Room) (AM ma) MT (QM (Qv (fun (u : (Nat → Int32) × (Nat → Nat) × (Nat → Nat) × Nat × (Nat → Nat) × (Nat → Int64) × (Nat → Nat) × (Nat → Nat) × Nat × Nat) => u.2.2.2.1 = ordersMany + (ordL (ordP T w0) (tNT T) 0 o).length ∧ foR (tNT T) ordersMany firstOrder (ordL (ordP T w0) (tNT T) 0 o) u.2.2.1 ∧ (∀ k, k < o.length → u.2.1 k = order k) ∧ (∀ j, (j < 26 + 2 * o.length ∨ 26 + 2 * tNT T ≤ j) → u.1 j = known j)) (fun (u : (Nat → Int32) × (Nat → Nat) × (Nat → Nat) × Nat × (Nat → Nat) × (Nat → Int64) × (Nat → Nat) × (Nat → Nat) × Nat × Nat) => HM D cl tys mi cI cJ cZ ma u.1 fresh_ saved images isImage thrown tape taped size_ at_ begin_ token value open_ bad badPlace faultKind faultPlace u.2.2.2.2.2.2.1 u.2.2.2.2.2.2.2.1 u.2.2.2.2.2.2.2.2.1 u.2.2.2.2.2.1 u.2.2.2.2.2.2.2.2.2 u.2.2.2.2.1 endsBehind path u.2.1 u.2.2.1 u.2.2.2.1 tSort tMany numbers) (AM ma)) 0 0 (AM ma)) (HM D cl tys mi cI cJ cZ ma known fresh_ saved images isImage thrown tape taped size_ at_ begin_ token value open_ bad badPlace faultKind faultPlace xsL ysL pairsL rowsZ 21 heapsL endsBehind path order fo1 ordersMany tSort tMany numbers) 0 0 33 [(0, .ref (ma 0)), (1, .int uB), (2, .int (nI o.length)), (3, .int (nI w0)), (4, .int (nI (tNT T))), (5, .int (nI k))] [] := by
        intro q33
        induction q33 with
        | zero => intro k fo1 hq33; exact absurd hq33 (Nat.not_lt_zero _)
        | succ q33 ih33 =>
          intro k fo1 hq33 hk hfo hk0
          refine g_iload dX10_triesOrders_33 rfl ?_
          refine g_iload dX10_triesOrders_35 rfl ?_
          refine g_icmp_ge_n (tgt := 67) dX10_triesOrders_37 (by decide) (by omega) (by omega) (fun c37 => ?_) (fun c37 => ?_)
          · skip
            refine g_aload_n 0 dX10_triesOrders_67 rfl rfl ?_
            refine g_dup dX10_triesOrders_68 rfl ?_
            refine m_get_ordersMany dX10_triesOrders_69 ?_
            refine g_iconst (v := nI 1) dX10_triesOrders_72 (by decide +kernel) ?_
            refine g_iadd_n dX10_triesOrders_73 ?_
            refine m_put_ordersMany dX10_triesOrders_74 ?_
            exact g_vret (known, order, fo1, (ordersMany + 1), heapsL, rowsZ, xsL, ysL, pairsL, 21) dX10_triesOrders_77 (Nat.le_refl _) (Nat.le_refl _) (by rw [show ordL (ordP T w0) (tNT T) 0 o = [o] by unfold ordL; rw [if_pos c26]]; exact ⟨rfl, foR_one hk0 hfo hod (by omega) (by first | exact Or.inl c37 | exact Or.inr c44), fun _ _ => rfl, fun _ _ => rfl⟩) (fun _ h => h)
          · skip
            refine g_aload_n 0 dX10_triesOrders_40 rfl rfl ?_
            refine m_get_ordersMany dX10_triesOrders_41 ?_
            refine g_if_ne_n (tgt := 67) dX10_triesOrders_44 (by decide) (by omega) (fun c44 => ?_) (fun c44 => ?_)
            · skip
              refine g_aload_n 0 dX10_triesOrders_67 rfl rfl ?_
              refine g_dup dX10_triesOrders_68 rfl ?_
              refine m_get_ordersMany dX10_triesOrders_69 ?_
              refine g_iconst (v := nI 1) dX10_triesOrders_72 (by decide +kernel) ?_
              refine g_iadd_n dX10_triesOrders_73 ?_
              refine m_put_ordersMany dX10_triesOrders_74 ?_
              exact g_vret (known, order, fo1, (ordersMany + 1), heapsL, rowsZ, xsL, ysL, pairsL, 21) dX10_triesOrders_77 (Nat.le_refl _) (Nat.le_refl _) (by rw [show ordL (ordP T w0) (tNT T) 0 o = [o] by unfold ordL; rw [if_pos c26]]; exact ⟨rfl, foR_one hk0 hfo hod (by omega) (by first | exact Or.inl c37 | exact Or.inr c44), fun _ _ => rfl, fun _ _ => rfl⟩) (fun _ h => h)
            · skip
              refine g_aload_n 0 dX10_triesOrders_47 rfl rfl ?_
              refine m_get_firstOrder dX10_triesOrders_48 ?_
              refine g_iload dX10_triesOrders_51 rfl ?_
              refine g_aload_n 0 dX10_triesOrders_53 rfl rfl ?_
              refine m_get_order dX10_triesOrders_54 ?_
              refine g_iload dX10_triesOrders_57 rfl ?_
              refine m_ld_order dX10_triesOrders_59 (by omega) ?_
              refine m_st_firstOrder dX10_triesOrders_60 (by omega) ?_
              refine g_iinc_n (b := 1) (L' := [(0, _), (1, _), (2, _), (3, _), (4, _), (5, _)]) dX10_triesOrders_61 rfl rfl (by decide) rfl rfl ?_
              refine g_goto (tgt := 33) dX10_triesOrders_64 (by decide) ?_
              refine ih33 (k + 1) _ (by omega) (by omega) (fun j hj => ?_) (fun q => absurd c44 q)
              by_cases q : j = k
              · rw [q, up_s]
              · rw [up_n q]; exact hfo j (by omega)
      exact loop33 (tNT T + 2) 0 firstOrder (by omega) (by omega) (fun j hj => absurd hj (Nat.not_lt_zero _)) (fun _ => rfl)
    · skip
      exact g_vret (known, order, firstOrder, ordersMany, heapsL, rowsZ, xsL, ysL, pairsL, 21) dX10_triesOrders_29 (Nat.le_refl _) (Nat.le_refl _) (by rw [show ordL (ordP T w0) (tNT T) 0 o = [] by unfold ordL; rw [if_neg (by rw [c26]; decide)]]; exact ⟨rfl, foR_nil, fun _ _ => rfl, fun _ _ => rfl⟩) (fun _ h => h)
set_option maxHeartbeats 4000000 in
/-- all orders that go on -/
theorem ct_toS (T : Talk) (d w0 : Nat) (uB : Int32) (o : List Nat) (ih : ToOK l D cl tys mi cI cJ cZ ma T w0 d) (hs : KIs saved T) (hO : OrdK saved known (tNT T) o) (hod : ∀ k, k < o.length → order k = o.getD k 0) (hlen : o.length + (d + 1) = tNT T) (hn6 : tNT T ≤ 6) (hmem : ∀ x, x ∈ o → x < tNT T) (hbit : ∀ t, t < tNT T → sBit uB t = decide (t ∈ o)) (hw : w0 < tP T) (hom : ordersMany + 6 ^ ((d + 1)) ≤ 2 ^ 20) : CT l D cl tys yX10_triesOrders cX10_triesOrders 6 none ({ frames := 88 + (d + 1), cells := 0, slots := 0, locals := 2570 + 40 * (d + 1) } : Room) [.ref (ma 0), .int uB, .int (nI o.length), .int (nI w0)] (HM D cl tys mi cI cJ cZ ma known fresh_ saved images isImage thrown tape taped size_ at_ begin_ token value open_ bad badPlace faultKind faultPlace xs ys pairs rows top heaps endsBehind path order firstOrder ordersMany tSort tMany numbers) (Qv (fun (u : (Nat → Int32) × (Nat → Nat) × (Nat → Nat) × Nat × (Nat → Nat) × (Nat → Int64) × (Nat → Nat) × (Nat → Nat) × Nat × Nat) => u.2.2.2.1 = ordersMany + (ordL (ordP T w0) (tNT T) (d + 1) o).length ∧ foR (tNT T) ordersMany firstOrder (ordL (ordP T w0) (tNT T) (d + 1) o) u.2.2.1 ∧ (∀ k, k < o.length → u.2.1 k = order k) ∧ (∀ j, (j < 26 + 2 * o.length ∨ 26 + 2 * tNT T ≤ j) → u.1 j = known j)) (fun (u : (Nat → Int32) × (Nat → Nat) × (Nat → Nat) × Nat × (Nat → Nat) × (Nat → Int64) × (Nat → Nat) × (Nat → Nat) × Nat × Nat) => HM D cl tys mi cI cJ cZ ma u.1 fresh_ saved images isImage thrown tape taped size_ at_ begin_ token value open_ bad badPlace faultKind faultPlace u.2.2.2.2.2.2.1 u.2.2.2.2.2.2.2.1 u.2.2.2.2.2.2.2.2.1 u.2.2.2.2.2.1 u.2.2.2.2.2.2.2.2.2 u.2.2.2.2.1 endsBehind path u.2.1 u.2.2.1 u.2.2.2.1 tSort tMany numbers) (AM ma)) (AM ma) := by
  obtain ⟨⟨o1, o2, o3, o4, o5, o6, o7, o8, o9, o10⟩, k0, k1, k2, k3, k4, k5, k6, k7, k8⟩ := id hs
  have hgm : ∀ k, k < o.length → o.getD k 0 < tNT T := fun k hk => by
    rw [List.getD_eq_getElem?_getD, List.getElem?_eq_getElem hk]; exact hmem _ (List.getElem_mem hk)
  have h8 := wList_len (u := tUn T) (mo := tMost T) o1 o3
  have hPle : tP T ≤ 1830 := h8
  refine CT.of (L := [(0, .ref (ma 0)), (1, .int uB), (2, .int (nI o.length)), (3, .int (nI w0))]) rfl (by decide +kernel) rfl (Nat.le_of_ble_eq_true rfl) ?_
  refine g_aload_n 0 dX10_triesOrders_0 rfl rfl ?_
  refine m_get_saved dX10_triesOrders_1 ?_
  refine g_bipush (v := nI 6) dX10_triesOrders_4 (by decide +kernel) ?_
  refine m_ld_saved dX10_triesOrders_6 (by omega) ?_
  refine GG.topi k6 ?_
  refine g_istore (L' := [(0, _), (1, _), (2, _), (3, _), (4, _)]) dX10_triesOrders_7 (by decide) rfl rfl ?_
  refine g_iload_n 2 dX10_triesOrders_9 rfl rfl ?_
  refine g_iload dX10_triesOrders_10 rfl ?_
  refine g_icmp_ne_n (tgt := 78) dX10_triesOrders_12 (by decide) (by omega) (by omega) (fun c12 => ?_) (fun c12 => ?_)
  · skip
    refine g_iconst (v := nI 0) dX10_triesOrders_78 (by decide +kernel) ?_
    refine g_istore (L' := [(0, _), (1, _), (2, _), (3, _), (4, _), (5, _)]) dX10_triesOrders_79 (by decide) rfl rfl ?_
    have loop81 : ∀ (q81 : Nat) (t : Nat) (kn1 : Nat → Int32) (or1 fo1 : Nat → Nat) (om1 : Nat) (hp1 : Nat → Nat) (rw1 : Nat → Int64) (xs1 ys1 : Nat → Nat) (pr1 tp1 : Nat), tNT T - t < q81 → (t ≤ tNT T) → (om1 = ordersMany + (ordT (ordP T w0) (tNT T) d o t).length) → (foR (tNT T) ordersMany firstOrder (ordT (ordP T w0) (tNT T) d o t) fo1) → (∀ k, k < o.length → or1 k = order k) → (∀ j, (j < 26 + 2 * o.length ∨ 26 + 2 * tNT T ≤ j) → kn1 j = known j) → GG l D cl tys cX10_triesOrders 6 none RX10 ({ frames := 88 + (d + 1), cells := 0, slots := 0, locals := 2570 + 40 * (d + 1) } : Room) (AM ma) MT (QM (Qv (fun (u : (Nat → Int32) × (Nat → Nat) × (Nat → Nat) × Nat × (Nat → Nat) × (Nat → Int64) × (Nat → Nat) × (Nat → Nat) × Nat × Nat) => u.2.2.2.1 = ordersMany + (ordL (ordP T w0) (tNT T) (d + 1) o).length ∧ foR (tNT T) ordersMany firstOrder (ordL (ordP T w0) (tNT T) (d + 1) o) u.2.2.1 ∧ (∀ k, k < o.length → u.2.1 k = order k) ∧ (∀ j, (j < 26 + 2 * o.length ∨ 26 + 2 * tNT T ≤ j) → u.1 j = known j)) (fun (u : (Nat → Int32) × (Nat → Nat) × (Nat → Nat) × Nat × (Nat → Nat) × (Nat → Int64) × (Nat → Nat) × (Nat → Nat) × Nat × Nat) => HM D cl tys mi cI cJ cZ ma u.1 fresh_ saved images isImage thrown tape taped size_ at_ begin_ token value open_ bad badPlace faultKind faultPlace u.2.2.2.2.2.2.1 u.2.2.2.2.2.2.2.1 u.2.2.2.2.2.2.2.2.1 u.2.2.2.2.2.1 u.2.2.2.2.2.2.2.2.2 u.2.2.2.2.1 endsBehind path u.2.1 u.2.2.1 u.2.2.2.1 tSort tMany numbers) (AM ma)) 0 0 (AM ma)) (HM D cl tys mi cI cJ cZ ma kn1 fresh_ saved images isImage thrown tape taped size_ at_ begin_ token value open_ bad badPlace faultKind faultPlace xs1 ys1 pr1 rw1 tp1 hp1 endsBehind path or1 fo1 om1 tSort tMany numbers) 0 0 81 [(0, .ref (ma 0)), (1, .int uB), (2, .int (nI o.length)), (3, .int (nI w0)), (4, .int (nI (tNT T))), (5, .int (nI t))] [] := by
      intro q81
      induction q81 with
      | zero => intro t kn1 or1 fo1 om1 hp1 rw1 xs1 ys1 pr1 tp1 hq81; exact absurd hq81 (Nat.not_lt_zero _)
      | succ q81 ih81 =>
        intro t kn1 or1 fo1 om1 hp1 rw1 xs1 ys1 pr1 tp1 hq81 ht hom1 hfo hor hkn
        refine g_iload dX10_triesOrders_81 rfl ?_
        refine g_iload dX10_triesOrders_83 rfl ?_
        refine g_icmp_ge_n (tgt := 179) dX10_triesOrders_85 (by decide) (by omega) (by omega) (fun c85 => ?_) (fun c85 => ?_)
        · skip
          exact g_vret (_, _, _, _, _, _, _, _, _, _) dX10_triesOrders_179 (Nat.le_refl _) (Nat.le_refl _) (by have e9 : t = tNT T := (by omega); rw [e9] at hom1 hfo; exact ⟨hom1, hfo, hor, hkn⟩) (fun _ h => h)
        · skip
          refine g_iload_n 1 dX10_triesOrders_88 rfl rfl ?_
          refine g_iload dX10_triesOrders_89 rfl ?_
          refine g_ishr dX10_triesOrders_91 ?_
          refine g_iconst (v := nI 1) dX10_triesOrders_92 (by decide +kernel) ?_
          refine g_iand dX10_triesOrders_93 ?_
          refine g_iconst (v := nI 1) dX10_triesOrders_94 (by decide +kernel) ?_
          refine g_icmp_ne (tgt := 101) dX10_triesOrders_95 (by decide) (fun c95 => ?_) (fun c95 => ?_)
          · skip
            refine g_aload_n 0 dX10_triesOrders_101 rfl rfl ?_
            refine m_get_order dX10_triesOrders_102 ?_
            refine g_iload_n 2 dX10_triesOrders_105 rfl rfl ?_
            refine g_iload dX10_triesOrders_106 rfl ?_
            refine m_st_order dX10_triesOrders_108 (by omega) ?_
            refine g_aload_n 0 dX10_triesOrders_109 rfl rfl ?_
            refine m_get_known dX10_triesOrders_110 ?_
            refine g_bipush (v := nI 26) dX10_triesOrders_113 (by decide +kernel) ?_
            refine g_iconst (v := nI 2) dX10_triesOrders_115 (by decide +kernel) ?_
            refine g_iload_n 2 dX10_triesOrders_116 rfl rfl ?_
            refine g_imul_n dX10_triesOrders_117 ?_
            refine g_iadd_n dX10_triesOrders_118 ?_
            refine g_aload_n 0 dX10_triesOrders_119 rfl rfl ?_
            refine m_get_saved dX10_triesOrders_120 ?_
            refine g_bipush (v := nI 26) dX10_triesOrders_123 (by decide +kernel) ?_
            refine g_iconst (v := nI 2) dX10_triesOrders_125 (by decide +kernel) ?_
            refine g_iload dX10_triesOrders_126 rfl ?_
            refine g_imul_n dX10_triesOrders_128 ?_
            refine g_iadd_n dX10_triesOrders_129 ?_
            refine m_ld_saved dX10_triesOrders_130 (by omega) ?_
            refine m_st_known dX10_triesOrders_131 (by omega) ?_
            refine g_aload_n 0 dX10_triesOrders_132 rfl rfl ?_
            refine m_get_known dX10_triesOrders_133 ?_
            refine g_bipush (v := nI 26) dX10_triesOrders_136 (by decide +kernel) ?_
            refine g_iconst (v := nI 2) dX10_triesOrders_138 (by decide +kernel) ?_
            refine g_iload_n 2 dX10_triesOrders_139 rfl rfl ?_
            refine g_imul_n dX10_triesOrders_140 ?_
            refine g_iadd_n dX10_triesOrders_141 ?_
            refine g_iconst (v := nI 1) dX10_triesOrders_142 (by decide +kernel) ?_
            refine g_iadd_n dX10_triesOrders_143 ?_
            refine g_aload_n 0 dX10_triesOrders_144 rfl rfl ?_
            refine m_get_saved dX10_triesOrders_145 ?_
            refine g_bipush (v := nI 26) dX10_triesOrders_148 (by decide +kernel) ?_
            refine g_iconst (v := nI 2) dX10_triesOrders_150 (by decide +kernel) ?_
            refine g_iload dX10_triesOrders_151 rfl ?_
            refine g_imul_n dX10_triesOrders_153 ?_
            refine g_iadd_n dX10_triesOrders_154 ?_
            refine g_iconst (v := nI 1) dX10_triesOrders_155 (by decide +kernel) ?_
            refine g_iadd_n dX10_triesOrders_156 ?_
            refine m_ld_saved dX10_triesOrders_157 (by omega) ?_
            refine m_st_known dX10_triesOrders_158 (by omega) ?_
            refine g_aload_n 0 dX10_triesOrders_159 rfl rfl ?_
            refine g_iload_n 1 dX10_triesOrders_160 rfl rfl ?_
            refine g_iconst (v := nI 1) dX10_triesOrders_161 (by decide +kernel) ?_
            have hm0 : decide (t ∈ o) = false := by rw [← hbit t (by omega)]; exact decide_eq_false c95
            have hO2 : OrdK saved (up (up kn1 (26 + 2 * o.length) (saved (26 + 2 * t))) (26 + 2 * o.length + 1) (saved (26 + 2 * t + 1))) (tNT T) (o ++ [t]) := OrdK_snoc hO hkn (by omega)
            have hod2 : ∀ k, k < (o ++ [t]).length → up or1 o.length t k = (o ++ [t]).getD k 0 := fun k hk => by
              rw [List.length_append] at hk; have hk : k < o.length + 1 := hk
              rw [getD_snoc]; unfold up; split
              · rfl
              · rw [hor k (by omega)]; exact hod k (by omega)
            have hmem2 : ∀ x, x ∈ o ++ [t] → x < tNT T := fun x hx => by
              rcases List.mem_append.mp hx with q | q
              · exact hmem x q
              · rw [List.mem_singleton.mp q]; omega
            have hbit2 : ∀ z, z < tNT T → sBit (uB ||| (nI 1 <<< (nI t &&& 31))) z = decide (z ∈ o ++ [t]) := fun z hz => by
              rw [sBit_or uB (by omega) (by omega), hbit z hz]; simp
            have hlT := ordT_len (ordL_le (P := ordP T w0) hn6 d) o t
            have hom2 : om1 + 6 ^ d ≤ 2 ^ 20 := by
              have h9 : (t + 1) * 6 ^ d ≤ 6 * 6 ^ d := Nat.mul_le_mul_right _ (by omega)
              rw [Nat.pow_succ] at hom; rw [Nat.succ_mul] at h9; omega
            refine g_iload dX10_triesOrders_162 rfl ?_
            refine g_ishl dX10_triesOrders_164 ?_
            refine g_ior dX10_triesOrders_165 ?_
            refine g_iload_n 2 dX10_triesOrders_166 rfl rfl ?_
            refine g_iconst (v := nI 1) dX10_triesOrders_167 (by decide +kernel) ?_
            refine g_iadd_n dX10_triesOrders_168 ?_
            refine GG.topi (y := nI (o ++ [t]).length) (by rw [List.length_append]; rfl) ?_
            refine g_iload_n 3 dX10_triesOrders_169 rfl rfl ?_
            refine m_cVv (ih _ (o ++ [t]) hs hO2 hod2 (by rw [List.length_append]; show o.length + 1 + d = _; omega) hn6 hmem2 hbit2 hw hom2) hvX10_triesOrders hyX10_triesOrders rfl ⟨by dsimp only; omega, by dsimp only; omega⟩ ⟨Nat.zero_le _, Nat.zero_le _⟩ rfl (Nat.le_of_ble_eq_true rfl) dX10_triesOrders_170 m_rec (fun us hus => ?_)
            obtain ⟨kn2, or2, fo2, om2, hp2, rw2, xs2, ys2, pr2, tp2⟩ := us
            dsimp only
            obtain ⟨hu1, hu2, hu3, hu4⟩ := hus
            have hu1 : om2 = om1 + _ := hu1
            have hu2 : foR (tNT T) om1 fo1 _ fo2 := hu2
            have hu3 : ∀ k, k < (o ++ [t]).length → or2 k = up or1 o.length t k := hu3
            have hu4 : ∀ j, (j < 26 + 2 * (o ++ [t]).length ∨ 26 + 2 * tNT T ≤ j) → kn2 j = up (up kn1 (26 + 2 * o.length) (saved (26 + 2 * t))) (26 + 2 * o.length + 1) (saved (26 + 2 * t + 1)) j := hu4
            rw [List.length_append] at hu3 hu4
            refine g_iinc_n (b := 1) (L' := [(0, _), (1, _), (2, _), (3, _), (4, _), (5, _)]) dX10_triesOrders_173 rfl rfl (by decide) rfl rfl ?_
            refine g_goto (tgt := 81) dX10_triesOrders_176 (by decide) ?_
            first
              | exact ih81 (t + 1) _ _ _ _ _ _ _ _ _ _ (by omega) (by omega) (by rw [ordT_step hm0, List.length_append, hu1, hom1, Nat.add_assoc]) (by rw [ordT_step hm0]; exact foR_app hfo hu2 hom1) (fun k hk => by rw [hu3 k (by show k < o.length + 1; omega), up_n (by omega)]; exact hor k hk) (fun j hj => by rw [hu4 j (by show j < 26 + 2 * (o.length + 1) ∨ _; omega), up_n (by omega), up_n (by omega)]; exact hkn j hj)
              | (have hm0 : decide (t ∈ o) = true := by rw [← hbit t (by omega)]; exact decide_eq_true c95
                 exact ih81 (t + 1) _ _ _ _ _ _ _ _ _ _ (by omega) (by omega) (by rw [ordT_skip hm0]; exact hom1) (by rw [ordT_skip hm0]; exact hfo) hor hkn)
          · skip
            refine g_goto (tgt := 173) dX10_triesOrders_98 (by decide) ?_
            refine g_iinc_n (b := 1) (L' := [(0, _), (1, _), (2, _), (3, _), (4, _), (5, _)]) dX10_triesOrders_173 rfl rfl (by decide) rfl rfl ?_
            refine g_goto (tgt := 81) dX10_triesOrders_176 (by decide) ?_
            first
              | exact ih81 (t + 1) _ _ _ _ _ _ _ _ _ _ (by omega) (by omega) (by rw [ordT_step hm0, List.length_append, hu1, hom1, Nat.add_assoc]) (by rw [ordT_step hm0]; exact foR_app hfo hu2 hom1) (fun k hk => by rw [hu3 k (by show k < o.length + 1; omega), up_n (by omega)]; exact hor k hk) (fun j hj => by rw [hu4 j (by show j < 26 + 2 * (o.length + 1) ∨ _; omega), up_n (by omega), up_n (by omega)]; exact hkn j hj)
              | (have hm0 : decide (t ∈ o) = true := by rw [← hbit t (by omega)]; exact decide_eq_true c95
                 exact ih81 (t + 1) _ _ _ _ _ _ _ _ _ _ (by omega) (by omega) (by rw [ordT_skip hm0]; exact hom1) (by rw [ordT_skip hm0]; exact hfo) hor hkn)
    exact loop81 (tNT T + 1) 0 _ _ _ _ _ _ _ _ _ _ (by omega) (by omega) rfl foR_nil (fun _ _ => rfl) (fun _ _ => rfl)
  · skip
    exact absurd c12 (by omega)
theorem to_all (T : Talk) (w0 : Nat) : ∀ d : Nat, ToOK l D cl tys mi cI cJ cZ ma T w0 d
  | 0 => fun uB o h1 h2 h3 h4 h5 h6 h7 h8 h9 => ct_to0 T w0 uB o h1 h2 h3 h4 h5 h6 h7 h8 h9
  | d + 1 => fun uB o h1 h2 h3 h4 h5 h6 h7 h8 h9 => ct_toS T d w0 uB o (to_all T w0 d) h1 h2 h3 h4 h5 h6 h7 h8 h9
set_option maxHeartbeats 4000000 in
/-- orders of turns by which a world is left -/
theorem ct_orders (T : Talk) (w0 k0a : Int32) (hK : KIs known T) : CT l D cl tys yX10_orders cX10_orders 3 (some .int) ({ frames := 95, cells := 0, slots := 0, locals := 2835 } : Room) [.ref (ma 0), .int w0, .int k0a] (HM D cl tys mi cI cJ cZ ma known fresh_ saved images isImage thrown tape taped size_ at_ begin_ token value open_ bad badPlace faultKind faultPlace xs ys pairs rows top heaps endsBehind path order firstOrder ordersMany tSort tMany numbers) (Qi (fun (v : Int32) (u : (Nat × (Nat → Nat) × (Nat → Nat) × Nat × (Nat → Int64) × Nat × (Nat → Nat)) × (Nat → Int32) × (Nat → Nat) × (Nat → Nat) × Nat) => isOrders T w0 k0a u.1.1 v) (fun (u : (Nat × (Nat → Nat) × (Nat → Nat) × Nat × (Nat → Int64) × Nat × (Nat → Nat)) × (Nat → Int32) × (Nat → Nat) × (Nat → Nat) × Nat) => HM D cl tys mi cI cJ cZ ma known fresh_ u.2.1 images isImage u.1.1 tape taped size_ at_ begin_ token value open_ bad badPlace faultKind faultPlace u.1.2.1 u.1.2.2.1 u.1.2.2.2.1 u.1.2.2.2.2.1 u.1.2.2.2.2.2.1 u.1.2.2.2.2.2.2 endsBehind path u.2.2.1 u.2.2.2.1 u.2.2.2.2 tSort tMany numbers) (AM ma)) (AM ma) := by
  obtain ⟨⟨o1, o2, o3, o4, o5, o6, o7, o8, o9, o10⟩, k0, k1, k2, k3, k4, k5, k6, k7, k8⟩ := id hK
  refine CT.of (L := [(0, .ref (ma 0)), (1, .int w0), (2, .int k0a)]) rfl (by decide +kernel) rfl (Nat.le_of_ble_eq_true rfl) ?_
  rcases hiw : iR w0 (tP T) with _ | j
  · skip
    refine g_aload_n 0 dX10_orders_0 rfl rfl ?_
    refine g_iconst (v := nI 0) dX10_orders_1 (by decide +kernel) ?_
    refine m_put_thrown dX10_orders_2 ?_
    refine g_aload_n 0 dX10_orders_5 rfl rfl ?_
    refine g_iload_n 1 dX10_orders_6 rfl rfl ?_
    refine m_cVi (ct_isWorld _ (tLow T) (tHigh T) (tMost T) (tUn T) k1 k2 k3 k4 o1 o2 o3 o4 o5) hvX10_isWorld hyX10_isWorld rfl ⟨Nat.le_of_ble_eq_true rfl, Nat.le_of_ble_eq_true rfl⟩ ⟨Nat.zero_le _, Nat.zero_le _⟩ rfl (Nat.le_of_ble_eq_true rfl) dX10_orders_7 m_rec (fun r ul hld => ?_)
    obtain ⟨xsL, ysL, pairsL⟩ := ul
    dsimp only
    obtain ⟨hl, hr9⟩ := hld
    have hl : layd xsL ysL pairsL (tW T) := hl
    have hW := layd_OK hl o1 o3
    have hP : pairsL ≤ 1830 := hW.1
    have hPT : pairsL = tP T := hl.1
    subst hr9
    refine GG.topi (y := nI 0) (by show bI (iR _ (tP T)).isSome = _; rw [hiw]; rfl) ?_
    refine g_if_ne_n (tgt := 19) dX10_orders_10 (by decide) (by decide) (fun h => absurd h (by decide)) (fun _ => ?_)
    refine g_aload_n 0 dX10_orders_13 rfl rfl ?_
    refine g_iconst (v := nI 1) dX10_orders_14 (by decide +kernel) ?_
    refine m_cVi (ct_fails _) hvX10_fails hyX10_fails rfl ⟨Nat.le_of_ble_eq_true rfl, Nat.le_of_ble_eq_true rfl⟩ ⟨Nat.zero_le _, Nat.zero_le _⟩ rfl (Nat.le_of_ble_eq_true rfl) dX10_orders_15 m_rec (fun r u hp => ?_)
    obtain rfl := hp
    exact g_iret ((_, _, _, _, _, _, _), _, _, _, _) dX10_orders_18 (Nat.le_refl _) (Nat.le_refl _) (by unfold isOrders; rw [hiw]) (fun _ h => h)
  · skip
    obtain ⟨hj, ej⟩ := iR_some hiw
    subst ej
    refine g_aload_n 0 dX10_orders_0 rfl rfl ?_
    refine g_iconst (v := nI 0) dX10_orders_1 (by decide +kernel) ?_
    refine m_put_thrown dX10_orders_2 ?_
    refine g_aload_n 0 dX10_orders_5 rfl rfl ?_
    refine g_iload_n 1 dX10_orders_6 rfl rfl ?_
    refine m_cVi (ct_isWorld _ (tLow T) (tHigh T) (tMost T) (tUn T) k1 k2 k3 k4 o1 o2 o3 o4 o5) hvX10_isWorld hyX10_isWorld rfl ⟨Nat.le_of_ble_eq_true rfl, Nat.le_of_ble_eq_true rfl⟩ ⟨Nat.zero_le _, Nat.zero_le _⟩ rfl (Nat.le_of_ble_eq_true rfl) dX10_orders_7 m_rec (fun r ul hld => ?_)
    obtain ⟨xsL, ysL, pairsL⟩ := ul
    dsimp only
    obtain ⟨hl, hr9⟩ := hld
    have hl : layd xsL ysL pairsL (tW T) := hl
    have hW := layd_OK hl o1 o3
    have hP : pairsL ≤ 1830 := hW.1
    have hPT : pairsL = tP T := hl.1
    subst hr9
    refine GG.topi (y := nI 1) (by show bI (iR _ (tP T)).isSome = _; rw [hiw]; rfl) ?_
    refine g_if_ne_n (tgt := 19) dX10_orders_10 (by decide) (by decide) (fun _ => ?_) (fun h => absurd h (by decide))
    refine g_aload_n 0 dX10_orders_19 rfl rfl ?_
    refine m_get_known dX10_orders_20 ?_
    refine g_bipush (v := nI 6) dX10_orders_23 (by decide +kernel) ?_
    refine m_ld_known dX10_orders_25 (by omega) ?_
    refine GG.topi k6 ?_
    refine g_bipush (v := nI 6) dX10_orders_26 (by decide +kernel) ?_
    refine g_icmp_le_n (tgt := 33) dX10_orders_28 (by decide) (by omega) (by omega) (fun c28 => ?_) (fun c28 => ?_)
    · skip
      have hn6 : tNT T ≤ 6 := c28
      refine g_aload_n 0 dX10_orders_33 rfl rfl ?_
      refine m_get_known dX10_orders_34 ?_
      refine g_aload_n 0 dX10_orders_37 rfl rfl ?_
      refine m_get_saved dX10_orders_38 ?_
      refine m_cSv (ct_copies_known_saved) hsX10_copies hyX10_copies rfl ⟨Nat.le_of_ble_eq_true rfl, Nat.le_of_ble_eq_true rfl⟩ ⟨Nat.zero_le _, Nat.zero_le _⟩ rfl (Nat.le_of_ble_eq_true rfl) dX10_orders_41 (fun sv1 hsv1 => ?_)
      have hsv1 : sv1 = _ := hsv1
      have hsK : KIs sv1 T := hK.congr (fun j hj => by rw [hsv1]; exact if_pos hj)
      refine g_aload_n 0 dX10_orders_44 rfl rfl ?_
      refine g_iconst (v := nI 0) dX10_orders_45 (by decide +kernel) ?_
      refine m_put_ordersMany dX10_orders_46 ?_
      refine g_aload_n 0 dX10_orders_49 rfl rfl ?_
      refine g_iconst (v := nI 0) dX10_orders_50 (by decide +kernel) ?_
      refine g_iconst (v := nI 0) dX10_orders_51 (by decide +kernel) ?_
      refine g_iload_n 1 dX10_orders_52 rfl rfl ?_
      refine m_cVv (to_all T j (tNT T) (nI 0) [] hsK ⟨fun k hk => absurd hk (Nat.not_lt_zero _), fun j hj _ => by rw [hsv1]; exact (if_pos hj).symm⟩ (fun k hk => absurd hk (Nat.not_lt_zero _)) (Nat.zero_add _) hn6 (fun x hx => by cases hx) (fun t ht => by rw [sBit_0 (by omega)]; rfl) hj (by have h9 : 6 ^ tNT T ≤ 6 ^ 6 := Nat.pow_le_pow_right (by decide) hn6; have h8 : (6 : Nat) ^ 6 = 46656 := (by decide); omega)) hvX10_triesOrders hyX10_triesOrders rfl ⟨by dsimp only; omega, by dsimp only; omega⟩ ⟨Nat.zero_le _, Nat.zero_le _⟩ rfl (Nat.le_of_ble_eq_true rfl) dX10_orders_53 m_rec (fun us hus => ?_)
      obtain ⟨kn2, or2, fo2, om2, hp2, rw2, xs2, ys2, pr2, tp2⟩ := us
      dsimp only
      obtain ⟨hu1, hu2, hu3, hu4⟩ := hus
      have hu1 : om2 = 0 + _ := hu1
      have hu2 : foR (tNT T) 0 _ _ fo2 := hu2
      have hu4 : ∀ j, (j < 26 + 2 * 0 ∨ 26 + 2 * tNT T ≤ j) → kn2 j = known j := hu4
      rw [Nat.zero_add] at hu1
      have hom9 : om2 < 2 ^ 31 := by
        have h7 := ordL_le (P := ordP T j) hn6 (tNT T) []
        have h9 : 6 ^ tNT T ≤ 6 ^ 6 := Nat.pow_le_pow_right (by decide) hn6
        have h8 : (6 : Nat) ^ 6 = 46656 := by decide
        omega
      refine g_aload_n 0 dX10_orders_56 rfl rfl ?_
      refine m_get_saved dX10_orders_57 ?_
      refine g_aload_n 0 dX10_orders_60 rfl rfl ?_
      refine m_get_known dX10_orders_61 ?_
      refine m_cSv (ct_copies_saved_known) hsX10_copies hyX10_copies rfl ⟨Nat.le_of_ble_eq_true rfl, Nat.le_of_ble_eq_true rfl⟩ ⟨Nat.zero_le _, Nat.zero_le _⟩ rfl (Nat.le_of_ble_eq_true rfl) dX10_orders_64 (fun kn3 hkn3 => ?_)
      have hkn3 : kn3 = _ := hkn3
      have hkk : kn3 = known := by
        rw [hkn3, hsv1]; funext j; unfold cpy
        by_cases q : j < 1868
        · rw [if_pos q, if_pos q]
        · rw [if_neg q]; exact hu4 j (by omega)
      rw [hkk]
      refine g_iload_n 2 dX10_orders_67 rfl rfl ?_
      refine g_iconst (v := -1) dX10_orders_68 (by decide +kernel) ?_
      refine g_icmp_ne (tgt := 79) dX10_orders_69 (by decide) (fun c69 => ?_) (fun c69 => ?_)
      · skip
        refine g_aload_n 0 dX10_orders_79 rfl rfl ?_
        refine m_get_ordersMany dX10_orders_80 ?_
        refine g_if_le_n (tgt := 114) dX10_orders_83 (by decide) hom9 (fun c83 => ?_) (fun c83 => ?_)
        · skip
          refine g_iconst (v := -1) dX10_orders_114 (by decide +kernel) ?_
          exact g_iret ((_, _, _, _, _, _, _), _, _, _, _) dX10_orders_115 (Nat.le_refl _) (Nat.le_refl _) (by first | (unfold isOrders; rw [hiw]; dsimp only; rw [if_neg (by omega)]; refine ⟨rfl, ?_⟩; rw [if_pos c69, ← hu1]; done) | (unfold isOrders; rw [hiw]; dsimp only; rw [if_neg (by omega)]; refine ⟨rfl, ?_⟩; rw [if_neg c69]; have hne : (ordL (ordP T j) (tNT T) (tNT T) []) = [] := List.eq_nil_of_length_eq_zero (by omega); rw [hne]; rfl; done) | (unfold isOrders; rw [hiw]; dsimp only; rw [if_neg (by omega)]; refine ⟨rfl, ?_⟩; rw [if_neg c69, Option.isSome_eq_false_iff.mp c102 |> Option.isNone_iff_eq_none.mp]; cases (ordL (ordP T j) (tNT T) (tNT T) []).head? <;> rfl; done) | (unfold isOrders; rw [hiw]; dsimp only; rw [if_neg (by omega)]; refine ⟨rfl, ?_⟩; rw [if_neg c69, hx9]; cases hh : (ordL (ordP T j) (tNT T) (tNT T) []).head? with | none => (have hne := List.head?_eq_none_iff.mp hh; rw [hne] at hu1; exact absurd c83 (by rw [hu1]; decide)) | some o9 => exact congrArg nI (hu2.2 rfl o9 hh x9 hx1); done)) (fun _ h => h)
        · skip
          refine g_iload_n 2 dX10_orders_86 rfl rfl ?_
          refine g_i2l dX10_orders_87 rfl ?_
          refine g_lconst (v := lN 0) dX10_orders_88 (by decide +kernel) ?_
          refine g_aload_n 0 dX10_orders_89 rfl rfl ?_
          refine m_get_known dX10_orders_90 ?_
          refine g_bipush (v := nI 6) dX10_orders_93 (by decide +kernel) ?_
          refine m_ld_known dX10_orders_95 (by omega) ?_
          refine GG.topi (y := nI (tNT T)) k6 ?_
          refine g_iconst (v := nI 1) dX10_orders_96 (by decide +kernel) ?_
          refine g_isub dX10_orders_97 ?_
          refine g_i2l dX10_orders_98 rfl ?_
          refine m_cSi (ct_within _ _ _) hsX10_within hyX10_within rfl ⟨Nat.le_of_ble_eq_true rfl, Nat.le_of_ble_eq_true rfl⟩ ⟨Nat.zero_le _, Nat.zero_le _⟩ rfl (Nat.le_of_ble_eq_true rfl) dX10_orders_99 (fun r u9 hp => ?_)
          obtain rfl := hp
          refine GG.topi (y := bI (iR k0a (tNT T)).isSome) (congrArg bI (wIn_iR k0a (by omega))) ?_
          refine g_if_eq_b (tgt := 114) dX10_orders_102 (by decide) (fun c102 => ?_) (fun c102 => ?_)
          · skip
            refine g_iconst (v := -1) dX10_orders_114 (by decide +kernel) ?_
            exact g_iret ((_, _, _, _, _, _, _), _, _, _, _) dX10_orders_115 (Nat.le_refl _) (Nat.le_refl _) (by first | (unfold isOrders; rw [hiw]; dsimp only; rw [if_neg (by omega)]; refine ⟨rfl, ?_⟩; rw [if_pos c69, ← hu1]; done) | (unfold isOrders; rw [hiw]; dsimp only; rw [if_neg (by omega)]; refine ⟨rfl, ?_⟩; rw [if_neg c69]; have hne : (ordL (ordP T j) (tNT T) (tNT T) []) = [] := List.eq_nil_of_length_eq_zero (by omega); rw [hne]; rfl; done) | (unfold isOrders; rw [hiw]; dsimp only; rw [if_neg (by omega)]; refine ⟨rfl, ?_⟩; rw [if_neg c69, Option.isSome_eq_false_iff.mp c102 |> Option.isNone_iff_eq_none.mp]; cases (ordL (ordP T j) (tNT T) (tNT T) []).head? <;> rfl; done) | (unfold isOrders; rw [hiw]; dsimp only; rw [if_neg (by omega)]; refine ⟨rfl, ?_⟩; rw [if_neg c69, hx9]; cases hh : (ordL (ordP T j) (tNT T) (tNT T) []).head? with | none => (have hne := List.head?_eq_none_iff.mp hh; rw [hne] at hu1; exact absurd c83 (by rw [hu1]; decide)) | some o9 => exact congrArg nI (hu2.2 rfl o9 hh x9 hx1); done)) (fun _ h => h)
          · skip
            obtain ⟨x9, hx9⟩ := Option.isSome_iff_exists.mp c102
            obtain ⟨hx1, ex9⟩ := iR_some hx9
            refine g_aload_n 0 dX10_orders_105 rfl rfl ?_
            refine m_get_firstOrder dX10_orders_106 ?_
            refine g_iload_n 2 dX10_orders_109 rfl rfl ?_
            refine GG.topi ex9 ?_
            refine m_ld_firstOrder dX10_orders_110 (by omega) ?_
            refine g_goto (tgt := 115) dX10_orders_111 (by decide) ?_
            exact g_iret ((_, _, _, _, _, _, _), _, _, _, _) dX10_orders_115 (Nat.le_refl _) (Nat.le_refl _) (by first | (unfold isOrders; rw [hiw]; dsimp only; rw [if_neg (by omega)]; refine ⟨rfl, ?_⟩; rw [if_pos c69, ← hu1]; done) | (unfold isOrders; rw [hiw]; dsimp only; rw [if_neg (by omega)]; refine ⟨rfl, ?_⟩; rw [if_neg c69]; have hne : (ordL (ordP T j) (tNT T) (tNT T) []) = [] := List.eq_nil_of_length_eq_zero (by omega); rw [hne]; rfl; done) | (unfold isOrders; rw [hiw]; dsimp only; rw [if_neg (by omega)]; refine ⟨rfl, ?_⟩; rw [if_neg c69, Option.isSome_eq_false_iff.mp c102 |> Option.isNone_iff_eq_none.mp]; cases (ordL (ordP T j) (tNT T) (tNT T) []).head? <;> rfl; done) | (unfold isOrders; rw [hiw]; dsimp only; rw [if_neg (by omega)]; refine ⟨rfl, ?_⟩; rw [if_neg c69, hx9]; cases hh : (ordL (ordP T j) (tNT T) (tNT T) []).head? with | none => (have hne := List.head?_eq_none_iff.mp hh; rw [hne] at hu1; exact absurd c83 (by rw [hu1]; decide)) | some o9 => exact congrArg nI (hu2.2 rfl o9 hh x9 hx1); done)) (fun _ h => h)
      · skip
        refine g_aload_n 0 dX10_orders_72 rfl rfl ?_
        refine m_get_ordersMany dX10_orders_73 ?_
        refine g_goto (tgt := 115) dX10_orders_76 (by decide) ?_
        exact g_iret ((_, _, _, _, _, _, _), _, _, _, _) dX10_orders_115 (Nat.le_refl _) (Nat.le_refl _) (by first | (unfold isOrders; rw [hiw]; dsimp only; rw [if_neg (by omega)]; refine ⟨rfl, ?_⟩; rw [if_pos c69, ← hu1]; done) | (unfold isOrders; rw [hiw]; dsimp only; rw [if_neg (by omega)]; refine ⟨rfl, ?_⟩; rw [if_neg c69]; have hne : (ordL (ordP T j) (tNT T) (tNT T) []) = [] := List.eq_nil_of_length_eq_zero (by omega); rw [hne]; rfl; done) | (unfold isOrders; rw [hiw]; dsimp only; rw [if_neg (by omega)]; refine ⟨rfl, ?_⟩; rw [if_neg c69, Option.isSome_eq_false_iff.mp c102 |> Option.isNone_iff_eq_none.mp]; cases (ordL (ordP T j) (tNT T) (tNT T) []).head? <;> rfl; done) | (unfold isOrders; rw [hiw]; dsimp only; rw [if_neg (by omega)]; refine ⟨rfl, ?_⟩; rw [if_neg c69, hx9]; cases hh : (ordL (ordP T j) (tNT T) (tNT T) []).head? with | none => (have hne := List.head?_eq_none_iff.mp hh; rw [hne] at hu1; exact absurd c83 (by rw [hu1]; decide)) | some o9 => exact congrArg nI (hu2.2 rfl o9 hh x9 hx1); done)) (fun _ h => h)
    · skip
      refine g_iconst (v := -1) dX10_orders_31 (by decide +kernel) ?_
      exact g_iret ((_, _, _, _, _, _, _), _, _, _, _) dX10_orders_32 (Nat.le_refl _) (Nat.le_refl _) (by unfold isOrders; rw [hiw]; dsimp only; rw [if_pos (by omega)]; exact ⟨rfl, rfl⟩) (fun _ h => h)
end
