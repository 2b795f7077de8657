/-! SPEC: rows of answers sought -/
set_option maxRecDepth 100000
theorem bestB_ne {o : Option Nat} (h : ¬ bestB o = -1) : ∃ b, o = some b ∧ bestB o = nI b := by
  cases o with
  | none => exact absurd rfl h
  | some b => exact ⟨b, rfl, rfl⟩
theorem bestB_eq {e : Nat → Int32} {n : Nat} (h : bestB (bestE e n) = -1) (hn : n < 2 ^ 31) : bestE e n = none := by
  cases hq : bestE e n with
  | none => rfl
  | some b =>
    rw [hq] at h
    exact absurd h (nI_m1 (by have := (bestE_lt hq).1; omega))
theorem bestE_skip {e : Nat → Int32} {n : Nat} (h : e n = -1) : bestE e (n + 1) = bestE e n := by
  show (match bestE e n with | none => _ | some b => _) = _
  cases bestE e n with
  | none => dsimp only; rw [if_pos h]
  | some b => dsimp only; rw [if_pos h]
theorem bestE_new {e : Nat → Int32} {n : Nat} (h : ¬ e n = -1) (hn : bestE e n = none) : bestE e (n + 1) = some n := by
  show (match bestE e n with | none => _ | some b => _) = _
  rw [hn]; dsimp only; rw [if_neg h]
theorem bestE_up {e : Nat → Int32} {n b : Nat} (h : ¬ e n = -1) (hn : bestE e n = some b) (hl : e b < e n) : bestE e (n + 1) = some n := by
  show (match bestE e n with | none => _ | some b => _) = _
  rw [hn]; dsimp only; rw [if_neg h, if_pos hl]
theorem bestE_keep {e : Nat → Int32} {n b : Nat} (h : ¬ e n = -1) (hn : bestE e n = some b) (hl : ¬ e b < e n) : bestE e (n + 1) = bestE e n := by
  show (match bestE e n with | none => _ | some b => _) = _
  rw [hn]; dsimp only; rw [if_neg h, if_neg hl]
theorem i32_nlt {a b : Int32} (h : a ≤ b) : ¬ b < a := by
  rw [Int32.le_iff_toInt_le] at h
  rw [Int32.lt_iff_toInt_lt]; omega
theorem i32_lt {a b : Int32} (h : ¬ a ≤ b) : b < a := by
  rw [Int32.le_iff_toInt_le] at h
  rw [Int32.lt_iff_toInt_lt]; omega
def sBit (x : Int32) (s : Nat) : Bool := decide (((x >>> (nI s &&& 31)) &&& nI 1) = nI 1)
def srchF {α : Type} (F : Nat → Option (List Nat × α)) : Nat → Option (List Nat × α)
  | 0 => none
  | n + 1 => match srchF F n with
    | some x => some x
    | none => match F n with
      | none => none
      | some p => some (n :: p.1, p.2)
theorem srchF_none {α : Type} {F : Nat → Option (List Nat × α)} {n : Nat} (h : srchF F n = none) (hn : F n = none) : srchF F (n + 1) = none := by
  show (match srchF F n with | some x => some x | none => _) = _
  rw [h]; dsimp only; rw [hn]
theorem srchF_some {α : Type} {F : Nat → Option (List Nat × α)} {n : Nat} {p : List Nat × α} (h : srchF F n = none) (hn : F n = some p) : ∀ {m : Nat}, n < m → srchF F m = some (n :: p.1, p.2)
  | m + 1, hm => by
    rcases Nat.lt_succ_iff_lt_or_eq.mp hm with q | q
    · show (match srchF F m with | some x => some x | none => _) = _
      rw [srchF_some h hn q]
    · subst q
      show (match srchF F n with | some x => some x | none => _) = _
      rw [h]; dsimp only; rw [hn]
def seekF (good fin : (Nat → Bool) → Bool) (m : Nat) (step : Nat → (Nat → Bool) → (Nat → Bool)) : Nat → (Nat → Bool) → Option (List Nat × (Nat → Bool))
  | 0, f => if (good f && fin f) = true then some ([], f) else none
  | l + 1, f => if good f = true then srchF (fun k => seekF good fin m step l (step k f)) m else none
def snGood (T : Talk) (hid : Int32) (w : Nat) (f : Nat → Bool) : Bool := decide (∀ s, s < tNS T → sBit hid s = true → knowF (tP T) (tSl T s) f w = false)
def snFin (T : Talk) (wan : Int32) (w : Nat) (f : Nat → Bool) : Bool := decide (∀ s, s < tNS T → sBit wan s = true → knowF (tP T) (tSl T s) f w = true)
def snStep (T : Talk) (w s : Nat) (f : Nat → Bool) : Nat → Bool := ansW (tP T) (tSl T s) f (knowF (tP T) (tSl T s) f w)
def snF (T : Talk) (wan hid : Int32) (w l : Nat) (f : Nat → Bool) : Option (List Nat × (Nat → Bool)) := seekF (snGood T hid w) (snFin T wan w) (tNS T) (snStep T w) l f
def shGood (T : Talk) (f : Nat → Bool) : Bool := decide (0 < cnt f (tP T))
def shFin (T : Talk) (f : Nat → Bool) : Bool := decide (cnt f (tP T) = 1)
def shStep (T : Talk) (v : Nat) (f : Nat → Bool) : Nat → Bool := ansW (tP T) (tSl T (v / 2)) f (decide (v % 2 = 1))
def shF (T : Talk) (l : Nat) (f : Nat → Bool) : Option (List Nat × (Nat → Bool)) := seekF (shGood T) (shFin T) (2 * tNS T) (shStep T) l f
def firstG {α : Type} (G : Nat → Option α) : Nat → Option (Nat × α)
  | 0 => none
  | n + 1 => match firstG G n with
    | some x => some x
    | none => match G n with
      | none => none
      | some a => some (n, a)
theorem firstG_none {α : Type} {G : Nat → Option α} {n : Nat} (h : firstG G n = none) (hn : G n = none) : firstG G (n + 1) = none := by
  show (match firstG G n with | some x => some x | none => _) = _
  rw [h]; dsimp only; rw [hn]
theorem firstG_some {α : Type} {G : Nat → Option α} {n : Nat} {a : α} (h : firstG G n = none) (hn : G n = some a) : ∀ {m : Nat}, n < m → firstG G m = some (n, a)
  | m + 1, hm => by
    rcases Nat.lt_succ_iff_lt_or_eq.mp hm with q | q
    · show (match firstG G m with | some x => some x | none => _) = _
      rw [firstG_some h hn q]
    · subst q
      show (match firstG G n with | some x => some x | none => _) = _
      rw [h]; dsimp only; rw [hn]
def allT : Nat → Bool := fun _ => true
def isSoonest (T : Talk) (w wan hid k : Int32) (thr : Nat) (v : Int32) : Prop := match iR w (tP T) with
  | none => thr = 1
  | some j => if (iR wan (2 ^ tNS T)).isSome = true ∧ (iR hid (2 ^ tNS T)).isSome = true then
      thr = 0 ∧ (match firstG (fun l => snF T wan hid j l allT) 6 with
        | none => v = -1
        | some (n, p) => if k = -1 then v = nI n else match iR k n with
          | none => v = -1
          | some i => v = nI (p.1.getD i 0))
    else thr = 2
def isShortest (T : Talk) (n wh : Int32) (thr : Nat) (v : Int32) : Prop := match iR n 5, iR wh 14 with
  | some m, some i => if 1 ≤ m ∧ (i < 2 ∨ 10 ≤ i) then
      thr = 0 ∧ (match firstG (fun l => shF T l allT) (m + 1) with
        | none => v = -1
        | some (k, p) => if i = 0 then v = nI k else if i = 1 then isFst p.2 (tP T) v else if i - 10 < k then v = nI (p.1.getD (i - 10) 0) else v = -1)
    else thr = 1
  | _, _ => thr = 1
/-- the path that was gone, and where it ends -/
def went (path path2 : Nat → Nat) (rows rows2 : Nat → Int64) (P at_ l : Nat) (o : Option (List Nat × (Nat → Bool))) : Prop :=
  (∀ r' w', r' ≤ at_ → w' < 1856 → rbt rows2 r' w' = rbt rows r' w') ∧ (∀ j, j < at_ → path2 j = path j) ∧
  ∀ p S, o = some (p, S) → p.length = l ∧ (∀ i, i < l → path2 (at_ + i) = p.getD i 0) ∧ ∀ w, w < P → rbt rows2 (at_ + l) w = S w
theorem bxor1 (x : Int32) : (x &&& nI 1) = nI 0 ∨ (x &&& nI 1) = nI 1 := by
  obtain ⟨j, h1, h2⟩ := pk_andE x (m := nI 1) 1 (by decide +kernel)
  rcases (show j = 0 ∨ j = 1 by omega) with q | q <;> subst q
  · exact Or.inl h2
  · exact Or.inr h2
/-! THE MODEL, 9: rest, when, longest; soonest, shortest -/
set_option maxRecDepth 100000
section
variable {l : Launch} {D : va_G} {cl : List vw_C} {tys : List (ClassId × FieldType)} {mi : Nat} {cI cJ cZ : ClassId} {ma : Nat → Nat} {known fresh_ saved images : Nat → Int32} {isImage : Nat → Bool} {thrown : Nat} {tape : Nat → Nat} {taped size_ at_ begin_ token value open_ bad badPlace faultKind : Nat} {faultPlace : Int32} {xs ys : Nat → Nat} {pairs : Nat} {rows : Nat → Int64} {top : Nat} {heaps : Nat → Nat} {endsBehind : Nat → Int32} {path order firstOrder : Nat → Nat} {ordersMany : Nat} {tSort : Nat → Int32} {tMany : Nat → Nat} {numbers : Nat → Int64}
set_option maxHeartbeats 4000000 in
/-- two speakers, not the same -/
theorem ct_twoFault (T : Talk) (a0 b0 : Int32) (hK : KIs known T) : CT l D cl tys yX10_twoFault cX10_twoFault 3 (some .int) ({ frames := 2, cells := 0, slots := 0, locals := 46 } : Room) [.ref (ma 0), .int a0, .int b0] (HM D cl tys mi cI cJ cZ ma known fresh_ saved images isImage thrown tape taped size_ at_ begin_ token value open_ bad badPlace faultKind faultPlace xs ys pairs rows top heaps endsBehind path order firstOrder ordersMany tSort tMany numbers) (Qi (fun (v : Int32) (u : Unit) => v = nI (aTwo T a0 b0)) (fun (u : Unit) => HM D cl tys mi cI cJ cZ ma known fresh_ saved images isImage thrown tape taped size_ at_ begin_ token value open_ bad badPlace faultKind faultPlace xs ys pairs rows top heaps endsBehind path order firstOrder ordersMany tSort tMany numbers) (AM ma)) (AM ma) := by
  obtain ⟨⟨o1, o2, o3, o4, o5, o6, o7, o8, o9, o10⟩, k0, k1, k2, k3, k4, k5, k6, k7, k8⟩ := id hK
  refine CT.of (L := [(0, .ref (ma 0)), (1, .int a0), (2, .int b0)]) rfl (by decide +kernel) rfl (Nat.le_of_ble_eq_true rfl) ?_
  rcases hia : iR a0 (tNS T) with _ | i
  · skip
    refine g_aload_n 0 dX10_twoFault_0 rfl rfl ?_
    refine g_iload_n 1 dX10_twoFault_1 rfl rfl ?_
    refine m_cVi (ct_isSpeaker _ (tNS T) k5 (by omega)) hvX10_isSpeaker hyX10_isSpeaker rfl ⟨Nat.le_of_ble_eq_true rfl, Nat.le_of_ble_eq_true rfl⟩ ⟨Nat.zero_le _, Nat.zero_le _⟩ rfl (Nat.le_of_ble_eq_true rfl) dX10_twoFault_2 m_rec (fun r u9 hp => ?_)
    obtain rfl := hp
    refine GG.topi (y := nI 0) (by rw [hia]; rfl) ?_
    refine g_if_eq_n (tgt := 16) dX10_twoFault_5 (by decide) (by decide) (fun _ => ?_) (fun h => absurd h (by decide))
    refine g_iconst (v := nI 1) dX10_twoFault_16 (by decide +kernel) ?_
    refine g_goto (tgt := 30) dX10_twoFault_17 (by decide) ?_
    exact g_iret () dX10_twoFault_30 (Nat.le_refl _) (Nat.le_refl _) (by rw [show aTwo T _ _ = 1 from (by first | (unfold aTwo; rw [hia]; done) | (unfold aTwo; rw [hia]; rfl) | (unfold aTwo; simp only [hia]; done) | (unfold aTwo; simp only [hia]; rfl))]) (fun _ h => h)
  · skip
    obtain ⟨hi, ei⟩ := iR_some hia
    subst ei
    rcases hib : iR b0 (tNS T) with _ | j
    · skip
      refine g_aload_n 0 dX10_twoFault_0 rfl rfl ?_
      refine g_iload_n 1 dX10_twoFault_1 rfl rfl ?_
      refine m_cVi (ct_isSpeaker _ (tNS T) k5 (by omega)) hvX10_isSpeaker hyX10_isSpeaker rfl ⟨Nat.le_of_ble_eq_true rfl, Nat.le_of_ble_eq_true rfl⟩ ⟨Nat.zero_le _, Nat.zero_le _⟩ rfl (Nat.le_of_ble_eq_true rfl) dX10_twoFault_2 m_rec (fun r u9 hp => ?_)
      obtain rfl := hp
      refine GG.topi (y := nI 1) (by rw [hia]; rfl) ?_
      refine g_if_eq_n (tgt := 16) dX10_twoFault_5 (by decide) (by decide) (fun h => absurd h (by decide)) (fun _ => ?_)
      refine g_aload_n 0 dX10_twoFault_8 rfl rfl ?_
      refine g_iload_n 2 dX10_twoFault_9 rfl rfl ?_
      refine m_cVi (ct_isSpeaker _ (tNS T) k5 (by omega)) hvX10_isSpeaker hyX10_isSpeaker rfl ⟨Nat.le_of_ble_eq_true rfl, Nat.le_of_ble_eq_true rfl⟩ ⟨Nat.zero_le _, Nat.zero_le _⟩ rfl (Nat.le_of_ble_eq_true rfl) dX10_twoFault_10 m_rec (fun r u9 hp => ?_)
      obtain rfl := hp
      refine GG.topi (y := nI 0) (by rw [hib]; rfl) ?_
      refine g_if_ne_n (tgt := 20) dX10_twoFault_13 (by decide) (by decide) (fun h => absurd h (by decide)) (fun _ => ?_)
      refine g_iconst (v := nI 1) dX10_twoFault_16 (by decide +kernel) ?_
      refine g_goto (tgt := 30) dX10_twoFault_17 (by decide) ?_
      exact g_iret () dX10_twoFault_30 (Nat.le_refl _) (Nat.le_refl _) (by rw [show aTwo T _ _ = 1 from (by first | (unfold aTwo; rw [hia, hib]; done) | (unfold aTwo; rw [hia, hib]; rfl) | (unfold aTwo; simp only [hia, hib]; done) | (unfold aTwo; simp only [hia, hib]; rfl))]) (fun _ h => h)
    · skip
      obtain ⟨hj, ej⟩ := iR_some hib
      subst ej
      refine g_aload_n 0 dX10_twoFault_0 rfl rfl ?_
      refine g_iload_n 1 dX10_twoFault_1 rfl rfl ?_
      refine m_cVi (ct_isSpeaker _ (tNS T) k5 (by omega)) hvX10_isSpeaker hyX10_isSpeaker rfl ⟨Nat.le_of_ble_eq_true rfl, Nat.le_of_ble_eq_true rfl⟩ ⟨Nat.zero_le _, Nat.zero_le _⟩ rfl (Nat.le_of_ble_eq_true rfl) dX10_twoFault_2 m_rec (fun r u9 hp => ?_)
      obtain rfl := hp
      refine GG.topi (y := nI 1) (by rw [hia]; rfl) ?_
      refine g_if_eq_n (tgt := 16) dX10_twoFault_5 (by decide) (by decide) (fun h => absurd h (by decide)) (fun _ => ?_)
      refine g_aload_n 0 dX10_twoFault_8 rfl rfl ?_
      refine g_iload_n 2 dX10_twoFault_9 rfl rfl ?_
      refine m_cVi (ct_isSpeaker _ (tNS T) k5 (by omega)) hvX10_isSpeaker hyX10_isSpeaker rfl ⟨Nat.le_of_ble_eq_true rfl, Nat.le_of_ble_eq_true rfl⟩ ⟨Nat.zero_le _, Nat.zero_le _⟩ rfl (Nat.le_of_ble_eq_true rfl) dX10_twoFault_10 m_rec (fun r u9 hp => ?_)
      obtain rfl := hp
      refine GG.topi (y := nI 1) (by rw [hib]; rfl) ?_
      refine g_if_ne_n (tgt := 20) dX10_twoFault_13 (by decide) (by decide) (fun _ => ?_) (fun h => absurd h (by decide))
      refine g_iload_n 1 dX10_twoFault_20 rfl rfl ?_
      refine g_iload_n 2 dX10_twoFault_21 rfl rfl ?_
      refine g_icmp_ne_n (tgt := 29) dX10_twoFault_22 (by decide) (by omega) (by omega) (fun c22 => ?_) (fun c22 => ?_)
      · skip
        refine g_iconst (v := nI 0) dX10_twoFault_29 (by decide +kernel) ?_
        exact g_iret () dX10_twoFault_30 (Nat.le_refl _) (Nat.le_refl _) (by rw [show aTwo T _ _ = 0 from by unfold aTwo; rw [hia, hib]; dsimp only; rw [if_neg c22]]) (fun _ h => h)
      · skip
        refine g_iconst (v := nI 2) dX10_twoFault_25 (by decide +kernel) ?_
        refine g_goto (tgt := 30) dX10_twoFault_26 (by decide) ?_
        exact g_iret () dX10_twoFault_30 (Nat.le_refl _) (Nat.le_refl _) (by rw [show aTwo T _ _ = 2 from by unfold aTwo; rw [hia, hib]; dsimp only; rw [if_pos c22]]) (fun _ h => h)
set_option maxHeartbeats 4000000 in
/-- how many stay when two don't know -/
theorem ct_rest (T : Talk) (a0 b0 : Int32) (hK : KIs known T) : CT l D cl tys yX10_rest cX10_rest 3 (some .int) ({ frames := 6, cells := 0, slots := 0, locals := 148 } : Room) [.ref (ma 0), .int a0, .int b0] (HM D cl tys mi cI cJ cZ ma known fresh_ saved images isImage thrown tape taped size_ at_ begin_ token value open_ bad badPlace faultKind faultPlace xs ys pairs rows top heaps endsBehind path order firstOrder ordersMany tSort tMany numbers) (Qi (fun (v : Int32) (u : (Nat × (Nat → Nat) × (Nat → Nat) × Nat × (Nat → Int64) × Nat × (Nat → Nat)) × (Nat → Int32)) => isRest T a0 b0 u.1.1 v) (fun (u : (Nat × (Nat → Nat) × (Nat → Nat) × Nat × (Nat → Int64) × Nat × (Nat → Nat)) × (Nat → Int32)) => HM D cl tys mi cI cJ cZ ma known fresh_ saved images isImage u.1.1 tape taped size_ at_ begin_ token value open_ bad badPlace faultKind faultPlace u.1.2.1 u.1.2.2.1 u.1.2.2.2.1 u.1.2.2.2.2.1 u.1.2.2.2.2.2.1 u.1.2.2.2.2.2.2 u.2 path order firstOrder ordersMany tSort tMany numbers) (AM ma)) (AM ma) := by
  obtain ⟨⟨o1, o2, o3, o4, o5, o6, o7, o8, o9, o10⟩, k0, k1, k2, k3, k4, k5, k6, k7, k8⟩ := id hK
  refine CT.of (L := [(0, .ref (ma 0)), (1, .int a0), (2, .int b0)]) rfl (by decide +kernel) rfl (Nat.le_of_ble_eq_true rfl) ?_
  rcases hia : iR a0 (tNS T) with _ | i
  · skip
    skip
    · skip
      have h2f : aTwo T a0 b0 = 1 := (by first | (unfold aTwo; rw [hia]; done) | (unfold aTwo; rw [hia]; rfl) | (unfold aTwo; simp only [hia]; done) | (unfold aTwo; simp only [hia]; rfl))
      refine g_aload_n 0 dX10_rest_0 rfl rfl ?_
      refine g_aload_n 0 dX10_rest_1 rfl rfl ?_
      refine g_iload_n 1 dX10_rest_2 rfl rfl ?_
      refine g_iload_n 2 dX10_rest_3 rfl rfl ?_
      refine m_cVi (ct_twoFault T _ _ hK) hvX10_twoFault hyX10_twoFault rfl ⟨Nat.le_of_ble_eq_true rfl, Nat.le_of_ble_eq_true rfl⟩ ⟨Nat.zero_le _, Nat.zero_le _⟩ rfl (Nat.le_of_ble_eq_true rfl) dX10_rest_4 m_rec (fun r u9 hp => ?_)
      obtain rfl := hp
      refine GG.topi (y := nI 1) (congrArg nI h2f) ?_
      refine m_put_thrown dX10_rest_7 ?_
      refine g_aload_n 0 dX10_rest_10 rfl rfl ?_
      refine m_get_thrown dX10_rest_11 ?_
      refine g_if_le_n (tgt := 21) dX10_rest_14 (by decide) (by decide) (fun h => absurd h (by decide)) (fun _ => ?_)
      refine g_iconst (v := nI 0) dX10_rest_17 (by decide +kernel) ?_
      refine g_goto (tgt := 27) dX10_rest_18 (by decide) ?_
      exact g_iret ((_, _, _, _, _, _, _), _) dX10_rest_27 (Nat.le_refl _) (Nat.le_refl _) (by exact ⟨h2f.symm, fun h => absurd (h2f.symm.trans h) (by decide)⟩) (fun _ h => h)
  · skip
    obtain ⟨hi, ei⟩ := iR_some hia
    subst ei
    rcases hib : iR b0 (tNS T) with _ | j
    · skip
      skip
      · skip
        have h2f : aTwo T (nI i) b0 = 1 := (by first | (unfold aTwo; rw [hia, hib]; done) | (unfold aTwo; rw [hia, hib]; rfl) | (unfold aTwo; simp only [hia, hib]; done) | (unfold aTwo; simp only [hia, hib]; rfl))
        refine g_aload_n 0 dX10_rest_0 rfl rfl ?_
        refine g_aload_n 0 dX10_rest_1 rfl rfl ?_
        refine g_iload_n 1 dX10_rest_2 rfl rfl ?_
        refine g_iload_n 2 dX10_rest_3 rfl rfl ?_
        refine m_cVi (ct_twoFault T _ _ hK) hvX10_twoFault hyX10_twoFault rfl ⟨Nat.le_of_ble_eq_true rfl, Nat.le_of_ble_eq_true rfl⟩ ⟨Nat.zero_le _, Nat.zero_le _⟩ rfl (Nat.le_of_ble_eq_true rfl) dX10_rest_4 m_rec (fun r u9 hp => ?_)
        obtain rfl := hp
        refine GG.topi (y := nI 1) (congrArg nI h2f) ?_
        refine m_put_thrown dX10_rest_7 ?_
        refine g_aload_n 0 dX10_rest_10 rfl rfl ?_
        refine m_get_thrown dX10_rest_11 ?_
        refine g_if_le_n (tgt := 21) dX10_rest_14 (by decide) (by decide) (fun h => absurd h (by decide)) (fun _ => ?_)
        refine g_iconst (v := nI 0) dX10_rest_17 (by decide +kernel) ?_
        refine g_goto (tgt := 27) dX10_rest_18 (by decide) ?_
        exact g_iret ((_, _, _, _, _, _, _), _) dX10_rest_27 (Nat.le_refl _) (Nat.le_refl _) (by exact ⟨h2f.symm, fun h => absurd (h2f.symm.trans h) (by decide)⟩) (fun _ h => h)
    · skip
      obtain ⟨hj, ej⟩ := iR_some hib
      subst ej
      by_cases hij : i = j
      · skip
        have h2f : aTwo T (nI i) (nI j) = 2 := by unfold aTwo; rw [hia, hib]; dsimp only; rw [if_pos hij]
        refine g_aload_n 0 dX10_rest_0 rfl rfl ?_
        refine g_aload_n 0 dX10_rest_1 rfl rfl ?_
        refine g_iload_n 1 dX10_rest_2 rfl rfl ?_
        refine g_iload_n 2 dX10_rest_3 rfl rfl ?_
        refine m_cVi (ct_twoFault T _ _ hK) hvX10_twoFault hyX10_twoFault rfl ⟨Nat.le_of_ble_eq_true rfl, Nat.le_of_ble_eq_true rfl⟩ ⟨Nat.zero_le _, Nat.zero_le _⟩ rfl (Nat.le_of_ble_eq_true rfl) dX10_rest_4 m_rec (fun r u9 hp => ?_)
        obtain rfl := hp
        refine GG.topi (y := nI 2) (congrArg nI h2f) ?_
        refine m_put_thrown dX10_rest_7 ?_
        refine g_aload_n 0 dX10_rest_10 rfl rfl ?_
        refine m_get_thrown dX10_rest_11 ?_
        refine g_if_le_n (tgt := 21) dX10_rest_14 (by decide) (by decide) (fun h => absurd h (by decide)) (fun _ => ?_)
        refine g_iconst (v := nI 0) dX10_rest_17 (by decide +kernel) ?_
        refine g_goto (tgt := 27) dX10_rest_18 (by decide) ?_
        exact g_iret ((_, _, _, _, _, _, _), _) dX10_rest_27 (Nat.le_refl _) (Nat.le_refl _) (by exact ⟨h2f.symm, fun h => absurd (h2f.symm.trans h) (by decide)⟩) (fun _ h => h)
      · skip
        have h2f : aTwo T (nI i) (nI j) = 0 := by unfold aTwo; rw [hia, hib]; dsimp only; rw [if_neg hij]
        have ci : (nI i).toNatClampNeg = i := nI_clamp (by omega)
        have cj : (nI j).toNatClampNeg = j := nI_clamp (by omega)
        refine g_aload_n 0 dX10_rest_0 rfl rfl ?_
        refine g_aload_n 0 dX10_rest_1 rfl rfl ?_
        refine g_iload_n 1 dX10_rest_2 rfl rfl ?_
        refine g_iload_n 2 dX10_rest_3 rfl rfl ?_
        refine m_cVi (ct_twoFault T _ _ hK) hvX10_twoFault hyX10_twoFault rfl ⟨Nat.le_of_ble_eq_true rfl, Nat.le_of_ble_eq_true rfl⟩ ⟨Nat.zero_le _, Nat.zero_le _⟩ rfl (Nat.le_of_ble_eq_true rfl) dX10_rest_4 m_rec (fun r u9 hp => ?_)
        obtain rfl := hp
        refine GG.topi (y := nI 0) (congrArg nI h2f) ?_
        refine m_put_thrown dX10_rest_7 ?_
        refine g_aload_n 0 dX10_rest_10 rfl rfl ?_
        refine m_get_thrown dX10_rest_11 ?_
        refine g_if_le_n (tgt := 21) dX10_rest_14 (by decide) (by decide) (fun _ => ?_) (fun h => absurd h (by decide))
        refine g_aload_n 0 dX10_rest_21 rfl rfl ?_
        refine g_iload_n 1 dX10_rest_22 rfl rfl ?_
        refine g_iload_n 2 dX10_rest_23 rfl rfl ?_
        refine m_cVi (ct_mutes T i j hK hi hj) hvX10_mutes hyX10_mutes rfl ⟨Nat.le_of_ble_eq_true rfl, Nat.le_of_ble_eq_true rfl⟩ ⟨Nat.zero_le _, Nat.zero_le _⟩ rfl (Nat.le_of_ble_eq_true rfl) dX10_rest_24 m_rec (fun r um hum => ?_)
        obtain ⟨heapsM, rowsM, xsM, ysM, pairsM, endsM⟩ := um
        dsimp only
        obtain ⟨hlM, KK, hKe, hK20, hv, hends⟩ := hum
        subst hv
        have hl : layd xsM ysM pairsM (tW T) := hlM
        have hends : ∀ w, w < tP T → endsM w = muWhen T i j KK w := hends
        have hW := layd_OK hl o1 o3
        have hP : pairsM ≤ 1830 := hW.1
        have hPT : pairsM = tP T := hl.1
        exact g_iret ((_, _, _, _, _, _, _), _) dX10_rest_27 (Nat.le_refl _) (Nat.le_refl _) (by refine ⟨h2f.symm, fun _ => ⟨KK, ?_⟩⟩; rw [ci, cj]; exact ⟨hKe, rfl⟩) (fun _ h => h)
set_option maxHeartbeats 4000000 in
/-- behind how many turns a world is struck -/
theorem ct_when (T : Talk) (a0 b0 w0 : Int32) (hK : KIs known T) : CT l D cl tys yX10_when cX10_when 4 (some .int) ({ frames := 6, cells := 0, slots := 0, locals := 148 } : Room) [.ref (ma 0), .int a0, .int b0, .int w0] (HM D cl tys mi cI cJ cZ ma known fresh_ saved images isImage thrown tape taped size_ at_ begin_ token value open_ bad badPlace faultKind faultPlace xs ys pairs rows top heaps endsBehind path order firstOrder ordersMany tSort tMany numbers) (Qi (fun (v : Int32) (u : (Nat × (Nat → Nat) × (Nat → Nat) × Nat × (Nat → Int64) × Nat × (Nat → Nat)) × (Nat → Int32)) => isWhen T a0 b0 w0 u.1.1 v) (fun (u : (Nat × (Nat → Nat) × (Nat → Nat) × Nat × (Nat → Int64) × Nat × (Nat → Nat)) × (Nat → Int32)) => HM D cl tys mi cI cJ cZ ma known fresh_ saved images isImage u.1.1 tape taped size_ at_ begin_ token value open_ bad badPlace faultKind faultPlace u.1.2.1 u.1.2.2.1 u.1.2.2.2.1 u.1.2.2.2.2.1 u.1.2.2.2.2.2.1 u.1.2.2.2.2.2.2 u.2 path order firstOrder ordersMany tSort tMany numbers) (AM ma)) (AM ma) := by
  obtain ⟨⟨o1, o2, o3, o4, o5, o6, o7, o8, o9, o10⟩, k0, k1, k2, k3, k4, k5, k6, k7, k8⟩ := id hK
  refine CT.of (L := [(0, .ref (ma 0)), (1, .int a0), (2, .int b0), (3, .int w0)]) rfl (by decide +kernel) rfl (Nat.le_of_ble_eq_true rfl) ?_
  rcases hiw : iR w0 (tP T) with _ | x
  · skip
    rcases hia : iR a0 (tNS T) with _ | i
    · skip
      skip
      · skip
        have h2f : aTwo T a0 b0 = 1 := (by first | (unfold aTwo; rw [hia]; done) | (unfold aTwo; rw [hia]; rfl) | (unfold aTwo; simp only [hia]; done) | (unfold aTwo; simp only [hia]; rfl))
        refine g_aload_n 0 dX10_when_0 rfl rfl ?_
        refine g_aload_n 0 dX10_when_1 rfl rfl ?_
        refine g_iload_n 1 dX10_when_2 rfl rfl ?_
        refine g_iload_n 2 dX10_when_3 rfl rfl ?_
        refine m_cVi (ct_twoFault T _ _ hK) hvX10_twoFault hyX10_twoFault rfl ⟨Nat.le_of_ble_eq_true rfl, Nat.le_of_ble_eq_true rfl⟩ ⟨Nat.zero_le _, Nat.zero_le _⟩ rfl (Nat.le_of_ble_eq_true rfl) dX10_when_4 m_rec (fun r u9 hp => ?_)
        obtain rfl := hp
        refine GG.topi (y := nI 1) (congrArg nI h2f) ?_
        refine m_put_thrown dX10_when_7 ?_
        refine g_aload_n 0 dX10_when_10 rfl rfl ?_
        refine g_iload_n 3 dX10_when_11 rfl rfl ?_
        refine m_cVi (ct_isWorld _ (tLow T) (tHigh T) (tMost T) (tUn T) k1 k2 k3 k4 o1 o2 o3 o4 o5) hvX10_isWorld hyX10_isWorld rfl ⟨Nat.le_of_ble_eq_true rfl, Nat.le_of_ble_eq_true rfl⟩ ⟨Nat.zero_le _, Nat.zero_le _⟩ rfl (Nat.le_of_ble_eq_true rfl) dX10_when_12 m_rec (fun r ul hld => ?_)
        obtain ⟨xsL, ysL, pairsL⟩ := ul
        dsimp only
        obtain ⟨hl, hr9⟩ := hld
        have hl : layd xsL ysL pairsL (tW T) := hl
        have hW := layd_OK hl o1 o3
        have hP : pairsL ≤ 1830 := hW.1
        have hPT : pairsL = tP T := hl.1
        subst hr9
        refine GG.topi (y := nI 0) (by show bI (iR _ (tP T)).isSome = _; rw [hiw]; rfl) ?_
        refine g_if_ne_n (tgt := 23) dX10_when_15 (by decide) (by decide) (fun h => absurd h (by decide)) (fun _ => ?_)
        refine g_aload_n 0 dX10_when_18 rfl rfl ?_
        refine g_iconst (v := nI 1) dX10_when_19 (by decide +kernel) ?_
        refine m_put_thrown dX10_when_20 ?_
        refine g_aload_n 0 dX10_when_23 rfl rfl ?_
        refine m_get_thrown dX10_when_24 ?_
        refine g_if_le_n (tgt := 32) dX10_when_27 (by decide) (by decide) (fun h => absurd h (by decide)) (fun _ => ?_)
        refine g_iconst (v := nI 0) dX10_when_30 (by decide +kernel) ?_
        exact g_iret ((_, _, _, _, _, _, _), _) dX10_when_31 (Nat.le_refl _) (Nat.le_refl _) (by unfold isWhen; rw [hiw]) (fun _ h => h)
    · skip
      obtain ⟨hi, ei⟩ := iR_some hia
      subst ei
      rcases hib : iR b0 (tNS T) with _ | j
      · skip
        skip
        · skip
          have h2f : aTwo T (nI i) b0 = 1 := (by first | (unfold aTwo; rw [hia, hib]; done) | (unfold aTwo; rw [hia, hib]; rfl) | (unfold aTwo; simp only [hia, hib]; done) | (unfold aTwo; simp only [hia, hib]; rfl))
          refine g_aload_n 0 dX10_when_0 rfl rfl ?_
          refine g_aload_n 0 dX10_when_1 rfl rfl ?_
          refine g_iload_n 1 dX10_when_2 rfl rfl ?_
          refine g_iload_n 2 dX10_when_3 rfl rfl ?_
          refine m_cVi (ct_twoFault T _ _ hK) hvX10_twoFault hyX10_twoFault rfl ⟨Nat.le_of_ble_eq_true rfl, Nat.le_of_ble_eq_true rfl⟩ ⟨Nat.zero_le _, Nat.zero_le _⟩ rfl (Nat.le_of_ble_eq_true rfl) dX10_when_4 m_rec (fun r u9 hp => ?_)
          obtain rfl := hp
          refine GG.topi (y := nI 1) (congrArg nI h2f) ?_
          refine m_put_thrown dX10_when_7 ?_
          refine g_aload_n 0 dX10_when_10 rfl rfl ?_
          refine g_iload_n 3 dX10_when_11 rfl rfl ?_
          refine m_cVi (ct_isWorld _ (tLow T) (tHigh T) (tMost T) (tUn T) k1 k2 k3 k4 o1 o2 o3 o4 o5) hvX10_isWorld hyX10_isWorld rfl ⟨Nat.le_of_ble_eq_true rfl, Nat.le_of_ble_eq_true rfl⟩ ⟨Nat.zero_le _, Nat.zero_le _⟩ rfl (Nat.le_of_ble_eq_true rfl) dX10_when_12 m_rec (fun r ul hld => ?_)
          obtain ⟨xsL, ysL, pairsL⟩ := ul
          dsimp only
          obtain ⟨hl, hr9⟩ := hld
          have hl : layd xsL ysL pairsL (tW T) := hl
          have hW := layd_OK hl o1 o3
          have hP : pairsL ≤ 1830 := hW.1
          have hPT : pairsL = tP T := hl.1
          subst hr9
          refine GG.topi (y := nI 0) (by show bI (iR _ (tP T)).isSome = _; rw [hiw]; rfl) ?_
          refine g_if_ne_n (tgt := 23) dX10_when_15 (by decide) (by decide) (fun h => absurd h (by decide)) (fun _ => ?_)
          refine g_aload_n 0 dX10_when_18 rfl rfl ?_
          refine g_iconst (v := nI 1) dX10_when_19 (by decide +kernel) ?_
          refine m_put_thrown dX10_when_20 ?_
          refine g_aload_n 0 dX10_when_23 rfl rfl ?_
          refine m_get_thrown dX10_when_24 ?_
          refine g_if_le_n (tgt := 32) dX10_when_27 (by decide) (by decide) (fun h => absurd h (by decide)) (fun _ => ?_)
          refine g_iconst (v := nI 0) dX10_when_30 (by decide +kernel) ?_
          exact g_iret ((_, _, _, _, _, _, _), _) dX10_when_31 (Nat.le_refl _) (Nat.le_refl _) (by unfold isWhen; rw [hiw]) (fun _ h => h)
      · skip
        obtain ⟨hj, ej⟩ := iR_some hib
        subst ej
        by_cases hij : i = j
        · skip
          have h2f : aTwo T (nI i) (nI j) = 2 := by unfold aTwo; rw [hia, hib]; dsimp only; rw [if_pos hij]
          refine g_aload_n 0 dX10_when_0 rfl rfl ?_
          refine g_aload_n 0 dX10_when_1 rfl rfl ?_
          refine g_iload_n 1 dX10_when_2 rfl rfl ?_
          refine g_iload_n 2 dX10_when_3 rfl rfl ?_
          refine m_cVi (ct_twoFault T _ _ hK) hvX10_twoFault hyX10_twoFault rfl ⟨Nat.le_of_ble_eq_true rfl, Nat.le_of_ble_eq_true rfl⟩ ⟨Nat.zero_le _, Nat.zero_le _⟩ rfl (Nat.le_of_ble_eq_true rfl) dX10_when_4 m_rec (fun r u9 hp => ?_)
          obtain rfl := hp
          refine GG.topi (y := nI 2) (congrArg nI h2f) ?_
          refine m_put_thrown dX10_when_7 ?_
          refine g_aload_n 0 dX10_when_10 rfl rfl ?_
          refine g_iload_n 3 dX10_when_11 rfl rfl ?_
          refine m_cVi (ct_isWorld _ (tLow T) (tHigh T) (tMost T) (tUn T) k1 k2 k3 k4 o1 o2 o3 o4 o5) hvX10_isWorld hyX10_isWorld rfl ⟨Nat.le_of_ble_eq_true rfl, Nat.le_of_ble_eq_true rfl⟩ ⟨Nat.zero_le _, Nat.zero_le _⟩ rfl (Nat.le_of_ble_eq_true rfl) dX10_when_12 m_rec (fun r ul hld => ?_)
          obtain ⟨xsL, ysL, pairsL⟩ := ul
          dsimp only
          obtain ⟨hl, hr9⟩ := hld
          have hl : layd xsL ysL pairsL (tW T) := hl
          have hW := layd_OK hl o1 o3
          have hP : pairsL ≤ 1830 := hW.1
          have hPT : pairsL = tP T := hl.1
          subst hr9
          refine GG.topi (y := nI 0) (by show bI (iR _ (tP T)).isSome = _; rw [hiw]; rfl) ?_
          refine g_if_ne_n (tgt := 23) dX10_when_15 (by decide) (by decide) (fun h => absurd h (by decide)) (fun _ => ?_)
          refine g_aload_n 0 dX10_when_18 rfl rfl ?_
          refine g_iconst (v := nI 1) dX10_when_19 (by decide +kernel) ?_
          refine m_put_thrown dX10_when_20 ?_
          refine g_aload_n 0 dX10_when_23 rfl rfl ?_
          refine m_get_thrown dX10_when_24 ?_
          refine g_if_le_n (tgt := 32) dX10_when_27 (by decide) (by decide) (fun h => absurd h (by decide)) (fun _ => ?_)
          refine g_iconst (v := nI 0) dX10_when_30 (by decide +kernel) ?_
          exact g_iret ((_, _, _, _, _, _, _), _) dX10_when_31 (Nat.le_refl _) (Nat.le_refl _) (by unfold isWhen; rw [hiw]) (fun _ h => h)
        · skip
          have h2f : aTwo T (nI i) (nI j) = 0 := by unfold aTwo; rw [hia, hib]; dsimp only; rw [if_neg hij]
          have ci : (nI i).toNatClampNeg = i := nI_clamp (by omega)
          have cj : (nI j).toNatClampNeg = j := nI_clamp (by omega)
          refine g_aload_n 0 dX10_when_0 rfl rfl ?_
          refine g_aload_n 0 dX10_when_1 rfl rfl ?_
          refine g_iload_n 1 dX10_when_2 rfl rfl ?_
          refine g_iload_n 2 dX10_when_3 rfl rfl ?_
          refine m_cVi (ct_twoFault T _ _ hK) hvX10_twoFault hyX10_twoFault rfl ⟨Nat.le_of_ble_eq_true rfl, Nat.le_of_ble_eq_true rfl⟩ ⟨Nat.zero_le _, Nat.zero_le _⟩ rfl (Nat.le_of_ble_eq_true rfl) dX10_when_4 m_rec (fun r u9 hp => ?_)
          obtain rfl := hp
          refine GG.topi (y := nI 0) (congrArg nI h2f) ?_
          refine m_put_thrown dX10_when_7 ?_
          refine g_aload_n 0 dX10_when_10 rfl rfl ?_
          refine g_iload_n 3 dX10_when_11 rfl rfl ?_
          refine m_cVi (ct_isWorld _ (tLow T) (tHigh T) (tMost T) (tUn T) k1 k2 k3 k4 o1 o2 o3 o4 o5) hvX10_isWorld hyX10_isWorld rfl ⟨Nat.le_of_ble_eq_true rfl, Nat.le_of_ble_eq_true rfl⟩ ⟨Nat.zero_le _, Nat.zero_le _⟩ rfl (Nat.le_of_ble_eq_true rfl) dX10_when_12 m_rec (fun r ul hld => ?_)
          obtain ⟨xsL, ysL, pairsL⟩ := ul
          dsimp only
          obtain ⟨hl, hr9⟩ := hld
          have hl : layd xsL ysL pairsL (tW T) := hl
          have hW := layd_OK hl o1 o3
          have hP : pairsL ≤ 1830 := hW.1
          have hPT : pairsL = tP T := hl.1
          subst hr9
          refine GG.topi (y := nI 0) (by show bI (iR _ (tP T)).isSome = _; rw [hiw]; rfl) ?_
          refine g_if_ne_n (tgt := 23) dX10_when_15 (by decide) (by decide) (fun h => absurd h (by decide)) (fun _ => ?_)
          refine g_aload_n 0 dX10_when_18 rfl rfl ?_
          refine g_iconst (v := nI 1) dX10_when_19 (by decide +kernel) ?_
          refine m_put_thrown dX10_when_20 ?_
          refine g_aload_n 0 dX10_when_23 rfl rfl ?_
          refine m_get_thrown dX10_when_24 ?_
          refine g_if_le_n (tgt := 32) dX10_when_27 (by decide) (by decide) (fun h => absurd h (by decide)) (fun _ => ?_)
          refine g_iconst (v := nI 0) dX10_when_30 (by decide +kernel) ?_
          exact g_iret ((_, _, _, _, _, _, _), _) dX10_when_31 (Nat.le_refl _) (Nat.le_refl _) (by unfold isWhen; rw [hiw]) (fun _ h => h)
  · skip
    obtain ⟨hx, ex⟩ := iR_some hiw
    subst ex
    rcases hia : iR a0 (tNS T) with _ | i
    · skip
      skip
      · skip
        have h2f : aTwo T a0 b0 = 1 := (by first | (unfold aTwo; rw [hia]; done) | (unfold aTwo; rw [hia]; rfl) | (unfold aTwo; simp only [hia]; done) | (unfold aTwo; simp only [hia]; rfl))
        refine g_aload_n 0 dX10_when_0 rfl rfl ?_
        refine g_aload_n 0 dX10_when_1 rfl rfl ?_
        refine g_iload_n 1 dX10_when_2 rfl rfl ?_
        refine g_iload_n 2 dX10_when_3 rfl rfl ?_
        refine m_cVi (ct_twoFault T _ _ hK) hvX10_twoFault hyX10_twoFault rfl ⟨Nat.le_of_ble_eq_true rfl, Nat.le_of_ble_eq_true rfl⟩ ⟨Nat.zero_le _, Nat.zero_le _⟩ rfl (Nat.le_of_ble_eq_true rfl) dX10_when_4 m_rec (fun r u9 hp => ?_)
        obtain rfl := hp
        refine GG.topi (y := nI 1) (congrArg nI h2f) ?_
        refine m_put_thrown dX10_when_7 ?_
        refine g_aload_n 0 dX10_when_10 rfl rfl ?_
        refine g_iload_n 3 dX10_when_11 rfl rfl ?_
        refine m_cVi (ct_isWorld _ (tLow T) (tHigh T) (tMost T) (tUn T) k1 k2 k3 k4 o1 o2 o3 o4 o5) hvX10_isWorld hyX10_isWorld rfl ⟨Nat.le_of_ble_eq_true rfl, Nat.le_of_ble_eq_true rfl⟩ ⟨Nat.zero_le _, Nat.zero_le _⟩ rfl (Nat.le_of_ble_eq_true rfl) dX10_when_12 m_rec (fun r ul hld => ?_)
        obtain ⟨xsL, ysL, pairsL⟩ := ul
        dsimp only
        obtain ⟨hl, hr9⟩ := hld
        have hl : layd xsL ysL pairsL (tW T) := hl
        have hW := layd_OK hl o1 o3
        have hP : pairsL ≤ 1830 := hW.1
        have hPT : pairsL = tP T := hl.1
        subst hr9
        refine GG.topi (y := nI 1) (by show bI (iR _ (tP T)).isSome = _; rw [hiw]; rfl) ?_
        refine g_if_ne_n (tgt := 23) dX10_when_15 (by decide) (by decide) (fun _ => ?_) (fun h => absurd h (by decide))
        refine g_aload_n 0 dX10_when_23 rfl rfl ?_
        refine m_get_thrown dX10_when_24 ?_
        refine g_if_le_n (tgt := 32) dX10_when_27 (by decide) (by decide) (fun h => absurd h (by decide)) (fun _ => ?_)
        refine g_iconst (v := nI 0) dX10_when_30 (by decide +kernel) ?_
        exact g_iret ((_, _, _, _, _, _, _), _) dX10_when_31 (Nat.le_refl _) (Nat.le_refl _) (by unfold isWhen; rw [hiw]; exact ⟨h2f.symm, fun h => absurd (h2f.symm.trans h) (by decide)⟩) (fun _ h => h)
    · skip
      obtain ⟨hi, ei⟩ := iR_some hia
      subst ei
      rcases hib : iR b0 (tNS T) with _ | j
      · skip
        skip
        · skip
          have h2f : aTwo T (nI i) b0 = 1 := (by first | (unfold aTwo; rw [hia, hib]; done) | (unfold aTwo; rw [hia, hib]; rfl) | (unfold aTwo; simp only [hia, hib]; done) | (unfold aTwo; simp only [hia, hib]; rfl))
          refine g_aload_n 0 dX10_when_0 rfl rfl ?_
          refine g_aload_n 0 dX10_when_1 rfl rfl ?_
          refine g_iload_n 1 dX10_when_2 rfl rfl ?_
          refine g_iload_n 2 dX10_when_3 rfl rfl ?_
          refine m_cVi (ct_twoFault T _ _ hK) hvX10_twoFault hyX10_twoFault rfl ⟨Nat.le_of_ble_eq_true rfl, Nat.le_of_ble_eq_true rfl⟩ ⟨Nat.zero_le _, Nat.zero_le _⟩ rfl (Nat.le_of_ble_eq_true rfl) dX10_when_4 m_rec (fun r u9 hp => ?_)
          obtain rfl := hp
          refine GG.topi (y := nI 1) (congrArg nI h2f) ?_
          refine m_put_thrown dX10_when_7 ?_
          refine g_aload_n 0 dX10_when_10 rfl rfl ?_
          refine g_iload_n 3 dX10_when_11 rfl rfl ?_
          refine m_cVi (ct_isWorld _ (tLow T) (tHigh T) (tMost T) (tUn T) k1 k2 k3 k4 o1 o2 o3 o4 o5) hvX10_isWorld hyX10_isWorld rfl ⟨Nat.le_of_ble_eq_true rfl, Nat.le_of_ble_eq_true rfl⟩ ⟨Nat.zero_le _, Nat.zero_le _⟩ rfl (Nat.le_of_ble_eq_true rfl) dX10_when_12 m_rec (fun r ul hld => ?_)
          obtain ⟨xsL, ysL, pairsL⟩ := ul
          dsimp only
          obtain ⟨hl, hr9⟩ := hld
          have hl : layd xsL ysL pairsL (tW T) := hl
          have hW := layd_OK hl o1 o3
          have hP : pairsL ≤ 1830 := hW.1
          have hPT : pairsL = tP T := hl.1
          subst hr9
          refine GG.topi (y := nI 1) (by show bI (iR _ (tP T)).isSome = _; rw [hiw]; rfl) ?_
          refine g_if_ne_n (tgt := 23) dX10_when_15 (by decide) (by decide) (fun _ => ?_) (fun h => absurd h (by decide))
          refine g_aload_n 0 dX10_when_23 rfl rfl ?_
          refine m_get_thrown dX10_when_24 ?_
          refine g_if_le_n (tgt := 32) dX10_when_27 (by decide) (by decide) (fun h => absurd h (by decide)) (fun _ => ?_)
          refine g_iconst (v := nI 0) dX10_when_30 (by decide +kernel) ?_
          exact g_iret ((_, _, _, _, _, _, _), _) dX10_when_31 (Nat.le_refl _) (Nat.le_refl _) (by unfold isWhen; rw [hiw]; exact ⟨h2f.symm, fun h => absurd (h2f.symm.trans h) (by decide)⟩) (fun _ h => h)
      · skip
        obtain ⟨hj, ej⟩ := iR_some hib
        subst ej
        by_cases hij : i = j
        · skip
          have h2f : aTwo T (nI i) (nI j) = 2 := by unfold aTwo; rw [hia, hib]; dsimp only; rw [if_pos hij]
          refine g_aload_n 0 dX10_when_0 rfl rfl ?_
          refine g_aload_n 0 dX10_when_1 rfl rfl ?_
          refine g_iload_n 1 dX10_when_2 rfl rfl ?_
          refine g_iload_n 2 dX10_when_3 rfl rfl ?_
          refine m_cVi (ct_twoFault T _ _ hK) hvX10_twoFault hyX10_twoFault rfl ⟨Nat.le_of_ble_eq_true rfl, Nat.le_of_ble_eq_true rfl⟩ ⟨Nat.zero_le _, Nat.zero_le _⟩ rfl (Nat.le_of_ble_eq_true rfl) dX10_when_4 m_rec (fun r u9 hp => ?_)
          obtain rfl := hp
          refine GG.topi (y := nI 2) (congrArg nI h2f) ?_
          refine m_put_thrown dX10_when_7 ?_
          refine g_aload_n 0 dX10_when_10 rfl rfl ?_
          refine g_iload_n 3 dX10_when_11 rfl rfl ?_
          refine m_cVi (ct_isWorld _ (tLow T) (tHigh T) (tMost T) (tUn T) k1 k2 k3 k4 o1 o2 o3 o4 o5) hvX10_isWorld hyX10_isWorld rfl ⟨Nat.le_of_ble_eq_true rfl, Nat.le_of_ble_eq_true rfl⟩ ⟨Nat.zero_le _, Nat.zero_le _⟩ rfl (Nat.le_of_ble_eq_true rfl) dX10_when_12 m_rec (fun r ul hld => ?_)
          obtain ⟨xsL, ysL, pairsL⟩ := ul
          dsimp only
          obtain ⟨hl, hr9⟩ := hld
          have hl : layd xsL ysL pairsL (tW T) := hl
          have hW := layd_OK hl o1 o3
          have hP : pairsL ≤ 1830 := hW.1
          have hPT : pairsL = tP T := hl.1
          subst hr9
          refine GG.topi (y := nI 1) (by show bI (iR _ (tP T)).isSome = _; rw [hiw]; rfl) ?_
          refine g_if_ne_n (tgt := 23) dX10_when_15 (by decide) (by decide) (fun _ => ?_) (fun h => absurd h (by decide))
          refine g_aload_n 0 dX10_when_23 rfl rfl ?_
          refine m_get_thrown dX10_when_24 ?_
          refine g_if_le_n (tgt := 32) dX10_when_27 (by decide) (by decide) (fun h => absurd h (by decide)) (fun _ => ?_)
          refine g_iconst (v := nI 0) dX10_when_30 (by decide +kernel) ?_
          exact g_iret ((_, _, _, _, _, _, _), _) dX10_when_31 (Nat.le_refl _) (Nat.le_refl _) (by unfold isWhen; rw [hiw]; exact ⟨h2f.symm, fun h => absurd (h2f.symm.trans h) (by decide)⟩) (fun _ h => h)
        · skip
          have h2f : aTwo T (nI i) (nI j) = 0 := by unfold aTwo; rw [hia, hib]; dsimp only; rw [if_neg hij]
          have ci : (nI i).toNatClampNeg = i := nI_clamp (by omega)
          have cj : (nI j).toNatClampNeg = j := nI_clamp (by omega)
          refine g_aload_n 0 dX10_when_0 rfl rfl ?_
          refine g_aload_n 0 dX10_when_1 rfl rfl ?_
          refine g_iload_n 1 dX10_when_2 rfl rfl ?_
          refine g_iload_n 2 dX10_when_3 rfl rfl ?_
          refine m_cVi (ct_twoFault T _ _ hK) hvX10_twoFault hyX10_twoFault rfl ⟨Nat.le_of_ble_eq_true rfl, Nat.le_of_ble_eq_true rfl⟩ ⟨Nat.zero_le _, Nat.zero_le _⟩ rfl (Nat.le_of_ble_eq_true rfl) dX10_when_4 m_rec (fun r u9 hp => ?_)
          obtain rfl := hp
          refine GG.topi (y := nI 0) (congrArg nI h2f) ?_
          refine m_put_thrown dX10_when_7 ?_
          refine g_aload_n 0 dX10_when_10 rfl rfl ?_
          refine g_iload_n 3 dX10_when_11 rfl rfl ?_
          refine m_cVi (ct_isWorld _ (tLow T) (tHigh T) (tMost T) (tUn T) k1 k2 k3 k4 o1 o2 o3 o4 o5) hvX10_isWorld hyX10_isWorld rfl ⟨Nat.le_of_ble_eq_true rfl, Nat.le_of_ble_eq_true rfl⟩ ⟨Nat.zero_le _, Nat.zero_le _⟩ rfl (Nat.le_of_ble_eq_true rfl) dX10_when_12 m_rec (fun r ul hld => ?_)
          obtain ⟨xsL, ysL, pairsL⟩ := ul
          dsimp only
          obtain ⟨hl, hr9⟩ := hld
          have hl : layd xsL ysL pairsL (tW T) := hl
          have hW := layd_OK hl o1 o3
          have hP : pairsL ≤ 1830 := hW.1
          have hPT : pairsL = tP T := hl.1
          subst hr9
          refine GG.topi (y := nI 1) (by show bI (iR _ (tP T)).isSome = _; rw [hiw]; rfl) ?_
          refine g_if_ne_n (tgt := 23) dX10_when_15 (by decide) (by decide) (fun _ => ?_) (fun h => absurd h (by decide))
          refine g_aload_n 0 dX10_when_23 rfl rfl ?_
          refine m_get_thrown dX10_when_24 ?_
          refine g_if_le_n (tgt := 32) dX10_when_27 (by decide) (by decide) (fun _ => ?_) (fun h => absurd h (by decide))
          refine g_aload_n 0 dX10_when_32 rfl rfl ?_
          refine g_iload_n 1 dX10_when_33 rfl rfl ?_
          refine g_iload_n 2 dX10_when_34 rfl rfl ?_
          refine m_cVi (ct_mutes T i j hK hi hj) hvX10_mutes hyX10_mutes rfl ⟨Nat.le_of_ble_eq_true rfl, Nat.le_of_ble_eq_true rfl⟩ ⟨Nat.zero_le _, Nat.zero_le _⟩ rfl (Nat.le_of_ble_eq_true rfl) dX10_when_35 m_rec (fun r um hum => ?_)
          obtain ⟨heapsM, rowsM, xsM, ysM, pairsM, endsM⟩ := um
          dsimp only
          obtain ⟨hlM, KK, hKe, hK20, hv, hends⟩ := hum
          subst hv
          have hl : layd xsM ysM pairsM (tW T) := hlM
          have hends : ∀ w, w < tP T → endsM w = muWhen T i j KK w := hends
          have hW := layd_OK hl o1 o3
          have hP : pairsM ≤ 1830 := hW.1
          have hPT : pairsM = tP T := hl.1
          refine g_pop dX10_when_38 rfl ?_
          refine g_aload_n 0 dX10_when_39 rfl rfl ?_
          refine m_get_endsBehind dX10_when_40 ?_
          refine g_iload_n 3 dX10_when_43 rfl rfl ?_
          refine m_ld_endsBehind dX10_when_44 (by omega) ?_
          exact g_iret ((_, _, _, _, _, _, _), _) dX10_when_45 (Nat.le_refl _) (Nat.le_refl _) (by unfold isWhen; rw [hiw]; refine ⟨h2f.symm, fun _ => ⟨KK, ?_⟩⟩; rw [ci, cj]; exact ⟨hKe, hends x hx⟩) (fun _ h => h)
set_option maxHeartbeats 4000000 in
/-- what is struck last -/
theorem ct_longest (T : Talk) (a0 b0 wh : Int32) (hK : KIs known T) : CT l D cl tys yX10_longest cX10_longest 6 (some .int) ({ frames := 6, cells := 0, slots := 0, locals := 148 } : Room) [.ref (ma 0), .int a0, .int b0, .int wh] (HM D cl tys mi cI cJ cZ ma known fresh_ saved images isImage thrown tape taped size_ at_ begin_ token value open_ bad badPlace faultKind faultPlace xs ys pairs rows top heaps endsBehind path order firstOrder ordersMany tSort tMany numbers) (Qi (fun (v : Int32) (u : (Nat × (Nat → Nat) × (Nat → Nat) × Nat × (Nat → Int64) × Nat × (Nat → Nat)) × (Nat → Int32)) => isLongest T a0 b0 wh u.1.1 v) (fun (u : (Nat × (Nat → Nat) × (Nat → Nat) × Nat × (Nat → Int64) × Nat × (Nat → Nat)) × (Nat → Int32)) => HM D cl tys mi cI cJ cZ ma known fresh_ saved images isImage u.1.1 tape taped size_ at_ begin_ token value open_ bad badPlace faultKind faultPlace u.1.2.1 u.1.2.2.1 u.1.2.2.2.1 u.1.2.2.2.2.1 u.1.2.2.2.2.2.1 u.1.2.2.2.2.2.2 u.2 path order firstOrder ordersMany tSort tMany numbers) (AM ma)) (AM ma) := by
  obtain ⟨⟨o1, o2, o3, o4, o5, o6, o7, o8, o9, o10⟩, k0, k1, k2, k3, k4, k5, k6, k7, k8⟩ := id hK
  refine CT.of (L := [(0, .ref (ma 0)), (1, .int a0), (2, .int b0), (3, .int wh)]) rfl (by decide +kernel) rfl (Nat.le_of_ble_eq_true rfl) ?_
  rcases hia : iR a0 (tNS T) with _ | i
  · skip
    skip
    · skip
      have h2f : aTwo T a0 b0 = 1 := (by first | (unfold aTwo; rw [hia]; done) | (unfold aTwo; rw [hia]; rfl) | (unfold aTwo; simp only [hia]; done) | (unfold aTwo; simp only [hia]; rfl))
      refine g_aload_n 0 dX10_longest_0 rfl rfl ?_
      refine g_aload_n 0 dX10_longest_1 rfl rfl ?_
      refine g_iload_n 1 dX10_longest_2 rfl rfl ?_
      refine g_iload_n 2 dX10_longest_3 rfl rfl ?_
      refine m_cVi (ct_twoFault T _ _ hK) hvX10_twoFault hyX10_twoFault rfl ⟨Nat.le_of_ble_eq_true rfl, Nat.le_of_ble_eq_true rfl⟩ ⟨Nat.zero_le _, Nat.zero_le _⟩ rfl (Nat.le_of_ble_eq_true rfl) dX10_longest_4 m_rec (fun r u9 hp => ?_)
      obtain rfl := hp
      refine GG.topi (y := nI 1) (congrArg nI h2f) ?_
      refine m_put_thrown dX10_longest_7 ?_
      refine g_aload_n 0 dX10_longest_10 rfl rfl ?_
      refine m_get_thrown dX10_longest_11 ?_
      refine g_if_ne_n (tgt := 32) dX10_longest_14 (by decide) (by decide) (fun _ => ?_) (fun h => absurd h (by decide))
      refine g_aload_n 0 dX10_longest_32 rfl rfl ?_
      refine m_get_thrown dX10_longest_33 ?_
      refine g_if_le_n (tgt := 41) dX10_longest_36 (by decide) (by decide) (fun h => absurd h (by decide)) (fun _ => ?_)
      refine g_iconst (v := nI 0) dX10_longest_39 (by decide +kernel) ?_
      exact g_iret ((_, _, _, _, _, _, _), _) dX10_longest_40 (Nat.le_refl _) (Nat.le_refl _) (by unfold isLongest; rw [if_neg (by rw [h2f]; decide)]; exact h2f.symm) (fun _ h => h)
  · skip
    obtain ⟨hi, ei⟩ := iR_some hia
    subst ei
    rcases hib : iR b0 (tNS T) with _ | j
    · skip
      skip
      · skip
        have h2f : aTwo T (nI i) b0 = 1 := (by first | (unfold aTwo; rw [hia, hib]; done) | (unfold aTwo; rw [hia, hib]; rfl) | (unfold aTwo; simp only [hia, hib]; done) | (unfold aTwo; simp only [hia, hib]; rfl))
        refine g_aload_n 0 dX10_longest_0 rfl rfl ?_
        refine g_aload_n 0 dX10_longest_1 rfl rfl ?_
        refine g_iload_n 1 dX10_longest_2 rfl rfl ?_
        refine g_iload_n 2 dX10_longest_3 rfl rfl ?_
        refine m_cVi (ct_twoFault T _ _ hK) hvX10_twoFault hyX10_twoFault rfl ⟨Nat.le_of_ble_eq_true rfl, Nat.le_of_ble_eq_true rfl⟩ ⟨Nat.zero_le _, Nat.zero_le _⟩ rfl (Nat.le_of_ble_eq_true rfl) dX10_longest_4 m_rec (fun r u9 hp => ?_)
        obtain rfl := hp
        refine GG.topi (y := nI 1) (congrArg nI h2f) ?_
        refine m_put_thrown dX10_longest_7 ?_
        refine g_aload_n 0 dX10_longest_10 rfl rfl ?_
        refine m_get_thrown dX10_longest_11 ?_
        refine g_if_ne_n (tgt := 32) dX10_longest_14 (by decide) (by decide) (fun _ => ?_) (fun h => absurd h (by decide))
        refine g_aload_n 0 dX10_longest_32 rfl rfl ?_
        refine m_get_thrown dX10_longest_33 ?_
        refine g_if_le_n (tgt := 41) dX10_longest_36 (by decide) (by decide) (fun h => absurd h (by decide)) (fun _ => ?_)
        refine g_iconst (v := nI 0) dX10_longest_39 (by decide +kernel) ?_
        exact g_iret ((_, _, _, _, _, _, _), _) dX10_longest_40 (Nat.le_refl _) (Nat.le_refl _) (by unfold isLongest; rw [if_neg (by rw [h2f]; decide)]; exact h2f.symm) (fun _ h => h)
    · skip
      obtain ⟨hj, ej⟩ := iR_some hib
      subst ej
      by_cases hij : i = j
      · skip
        have h2f : aTwo T (nI i) (nI j) = 2 := by unfold aTwo; rw [hia, hib]; dsimp only; rw [if_pos hij]
        refine g_aload_n 0 dX10_longest_0 rfl rfl ?_
        refine g_aload_n 0 dX10_longest_1 rfl rfl ?_
        refine g_iload_n 1 dX10_longest_2 rfl rfl ?_
        refine g_iload_n 2 dX10_longest_3 rfl rfl ?_
        refine m_cVi (ct_twoFault T _ _ hK) hvX10_twoFault hyX10_twoFault rfl ⟨Nat.le_of_ble_eq_true rfl, Nat.le_of_ble_eq_true rfl⟩ ⟨Nat.zero_le _, Nat.zero_le _⟩ rfl (Nat.le_of_ble_eq_true rfl) dX10_longest_4 m_rec (fun r u9 hp => ?_)
        obtain rfl := hp
        refine GG.topi (y := nI 2) (congrArg nI h2f) ?_
        refine m_put_thrown dX10_longest_7 ?_
        refine g_aload_n 0 dX10_longest_10 rfl rfl ?_
        refine m_get_thrown dX10_longest_11 ?_
        refine g_if_ne_n (tgt := 32) dX10_longest_14 (by decide) (by decide) (fun _ => ?_) (fun h => absurd h (by decide))
        refine g_aload_n 0 dX10_longest_32 rfl rfl ?_
        refine m_get_thrown dX10_longest_33 ?_
        refine g_if_le_n (tgt := 41) dX10_longest_36 (by decide) (by decide) (fun h => absurd h (by decide)) (fun _ => ?_)
        refine g_iconst (v := nI 0) dX10_longest_39 (by decide +kernel) ?_
        exact g_iret ((_, _, _, _, _, _, _), _) dX10_longest_40 (Nat.le_refl _) (Nat.le_refl _) (by unfold isLongest; rw [if_neg (by rw [h2f]; decide)]; exact h2f.symm) (fun _ h => h)
      · skip
        have h2f : aTwo T (nI i) (nI j) = 0 := by unfold aTwo; rw [hia, hib]; dsimp only; rw [if_neg hij]
        have ci : (nI i).toNatClampNeg = i := nI_clamp (by omega)
        have cj : (nI j).toNatClampNeg = j := nI_clamp (by omega)
        rcases iR2 wh with e | e | ⟨e0, e1, e2⟩
        · skip
          subst e
          refine g_aload_n 0 dX10_longest_0 rfl rfl ?_
          refine g_aload_n 0 dX10_longest_1 rfl rfl ?_
          refine g_iload_n 1 dX10_longest_2 rfl rfl ?_
          refine g_iload_n 2 dX10_longest_3 rfl rfl ?_
          refine m_cVi (ct_twoFault T _ _ hK) hvX10_twoFault hyX10_twoFault rfl ⟨Nat.le_of_ble_eq_true rfl, Nat.le_of_ble_eq_true rfl⟩ ⟨Nat.zero_le _, Nat.zero_le _⟩ rfl (Nat.le_of_ble_eq_true rfl) dX10_longest_4 m_rec (fun r u9 hp => ?_)
          obtain rfl := hp
          refine GG.topi (y := nI 0) (congrArg nI h2f) ?_
          refine m_put_thrown dX10_longest_7 ?_
          refine g_aload_n 0 dX10_longest_10 rfl rfl ?_
          refine m_get_thrown dX10_longest_11 ?_
          refine g_if_ne_n (tgt := 32) dX10_longest_14 (by decide) (by decide) (fun h => absurd h (by decide)) (fun _ => ?_)
          refine g_iload_n 3 dX10_longest_17 rfl rfl ?_
          refine g_i2l_n dX10_longest_18 (by omega) ?_
          refine g_lconst (v := lN 0) dX10_longest_19 (by decide +kernel) ?_
          refine g_lconst (v := lN 1) dX10_longest_20 (by decide +kernel) ?_
          refine m_cSi (ct_within _ _ _) hsX10_within hyX10_within rfl ⟨Nat.le_of_ble_eq_true rfl, Nat.le_of_ble_eq_true rfl⟩ ⟨Nat.zero_le _, Nat.zero_le _⟩ rfl (Nat.le_of_ble_eq_true rfl) dX10_longest_21 (fun r u9 hp => ?_)
          obtain rfl := hp
          refine GG.topi (y := nI 1) (by decide +kernel) ?_
          refine g_if_ne_n (tgt := 32) dX10_longest_24 (by decide) (by decide) (fun _ => ?_) (fun h => absurd h (by decide))
          refine g_aload_n 0 dX10_longest_32 rfl rfl ?_
          refine m_get_thrown dX10_longest_33 ?_
          refine g_if_le_n (tgt := 41) dX10_longest_36 (by decide) (by decide) (fun _ => ?_) (fun h => absurd h (by decide))
          refine g_aload_n 0 dX10_longest_41 rfl rfl ?_
          refine g_iload_n 1 dX10_longest_42 rfl rfl ?_
          refine g_iload_n 2 dX10_longest_43 rfl rfl ?_
          refine m_cVi (ct_mutes T i j hK hi hj) hvX10_mutes hyX10_mutes rfl ⟨Nat.le_of_ble_eq_true rfl, Nat.le_of_ble_eq_true rfl⟩ ⟨Nat.zero_le _, Nat.zero_le _⟩ rfl (Nat.le_of_ble_eq_true rfl) dX10_longest_44 m_rec (fun r um hum => ?_)
          obtain ⟨heapsM, rowsM, xsM, ysM, pairsM, endsM⟩ := um
          dsimp only
          obtain ⟨hlM, KK, hKe, hK20, hv, hends⟩ := hum
          subst hv
          have hl : layd xsM ysM pairsM (tW T) := hlM
          have hends : ∀ w, w < tP T → endsM w = muWhen T i j KK w := hends
          have hW := layd_OK hl o1 o3
          have hP : pairsM ≤ 1830 := hW.1
          have hPT : pairsM = tP T := hl.1
          refine g_pop dX10_longest_47 rfl ?_
          refine g_iconst (v := -1) dX10_longest_48 (by decide +kernel) ?_
          refine g_istore (L' := [(0, _), (1, _), (2, _), (3, _), (4, _)]) dX10_longest_49 (by decide) rfl rfl ?_
          refine g_iconst (v := nI 0) dX10_longest_51 (by decide +kernel) ?_
          refine g_istore (L' := [(0, _), (1, _), (2, _), (3, _), (4, _), (5, _)]) dX10_longest_52 (by decide) rfl rfl ?_
          have loop54 : ∀ (q54 : Nat) (w : Nat), pairsM - w < q54 → (w ≤ pairsM) → GG l D cl tys cX10_longest 6 (some .int) RX10 ({ frames := 6, cells := 0, slots := 0, locals := 148 } : Room) (AM ma) MT (QM (Qi (fun (v : Int32) (u : (Nat × (Nat → Nat) × (Nat → Nat) × Nat × (Nat → Int64) × Nat × (Nat → Nat)) × (Nat → Int32)) => isLongest T (nI i) (nI j) (nI 0) u.1.1 v) (fun (u : (Nat × (Nat → Nat) × (Nat → Nat) × Nat × (Nat → Int64) × Nat × (Nat → Nat)) × (Nat → Int32)) => HM D cl tys mi cI cJ cZ ma known fresh_ saved images isImage u.1.1 tape taped size_ at_ begin_ token value open_ bad badPlace faultKind faultPlace u.1.2.1 u.1.2.2.1 u.1.2.2.2.1 u.1.2.2.2.2.1 u.1.2.2.2.2.2.1 u.1.2.2.2.2.2.2 u.2 path order firstOrder ordersMany tSort tMany numbers) (AM ma)) 0 0 (AM ma)) (HM D cl tys mi cI cJ cZ ma known fresh_ saved images isImage 0 tape taped size_ at_ begin_ token value open_ bad badPlace faultKind faultPlace xsM ysM pairsM rowsM top heapsM endsM path order firstOrder ordersMany tSort tMany numbers) 0 0 54 [(0, .ref (ma 0)), (1, .int (nI i)), (2, .int (nI j)), (3, .int (nI 0)), (4, .int (bestB (bestE endsM w))), (5, .int (nI w))] [] := by
            intro q54
            induction q54 with
            | zero => intro w hq54; exact absurd hq54 (Nat.not_lt_zero _)
            | succ q54 ih54 =>
              intro w hq54 hw
              refine g_iload dX10_longest_54 rfl ?_
              refine g_aload_n 0 dX10_longest_56 rfl rfl ?_
              refine m_get_pairs dX10_longest_57 ?_
              refine g_icmp_ge_n (tgt := 107) dX10_longest_60 (by decide) (by omega) (by omega) (fun c60 => ?_) (fun c60 => ?_)
              · skip
                refine g_iload_n 3 dX10_longest_107 rfl rfl ?_
                refine g_if_ne_n (tgt := 127) dX10_longest_108 (by decide) (by decide) (fun h => absurd h (by decide)) (fun _ => ?_)
                refine g_iload dX10_longest_111 rfl ?_
                refine g_iconst (v := -1) dX10_longest_113 (by decide +kernel) ?_
                refine g_icmp_eq (tgt := 127) dX10_longest_114 (by decide) (fun c114 => ?_) (fun c114 => ?_)
                · skip
                  refine g_iload dX10_longest_127 rfl ?_
                  exact g_iret ((_, _, _, _, _, _, _), _) dX10_longest_129 (Nat.le_refl _) (Nat.le_refl _) (by have e9 : w = tP T := (by omega); unfold isLongest; rw [if_pos h2f]; rw [if_pos (show nI 0 = (0 : Int32) from rfl)]; refine ⟨rfl, KK, ?_⟩; rw [ci, cj]; refine ⟨hKe, ?_⟩; have hbe : bestE endsM w = bestE (muWhen T i j KK) (tP T) := (by rw [e9]; exact bestE_congr hends); first | (rw [← hbe, c114]; rw [bestB_eq c114 (by omega)]; rfl) | (rw [← hbe, hb9o]; exact hends b9 (by have := (bestE_lt hb9o).1; omega))) (fun _ h => h)
                · skip
                  obtain ⟨b9, hb9o, hb9⟩ := bestB_ne c114
                  refine g_aload_n 0 dX10_longest_117 rfl rfl ?_
                  refine m_get_endsBehind dX10_longest_118 ?_
                  refine g_iload dX10_longest_121 rfl ?_
                  refine GG.topi (y := nI b9) hb9 ?_
                  refine m_ld_endsBehind dX10_longest_123 (by have := (bestE_lt hb9o).1; omega) ?_
                  refine g_goto (tgt := 129) dX10_longest_124 (by decide) ?_
                  exact g_iret ((_, _, _, _, _, _, _), _) dX10_longest_129 (Nat.le_refl _) (Nat.le_refl _) (by have e9 : w = tP T := (by omega); unfold isLongest; rw [if_pos h2f]; rw [if_pos (show nI 0 = (0 : Int32) from rfl)]; refine ⟨rfl, KK, ?_⟩; rw [ci, cj]; refine ⟨hKe, ?_⟩; have hbe : bestE endsM w = bestE (muWhen T i j KK) (tP T) := (by rw [e9]; exact bestE_congr hends); first | (rw [← hbe, c114]; rw [bestB_eq c114 (by omega)]; rfl) | (rw [← hbe, hb9o]; exact hends b9 (by have := (bestE_lt hb9o).1; omega))) (fun _ h => h)
              · skip
                refine g_aload_n 0 dX10_longest_63 rfl rfl ?_
                refine m_get_endsBehind dX10_longest_64 ?_
                refine g_iload dX10_longest_67 rfl ?_
                refine m_ld_endsBehind dX10_longest_69 (by omega) ?_
                refine g_iconst (v := -1) dX10_longest_70 (by decide +kernel) ?_
                refine g_icmp_eq (tgt := 101) dX10_longest_71 (by decide) (fun c71 => ?_) (fun c71 => ?_)
                · skip
                  refine g_iinc_n (b := 1) (L' := [(0, _), (1, _), (2, _), (3, _), (4, _), (5, _)]) dX10_longest_101 rfl rfl (by decide) rfl rfl ?_
                  refine g_goto (tgt := 54) dX10_longest_104 (by decide) ?_
                  first
                    | (rw [← bestE_skip c71]; exact ih54 (w + 1) (by omega) (by omega))
                    | (rw [← bestE_keep c71 hb9o (i32_nlt c94)]; exact ih54 (w + 1) (by omega) (by omega))
                    | (rw [show nI w = bestB (bestE endsM (w + 1)) by rw [bestE_up c71 hb9o (i32_lt c94)]; rfl]; exact ih54 (w + 1) (by omega) (by omega))
                    | (rw [show nI w = bestB (bestE endsM (w + 1)) by rw [bestE_new c71 (bestB_eq c77 (by omega))]; rfl]; exact ih54 (w + 1) (by omega) (by omega))
                · skip
                  refine g_iload dX10_longest_74 rfl ?_
                  refine g_iconst (v := -1) dX10_longest_76 (by decide +kernel) ?_
                  refine g_icmp_eq (tgt := 97) dX10_longest_77 (by decide) (fun c77 => ?_) (fun c77 => ?_)
                  · skip
                    refine g_iload dX10_longest_97 rfl ?_
                    refine g_istore (L' := [(0, _), (1, _), (2, _), (3, _), (4, _), (5, _)]) dX10_longest_99 (by decide) rfl rfl ?_
                    refine g_iinc_n (b := 1) (L' := [(0, _), (1, _), (2, _), (3, _), (4, _), (5, _)]) dX10_longest_101 rfl rfl (by decide) rfl rfl ?_
                    refine g_goto (tgt := 54) dX10_longest_104 (by decide) ?_
                    first
                      | (rw [← bestE_skip c71]; exact ih54 (w + 1) (by omega) (by omega))
                      | (rw [← bestE_keep c71 hb9o (i32_nlt c94)]; exact ih54 (w + 1) (by omega) (by omega))
                      | (rw [show nI w = bestB (bestE endsM (w + 1)) by rw [bestE_up c71 hb9o (i32_lt c94)]; rfl]; exact ih54 (w + 1) (by omega) (by omega))
                      | (rw [show nI w = bestB (bestE endsM (w + 1)) by rw [bestE_new c71 (bestB_eq c77 (by omega))]; rfl]; exact ih54 (w + 1) (by omega) (by omega))
                  · skip
                    obtain ⟨b9, hb9o, hb9⟩ := bestB_ne c77
                    refine g_aload_n 0 dX10_longest_80 rfl rfl ?_
                    refine m_get_endsBehind dX10_longest_81 ?_
                    refine g_iload dX10_longest_84 rfl ?_
                    refine m_ld_endsBehind dX10_longest_86 (by omega) ?_
                    refine g_aload_n 0 dX10_longest_87 rfl rfl ?_
                    refine m_get_endsBehind dX10_longest_88 ?_
                    refine g_iload dX10_longest_91 rfl ?_
                    refine GG.topi (y := nI b9) hb9 ?_
                    refine m_ld_endsBehind dX10_longest_93 (by have := (bestE_lt hb9o).1; omega) ?_
                    refine g_icmp_le (tgt := 101) dX10_longest_94 (by decide) (fun c94 => ?_) (fun c94 => ?_)
                    · skip
                      refine g_iinc_n (b := 1) (L' := [(0, _), (1, _), (2, _), (3, _), (4, _), (5, _)]) dX10_longest_101 rfl rfl (by decide) rfl rfl ?_
                      refine g_goto (tgt := 54) dX10_longest_104 (by decide) ?_
                      first
                        | (rw [← bestE_skip c71]; exact ih54 (w + 1) (by omega) (by omega))
                        | (rw [← bestE_keep c71 hb9o (i32_nlt c94)]; exact ih54 (w + 1) (by omega) (by omega))
                        | (rw [show nI w = bestB (bestE endsM (w + 1)) by rw [bestE_up c71 hb9o (i32_lt c94)]; rfl]; exact ih54 (w + 1) (by omega) (by omega))
                        | (rw [show nI w = bestB (bestE endsM (w + 1)) by rw [bestE_new c71 (bestB_eq c77 (by omega))]; rfl]; exact ih54 (w + 1) (by omega) (by omega))
                    · skip
                      refine g_iload dX10_longest_97 rfl ?_
                      refine g_istore (L' := [(0, _), (1, _), (2, _), (3, _), (4, _), (5, _)]) dX10_longest_99 (by decide) rfl rfl ?_
                      refine g_iinc_n (b := 1) (L' := [(0, _), (1, _), (2, _), (3, _), (4, _), (5, _)]) dX10_longest_101 rfl rfl (by decide) rfl rfl ?_
                      refine g_goto (tgt := 54) dX10_longest_104 (by decide) ?_
                      first
                        | (rw [← bestE_skip c71]; exact ih54 (w + 1) (by omega) (by omega))
                        | (rw [← bestE_keep c71 hb9o (i32_nlt c94)]; exact ih54 (w + 1) (by omega) (by omega))
                        | (rw [show nI w = bestB (bestE endsM (w + 1)) by rw [bestE_up c71 hb9o (i32_lt c94)]; rfl]; exact ih54 (w + 1) (by omega) (by omega))
                        | (rw [show nI w = bestB (bestE endsM (w + 1)) by rw [bestE_new c71 (bestB_eq c77 (by omega))]; rfl]; exact ih54 (w + 1) (by omega) (by omega))
          exact loop54 (pairsM + 1) 0 (by omega) (by omega)
        · skip
          subst e
          refine g_aload_n 0 dX10_longest_0 rfl rfl ?_
          refine g_aload_n 0 dX10_longest_1 rfl rfl ?_
          refine g_iload_n 1 dX10_longest_2 rfl rfl ?_
          refine g_iload_n 2 dX10_longest_3 rfl rfl ?_
          refine m_cVi (ct_twoFault T _ _ hK) hvX10_twoFault hyX10_twoFault rfl ⟨Nat.le_of_ble_eq_true rfl, Nat.le_of_ble_eq_true rfl⟩ ⟨Nat.zero_le _, Nat.zero_le _⟩ rfl (Nat.le_of_ble_eq_true rfl) dX10_longest_4 m_rec (fun r u9 hp => ?_)
          obtain rfl := hp
          refine GG.topi (y := nI 0) (congrArg nI h2f) ?_
          refine m_put_thrown dX10_longest_7 ?_
          refine g_aload_n 0 dX10_longest_10 rfl rfl ?_
          refine m_get_thrown dX10_longest_11 ?_
          refine g_if_ne_n (tgt := 32) dX10_longest_14 (by decide) (by decide) (fun h => absurd h (by decide)) (fun _ => ?_)
          refine g_iload_n 3 dX10_longest_17 rfl rfl ?_
          refine g_i2l_n dX10_longest_18 (by omega) ?_
          refine g_lconst (v := lN 0) dX10_longest_19 (by decide +kernel) ?_
          refine g_lconst (v := lN 1) dX10_longest_20 (by decide +kernel) ?_
          refine m_cSi (ct_within _ _ _) hsX10_within hyX10_within rfl ⟨Nat.le_of_ble_eq_true rfl, Nat.le_of_ble_eq_true rfl⟩ ⟨Nat.zero_le _, Nat.zero_le _⟩ rfl (Nat.le_of_ble_eq_true rfl) dX10_longest_21 (fun r u9 hp => ?_)
          obtain rfl := hp
          refine GG.topi (y := nI 1) (by decide +kernel) ?_
          refine g_if_ne_n (tgt := 32) dX10_longest_24 (by decide) (by decide) (fun _ => ?_) (fun h => absurd h (by decide))
          refine g_aload_n 0 dX10_longest_32 rfl rfl ?_
          refine m_get_thrown dX10_longest_33 ?_
          refine g_if_le_n (tgt := 41) dX10_longest_36 (by decide) (by decide) (fun _ => ?_) (fun h => absurd h (by decide))
          refine g_aload_n 0 dX10_longest_41 rfl rfl ?_
          refine g_iload_n 1 dX10_longest_42 rfl rfl ?_
          refine g_iload_n 2 dX10_longest_43 rfl rfl ?_
          refine m_cVi (ct_mutes T i j hK hi hj) hvX10_mutes hyX10_mutes rfl ⟨Nat.le_of_ble_eq_true rfl, Nat.le_of_ble_eq_true rfl⟩ ⟨Nat.zero_le _, Nat.zero_le _⟩ rfl (Nat.le_of_ble_eq_true rfl) dX10_longest_44 m_rec (fun r um hum => ?_)
          obtain ⟨heapsM, rowsM, xsM, ysM, pairsM, endsM⟩ := um
          dsimp only
          obtain ⟨hlM, KK, hKe, hK20, hv, hends⟩ := hum
          subst hv
          have hl : layd xsM ysM pairsM (tW T) := hlM
          have hends : ∀ w, w < tP T → endsM w = muWhen T i j KK w := hends
          have hW := layd_OK hl o1 o3
          have hP : pairsM ≤ 1830 := hW.1
          have hPT : pairsM = tP T := hl.1
          refine g_pop dX10_longest_47 rfl ?_
          refine g_iconst (v := -1) dX10_longest_48 (by decide +kernel) ?_
          refine g_istore (L' := [(0, _), (1, _), (2, _), (3, _), (4, _)]) dX10_longest_49 (by decide) rfl rfl ?_
          refine g_iconst (v := nI 0) dX10_longest_51 (by decide +kernel) ?_
          refine g_istore (L' := [(0, _), (1, _), (2, _), (3, _), (4, _), (5, _)]) dX10_longest_52 (by decide) rfl rfl ?_
          have loop54 : ∀ (q54 : Nat) (w : Nat), pairsM - w < q54 → (w ≤ pairsM) → GG l D cl tys cX10_longest 6 (some .int) RX10 ({ frames := 6, cells := 0, slots := 0, locals := 148 } : Room) (AM ma) MT (QM (Qi (fun (v : Int32) (u : (Nat × (Nat → Nat) × (Nat → Nat) × Nat × (Nat → Int64) × Nat × (Nat → Nat)) × (Nat → Int32)) => isLongest T (nI i) (nI j) (nI 1) u.1.1 v) (fun (u : (Nat × (Nat → Nat) × (Nat → Nat) × Nat × (Nat → Int64) × Nat × (Nat → Nat)) × (Nat → Int32)) => HM D cl tys mi cI cJ cZ ma known fresh_ saved images isImage u.1.1 tape taped size_ at_ begin_ token value open_ bad badPlace faultKind faultPlace u.1.2.1 u.1.2.2.1 u.1.2.2.2.1 u.1.2.2.2.2.1 u.1.2.2.2.2.2.1 u.1.2.2.2.2.2.2 u.2 path order firstOrder ordersMany tSort tMany numbers) (AM ma)) 0 0 (AM ma)) (HM D cl tys mi cI cJ cZ ma known fresh_ saved images isImage 0 tape taped size_ at_ begin_ token value open_ bad badPlace faultKind faultPlace xsM ysM pairsM rowsM top heapsM endsM path order firstOrder ordersMany tSort tMany numbers) 0 0 54 [(0, .ref (ma 0)), (1, .int (nI i)), (2, .int (nI j)), (3, .int (nI 1)), (4, .int (bestB (bestE endsM w))), (5, .int (nI w))] [] := by
            intro q54
            induction q54 with
            | zero => intro w hq54; exact absurd hq54 (Nat.not_lt_zero _)
            | succ q54 ih54 =>
              intro w hq54 hw
              refine g_iload dX10_longest_54 rfl ?_
              refine g_aload_n 0 dX10_longest_56 rfl rfl ?_
              refine m_get_pairs dX10_longest_57 ?_
              refine g_icmp_ge_n (tgt := 107) dX10_longest_60 (by decide) (by omega) (by omega) (fun c60 => ?_) (fun c60 => ?_)
              · skip
                refine g_iload_n 3 dX10_longest_107 rfl rfl ?_
                refine g_if_ne_n (tgt := 127) dX10_longest_108 (by decide) (by decide) (fun _ => ?_) (fun h => absurd h (by decide))
                refine g_iload dX10_longest_127 rfl ?_
                exact g_iret ((_, _, _, _, _, _, _), _) dX10_longest_129 (Nat.le_refl _) (Nat.le_refl _) (by have e9 : w = tP T := (by omega); unfold isLongest; rw [if_pos h2f]; rw [if_neg nI_1ne0, if_pos (show nI 1 = (1 : Int32) from rfl)]; refine ⟨rfl, KK, ?_⟩; rw [ci, cj]; refine ⟨hKe, ?_⟩; have hbe : bestE endsM w = bestE (muWhen T i j KK) (tP T) := (by rw [e9]; exact bestE_congr hends); rw [hbe]) (fun _ h => h)
              · skip
                refine g_aload_n 0 dX10_longest_63 rfl rfl ?_
                refine m_get_endsBehind dX10_longest_64 ?_
                refine g_iload dX10_longest_67 rfl ?_
                refine m_ld_endsBehind dX10_longest_69 (by omega) ?_
                refine g_iconst (v := -1) dX10_longest_70 (by decide +kernel) ?_
                refine g_icmp_eq (tgt := 101) dX10_longest_71 (by decide) (fun c71 => ?_) (fun c71 => ?_)
                · skip
                  refine g_iinc_n (b := 1) (L' := [(0, _), (1, _), (2, _), (3, _), (4, _), (5, _)]) dX10_longest_101 rfl rfl (by decide) rfl rfl ?_
                  refine g_goto (tgt := 54) dX10_longest_104 (by decide) ?_
                  first
                    | (rw [← bestE_skip c71]; exact ih54 (w + 1) (by omega) (by omega))
                    | (rw [← bestE_keep c71 hb9o (i32_nlt c94)]; exact ih54 (w + 1) (by omega) (by omega))
                    | (rw [show nI w = bestB (bestE endsM (w + 1)) by rw [bestE_up c71 hb9o (i32_lt c94)]; rfl]; exact ih54 (w + 1) (by omega) (by omega))
                    | (rw [show nI w = bestB (bestE endsM (w + 1)) by rw [bestE_new c71 (bestB_eq c77 (by omega))]; rfl]; exact ih54 (w + 1) (by omega) (by omega))
                · skip
                  refine g_iload dX10_longest_74 rfl ?_
                  refine g_iconst (v := -1) dX10_longest_76 (by decide +kernel) ?_
                  refine g_icmp_eq (tgt := 97) dX10_longest_77 (by decide) (fun c77 => ?_) (fun c77 => ?_)
                  · skip
                    refine g_iload dX10_longest_97 rfl ?_
                    refine g_istore (L' := [(0, _), (1, _), (2, _), (3, _), (4, _), (5, _)]) dX10_longest_99 (by decide) rfl rfl ?_
                    refine g_iinc_n (b := 1) (L' := [(0, _), (1, _), (2, _), (3, _), (4, _), (5, _)]) dX10_longest_101 rfl rfl (by decide) rfl rfl ?_
                    refine g_goto (tgt := 54) dX10_longest_104 (by decide) ?_
                    first
                      | (rw [← bestE_skip c71]; exact ih54 (w + 1) (by omega) (by omega))
                      | (rw [← bestE_keep c71 hb9o (i32_nlt c94)]; exact ih54 (w + 1) (by omega) (by omega))
                      | (rw [show nI w = bestB (bestE endsM (w + 1)) by rw [bestE_up c71 hb9o (i32_lt c94)]; rfl]; exact ih54 (w + 1) (by omega) (by omega))
                      | (rw [show nI w = bestB (bestE endsM (w + 1)) by rw [bestE_new c71 (bestB_eq c77 (by omega))]; rfl]; exact ih54 (w + 1) (by omega) (by omega))
                  · skip
                    obtain ⟨b9, hb9o, hb9⟩ := bestB_ne c77
                    refine g_aload_n 0 dX10_longest_80 rfl rfl ?_
                    refine m_get_endsBehind dX10_longest_81 ?_
                    refine g_iload dX10_longest_84 rfl ?_
                    refine m_ld_endsBehind dX10_longest_86 (by omega) ?_
                    refine g_aload_n 0 dX10_longest_87 rfl rfl ?_
                    refine m_get_endsBehind dX10_longest_88 ?_
                    refine g_iload dX10_longest_91 rfl ?_
                    refine GG.topi (y := nI b9) hb9 ?_
                    refine m_ld_endsBehind dX10_longest_93 (by have := (bestE_lt hb9o).1; omega) ?_
                    refine g_icmp_le (tgt := 101) dX10_longest_94 (by decide) (fun c94 => ?_) (fun c94 => ?_)
                    · skip
                      refine g_iinc_n (b := 1) (L' := [(0, _), (1, _), (2, _), (3, _), (4, _), (5, _)]) dX10_longest_101 rfl rfl (by decide) rfl rfl ?_
                      refine g_goto (tgt := 54) dX10_longest_104 (by decide) ?_
                      first
                        | (rw [← bestE_skip c71]; exact ih54 (w + 1) (by omega) (by omega))
                        | (rw [← bestE_keep c71 hb9o (i32_nlt c94)]; exact ih54 (w + 1) (by omega) (by omega))
                        | (rw [show nI w = bestB (bestE endsM (w + 1)) by rw [bestE_up c71 hb9o (i32_lt c94)]; rfl]; exact ih54 (w + 1) (by omega) (by omega))
                        | (rw [show nI w = bestB (bestE endsM (w + 1)) by rw [bestE_new c71 (bestB_eq c77 (by omega))]; rfl]; exact ih54 (w + 1) (by omega) (by omega))
                    · skip
                      refine g_iload dX10_longest_97 rfl ?_
                      refine g_istore (L' := [(0, _), (1, _), (2, _), (3, _), (4, _), (5, _)]) dX10_longest_99 (by decide) rfl rfl ?_
                      refine g_iinc_n (b := 1) (L' := [(0, _), (1, _), (2, _), (3, _), (4, _), (5, _)]) dX10_longest_101 rfl rfl (by decide) rfl rfl ?_
                      refine g_goto (tgt := 54) dX10_longest_104 (by decide) ?_
                      first
                        | (rw [← bestE_skip c71]; exact ih54 (w + 1) (by omega) (by omega))
                        | (rw [← bestE_keep c71 hb9o (i32_nlt c94)]; exact ih54 (w + 1) (by omega) (by omega))
                        | (rw [show nI w = bestB (bestE endsM (w + 1)) by rw [bestE_up c71 hb9o (i32_lt c94)]; rfl]; exact ih54 (w + 1) (by omega) (by omega))
                        | (rw [show nI w = bestB (bestE endsM (w + 1)) by rw [bestE_new c71 (bestB_eq c77 (by omega))]; rfl]; exact ih54 (w + 1) (by omega) (by omega))
          exact loop54 (pairsM + 1) 0 (by omega) (by omega)
        · skip
          refine g_aload_n 0 dX10_longest_0 rfl rfl ?_
          refine g_aload_n 0 dX10_longest_1 rfl rfl ?_
          refine g_iload_n 1 dX10_longest_2 rfl rfl ?_
          refine g_iload_n 2 dX10_longest_3 rfl rfl ?_
          refine m_cVi (ct_twoFault T _ _ hK) hvX10_twoFault hyX10_twoFault rfl ⟨Nat.le_of_ble_eq_true rfl, Nat.le_of_ble_eq_true rfl⟩ ⟨Nat.zero_le _, Nat.zero_le _⟩ rfl (Nat.le_of_ble_eq_true rfl) dX10_longest_4 m_rec (fun r u9 hp => ?_)
          obtain rfl := hp
          refine GG.topi (y := nI 0) (congrArg nI h2f) ?_
          refine m_put_thrown dX10_longest_7 ?_
          refine g_aload_n 0 dX10_longest_10 rfl rfl ?_
          refine m_get_thrown dX10_longest_11 ?_
          refine g_if_ne_n (tgt := 32) dX10_longest_14 (by decide) (by decide) (fun h => absurd h (by decide)) (fun _ => ?_)
          refine g_iload_n 3 dX10_longest_17 rfl rfl ?_
          refine g_i2l dX10_longest_18 rfl ?_
          refine g_lconst (v := lN 0) dX10_longest_19 (by decide +kernel) ?_
          refine g_lconst (v := lN 1) dX10_longest_20 (by decide +kernel) ?_
          refine m_cSi (ct_within _ _ _) hsX10_within hyX10_within rfl ⟨Nat.le_of_ble_eq_true rfl, Nat.le_of_ble_eq_true rfl⟩ ⟨Nat.zero_le _, Nat.zero_le _⟩ rfl (Nat.le_of_ble_eq_true rfl) dX10_longest_21 (fun r u9 hp => ?_)
          obtain rfl := hp
          refine GG.topi (y := nI 0) (by rw [wIn_0 wh (by decide) e2]; rfl) ?_
          refine g_if_ne_n (tgt := 32) dX10_longest_24 (by decide) (by decide) (fun h => absurd h (by decide)) (fun _ => ?_)
          refine g_aload_n 0 dX10_longest_27 rfl rfl ?_
          refine g_iconst (v := nI 2) dX10_longest_28 (by decide +kernel) ?_
          refine m_put_thrown dX10_longest_29 ?_
          refine g_aload_n 0 dX10_longest_32 rfl rfl ?_
          refine m_get_thrown dX10_longest_33 ?_
          refine g_if_le_n (tgt := 41) dX10_longest_36 (by decide) (by decide) (fun h => absurd h (by decide)) (fun _ => ?_)
          refine g_iconst (v := nI 0) dX10_longest_39 (by decide +kernel) ?_
          exact g_iret ((_, _, _, _, _, _, _), _) dX10_longest_40 (Nat.le_refl _) (Nat.le_refl _) (by unfold isLongest; rw [if_pos h2f, if_neg e0, if_neg e1]) (fun _ h => h)
end
