/-! SPEC: a talk (lines, low, high, most, unlike, speakers, their sights, liars, deaf ones, turns, who says them, what is said), what is left, the answers -/
set_option maxRecDepth 100000
abbrev Talk : Type := Nat × Nat × Nat × Nat × Nat × Nat × (Nat → Nat) × (Nat → Bool) × (Nat → Bool) × Nat × (Nat → Nat) × (Nat → Sem)
def tLines (T : Talk) : Nat := T.1
def tLow (T : Talk) : Nat := T.2.1
def tHigh (T : Talk) : Nat := T.2.2.1
def tMost (T : Talk) : Nat := T.2.2.2.1
def tUn (T : Talk) : Nat := T.2.2.2.2.1
def tNS (T : Talk) : Nat := T.2.2.2.2.2.1
def tKind (T : Talk) : Nat → Nat := T.2.2.2.2.2.2.1
def tLiar (T : Talk) : Nat → Bool := T.2.2.2.2.2.2.2.1
def tDeaf (T : Talk) : Nat → Bool := T.2.2.2.2.2.2.2.2.1
def tNT (T : Talk) : Nat := T.2.2.2.2.2.2.2.2.2.1
def tWho (T : Talk) : Nat → Nat := T.2.2.2.2.2.2.2.2.2.2.1
def tSem (T : Talk) : Nat → Sem := T.2.2.2.2.2.2.2.2.2.2.2
def tW (T : Talk) : List (Nat × Nat) := wList (tLow T) (tHigh T) (tMost T) (tUn T)
def tP (T : Talk) : Nat := (tW T).length
def tX (T : Talk) : Nat → Nat := wX (tW T)
def tY (T : Talk) : Nat → Nat := wY (tW T)
def tSl (T : Talk) (s : Nat) : Nat → Nat := slW (tKind T s) (tX T) (tY T)
def tE (T : Talk) (LF : Nat → Nat → Bool) : SE := (tP T, tX T, tY T, tKind T, tDeaf T, LF)
/-- behind how many turns one hears -/
def tHear (T : Talk) (s t : Nat) : Nat := if tDeaf T s = true then 0 else t
theorem tHear_le (T : Talk) (s t : Nat) : tHear T s t ≤ t := by unfold tHear; split <;> omega
def mayT (T : Talk) (LF : Nat → Nat → Bool) (t w : Nat) : Bool :=
  let b := seeF (tP T) (tSl T (tWho T t)) (LF (tHear T (tWho T t) t)) (tSem T t (rstE (tE T LF) (tHear T (tWho T t) t)) (tHear T (tWho T t) t)) w
  if tLiar T (tWho T t) = true then !b else b
def lefts (T : Talk) : Nat → Nat → Nat → Bool
  | 0 => fun _ _ => true
  | t + 1 => fun t' w => if t' ≤ t then lefts T t t' w else (lefts T t t w && mayT T (lefts T t) t w)
def leftT (T : Talk) (t w : Nat) : Bool := lefts T t t w
theorem lefts_le {T : Talk} {t' w : Nat} : ∀ {t : Nat}, t' ≤ t → lefts T t t' w = leftT T t' w
  | 0, h => by rw [show t' = 0 by omega]; rfl
  | t + 1, h => by
    by_cases h2 : t' ≤ t
    · show (if t' ≤ t then _ else _) = _
      rw [if_pos h2]; exact lefts_le h2
    · rw [show t' = t + 1 by omega]; rfl
def mayL (T : Talk) (t w : Nat) : Bool := mayT T (leftT T) t w
theorem rst_lefts (T : Talk) {t t2 : Nat} (h : t2 ≤ t) : rstE (tE T (lefts T t)) t2 = rstE (tE T (leftT T)) t2 := by
  unfold rstE tE
  congr 5
  funext t' w
  show (decide (t' ≤ t2) && lefts T t t' w) = (decide (t' ≤ t2) && leftT T t' w)
  by_cases h2 : t' ≤ t2
  · rw [lefts_le (by omega)]
  · rw [decide_eq_false h2]; rfl
theorem mayT_lefts (T : Talk) (t w : Nat) : mayT T (lefts T t) t w = mayL T t w := by
  unfold mayL mayT
  rw [rst_lefts T (tHear_le T (tWho T t) t), show lefts T t (tHear T (tWho T t) t) = leftT T (tHear T (tWho T t) t) from funext fun w => lefts_le (tHear_le _ _ _)]
theorem leftT_0 (T : Talk) (w : Nat) : leftT T 0 w = true := rfl
theorem leftT_succ (T : Talk) (t w : Nat) : leftT T (t + 1) w = (leftT T t w && mayL T t w) := by
  show (if t + 1 ≤ t then _ else _) = _
  rw [if_neg (by omega), mayT_lefts]; rfl
def leftN (T : Talk) (t : Nat) : Nat := cnt (leftT T t) (tP T)
theorem leftN_le (T : Talk) (t : Nat) : leftN T t ≤ tP T := cnt_le _ _
def TOK (T : Talk) : Prop := 1 ≤ tLow T ∧ tLow T ≤ 60 ∧ tHigh T ≤ 60 ∧ tMost T ≤ 120 ∧ tUn T ≤ 1 ∧ tNS T ≤ 6 ∧ tNT T ≤ 20 ∧ (∀ s, s < tNS T → tKind T s ≤ 8) ∧ (∀ t, t < tNT T → tWho T t < tNS T) ∧ tLines T ≤ 1000
/-- the model knows the talk T -/
def KIs (known : Nat → Int32) (T : Talk) : Prop := TOK T ∧ known 0 = nI (tLines T) ∧ known 1 = nI (tLow T) ∧ known 2 = nI (tHigh T) ∧ known 3 = nI (tMost T) ∧ known 4 = nI (tUn T) ∧ known 5 = nI (tNS T) ∧ known 6 = nI (tNT T) ∧
  (∀ s, s < tNS T → known (8 + 3 * s + 0) = nI (tKind T s) ∧ known (8 + 3 * s + 1) = bI (tLiar T s) ∧ known (8 + 3 * s + 2) = bI (tDeaf T s)) ∧
  ∀ t, t < tNT T → known (26 + 2 * t) = nI (tWho T t) ∧ ∃ m : Nat, known (26 + 2 * t + 1) = nI m ∧ SayM (tNS T) 40 (tSem T t) m known
/-- what is left stands in the rows, behind up to n turns -/
def rowsL (rows : Nat → Int64) (T : Talk) (n : Nat) : Prop := ∀ t w, t ≤ n → w < tP T → rbt rows t w = leftT T t w
theorem layd_P {xs ys : Nat → Nat} {P : Nat} {T : Talk} (h : layd xs ys P (tW T)) : P = tP T := h.1
theorem EnvM.of {known : Nat → Int32} {xs ys : Nat → Nat} {pairs : Nat} {rows : Nat → Int64} {T : Talk} {t : Nat} (hK : KIs known T) (hl : layd xs ys pairs (tW T)) (ht : t ≤ 20) (hr : ∀ t' w, t' ≤ t → w < pairs → rbt rows t' w = leftT T t' w) : EnvM known xs ys pairs rows (tNS T) (rstE (tE T (leftT T)) t) t := by
  obtain ⟨⟨o1, o2, o3, o4, o5, o6, o7, o8, o9, o10⟩, k0, k1, k2, k3, k4, k5, k6, k7, k8⟩ := hK
  refine ⟨layd_OK hl o1 o3, hl.1.symm, fun w hw => ⟨(layd_XY hl hw).1.symm, (layd_XY hl hw).2.symm⟩, o6, fun s hs => ⟨(k7 s hs).1, Nat.lt_of_le_of_lt (o8 s hs) (by decide), (k7 s hs).2.2⟩, ht, fun t' w a b => ?_⟩
  show rbt rows t' w = (decide (t' ≤ t) && leftT T t' w)
  rw [hr t' w a b, decide_eq_true a]; rfl
/-- the answers (what is thrown, the answer) -/
def aWorld (T : Talk) (w wh : Int32) : Nat × Int32 := match iR w (tP T) with
  | none => (1, 0)
  | some j => if wh = 0 then (0, nI (tX T j)) else if wh = 1 then (0, nI (tY T j)) else (2, 0)
def aTold (T : Talk) (s w : Int32) : Nat × Int32 := match iR s (tNS T), iR w (tP T) with
  | some i, some j => (0, nI (tSl T i j))
  | _, _ => (1, 0)
def aSpeaker (T : Talk) (s wh : Int32) : Nat × Int32 := match iR s (tNS T) with
  | none => (1, 0)
  | some i => if wh = 0 then (0, nI (tKind T i)) else if wh = 1 then (0, bI (tLiar T i)) else if wh = 2 then (0, bI (tDeaf T i)) else if wh = 3 then (0, nI (cnt (fun t => decide (tWho T t = i)) (tNT T))) else (2, 0)
def aTurn (T : Talk) (t : Int32) : Nat × Int32 := match iR t (tNT T) with
  | none => (1, 0)
  | some j => (0, nI (tWho T j))
def aLeft (T : Talk) (t : Int32) : Nat × Int32 := match iR t (tNT T + 1) with
  | none => (1, 0)
  | some j => (0, nI (leftN T j))
def aIsLeft (T : Talk) (t w : Int32) : Nat × Int32 := match iR w (tP T) with
  | none => (1, 0)
  | some j => match iR t (tNT T + 1) with
    | none => (2, 0)
    | some i => (0, bI (leftT T i j))
def aSo (T : Talk) (t w : Int32) : Nat × Int32 := match iR t (tNT T), iR w (tP T) with
  | some i, some j => (0, bI (tSem T i (rstE (tE T (leftT T)) i) i j))
  | _, _ => (1, 0)
def aMay (T : Talk) (t w : Int32) : Nat × Int32 := match iR t (tNT T), iR w (tP T) with
  | some i, some j => (0, bI (mayL T i j))
  | _, _ => (1, 0)
def knowT (T : Talk) (i k j : Nat) : Bool := knowF (tP T) (tSl T i) (leftT T (tHear T i k)) j
def aKnows (T : Talk) (s w t : Int32) : Nat × Int32 := match iR s (tNS T), iR w (tP T) with
  | some i, some j => match iR t (tNT T + 1) with
    | none => (2, 0)
    | some k => (0, bI (knowT T i k j))
  | _, _ => (1, 0)
def aKnowing (T : Talk) (s t : Int32) : Nat × Int32 := match iR s (tNS T) with
  | none => (1, 0)
  | some i => match iR t (tNT T + 1) with
    | none => (2, 0)
    | some k => (0, nI (cnt (fun w => leftT T k w && knowT T i k w) (tP T)))
def aHeap (T : Talk) (s w t : Int32) : Nat × Int32 := match iR s (tNS T), iR w (tP T) with
  | some i, some j => match iR t (tNT T + 1) with
    | none => (2, 0)
    | some k => (0, nI (likeN (tP T) (tSl T i) (leftT T (tHear T i k)) j))
  | _, _ => (1, 0)
/-- the first of the greatest: its place and its size -/
def bestF (d : Nat → Nat) : Nat → Option (Nat × Nat)
  | 0 => none
  | n + 1 => match bestF d n with
    | none => some (n, d n)
    | some (b, m) => if d n ≤ m then some (b, m) else some (n, d n)
def aStrikes (T : Talk) (wh : Int32) : Nat × Int32 :=
  if wh = 0 then (0, match bestF (fun t => leftN T t - leftN T (t + 1)) (tNT T) with | none => 0 | some (_, m) => nI m)
  else if wh = 1 then (0, match bestF (fun t => leftN T t - leftN T (t + 1)) (tNT T) with | none => -1 | some (b, _) => nI b)
  else (1, 0)
/-- the only one left, if just one is -/
def isOnly (T : Talk) (v : Int32) : Prop := if leftN T (tNT T) = 1 then isFst (leftT T (tNT T)) (tP T) v else v = -1
theorem isFst_congr {f g : Nat → Bool} {n : Nat} {v : Int32} (h : ∀ w, w < n → f w = g w) (hf : isFst f n v) : isFst g n v := by
  rcases hf with ⟨w, h1, h2, h3, h4⟩ | ⟨h1, h2⟩
  · exact Or.inl ⟨w, h1, by rw [← h w h1]; exact h2, fun u hu => by rw [← h u (by omega)]; exact h3 u hu, h4⟩
  · exact Or.inr ⟨fun w hw => by rw [← h w hw]; exact h1 w hw, h2⟩
theorem isFst_uniq {f : Nat → Bool} {n : Nat} {v v2 : Int32} (h : isFst f n v) (h' : isFst f n v2) : v = v2 := by
  rcases h with ⟨w, a1, a2, a3, a4⟩ | ⟨a1, a2⟩ <;> rcases h' with ⟨w', b1, b2, b3, b4⟩ | ⟨b1, b2⟩
  · rcases Nat.lt_trichotomy w w' with q | q | q
    · rw [b3 w q] at a2; cases a2
    · rw [a4, b4, q]
    · rw [a3 w' q] at b2; cases b2
  · rw [b1 w a1] at a2; cases a2
  · rw [a1 w' b1] at b2; cases b2
  · rw [a2, b2]
theorem leftN_mono (T : Talk) (t : Nat) : leftN T (t + 1) ≤ leftN T t := by
  unfold leftN
  generalize tP T = P
  induction P with
  | zero => exact Nat.le_refl _
  | succ n ih =>
    unfold cnt
    rw [leftT_succ]
    cases leftT T t n <;> simp <;> (try split) <;> omega
/-! THE MODEL, 5: mays, lays, what is left -/
set_option maxRecDepth 100000
section
variable {l : Launch} {D : va_G} {cl : List vw_C} {tys : List (ClassId × FieldType)} {mi : Nat} {cI cJ cZ : ClassId} {ma : Nat → Nat} {known fresh_ saved images : Nat → Int32} {isImage : Nat → Bool} {thrown : Nat} {tape : Nat → Nat} {taped size_ at_ begin_ token value open_ bad badPlace faultKind : Nat} {faultPlace : Int32} {xs ys : Nat → Nat} {pairs : Nat} {rows : Nat → Int64} {top : Nat} {heaps : Nat → Nat} {endsBehind : Nat → Int32} {path order firstOrder : Nat → Nat} {ordersMany : Nat} {tSort : Nat → Int32} {tMany : Nat → Nat} {numbers : Nat → Int64}
set_option maxHeartbeats 4000000 in
/-- where a turn may be said -/
theorem ct_mays (T : Talk) (t0 : Nat) (hK : KIs known T) (hl : layd xs ys pairs (tW T)) (ht0 : t0 < tNT T) (hr : ∀ t' w, t' ≤ t0 → w < pairs → rbt rows t' w = leftT T t' w) (ht1 : 21 ≤ top) (ht2 : top ≤ 45) : CT l D cl tys yX10_mays cX10_mays 6 (some .int) ({ frames := 85, cells := 0, slots := 0, locals := 2522 } : Room) [.ref (ma 0), .int (nI t0)] (HM D cl tys mi cI cJ cZ ma known fresh_ saved images isImage thrown tape taped size_ at_ begin_ token value open_ bad badPlace faultKind faultPlace xs ys pairs rows top heaps endsBehind path order firstOrder ordersMany tSort tMany numbers) (Qi (fun (v : Int32) (u : (Nat → Nat) × (Nat → Int64)) => v = nI top ∧ soDone rows u.2 top pairs (mayL T t0)) (fun (u : (Nat → Nat) × (Nat → Int64)) => HM D cl tys mi cI cJ cZ ma known fresh_ saved images isImage thrown tape taped size_ at_ begin_ token value open_ bad badPlace faultKind faultPlace xs ys pairs u.2 (top + 1) u.1 endsBehind path order firstOrder ordersMany tSort tMany numbers) (AM ma)) (AM ma) := by
  obtain ⟨⟨o1, o2, o3, o4, o5, o6, o7, o8, o9, o10⟩, k0, k1, k2, k3, k4, k5, k6, k7, k8⟩ := id hK
  have hW := layd_OK hl o1 o3
  have hP : pairs ≤ 1830 := hW.1
  have hPT : pairs = tP T := hl.1
  have hwS := o9 t0 ht0
  obtain ⟨hw0, m9, hm9, hsay⟩ := k8 t0 ht0
  refine CT.of (L := [(0, .ref (ma 0)), (1, .int (nI t0))]) rfl (by decide +kernel) rfl (Nat.le_of_ble_eq_true rfl) ?_
  refine g_aload_n 0 dX10_mays_0 rfl rfl ?_
  refine g_iload_n 1 dX10_mays_1 rfl rfl ?_
  refine m_cVi (ct_who _ (by omega)) hvX10_who hyX10_who rfl ⟨Nat.le_of_ble_eq_true rfl, Nat.le_of_ble_eq_true rfl⟩ ⟨Nat.zero_le _, Nat.zero_le _⟩ rfl (Nat.le_of_ble_eq_true rfl) dX10_mays_2 m_rec (fun r u hp => ?_)
  obtain rfl := hp
  refine GG.topi hw0 ?_
  refine g_istore_n (L' := [(0, _), (1, _), (2, _)]) 2 dX10_mays_5 rfl (by decide) rfl rfl ?_
  have join21 : ∀ (b9 : Nat), (b9 = tHear T (tWho T t0) t0) → GG l D cl tys cX10_mays 6 (some .int) RX10 ({ frames := 85, cells := 0, slots := 0, locals := 2522 } : Room) (AM ma) MT (QM (Qi (fun (v : Int32) (u : (Nat → Nat) × (Nat → Int64)) => v = nI top ∧ soDone rows u.2 top pairs (mayL T t0)) (fun (u : (Nat → Nat) × (Nat → Int64)) => HM D cl tys mi cI cJ cZ ma known fresh_ saved images isImage thrown tape taped size_ at_ begin_ token value open_ bad badPlace faultKind faultPlace xs ys pairs u.2 (top + 1) u.1 endsBehind path order firstOrder ordersMany tSort tMany numbers) (AM ma)) 0 0 (AM ma)) (HM D cl tys mi cI cJ cZ ma known fresh_ saved images isImage thrown tape taped size_ at_ begin_ token value open_ bad badPlace faultKind faultPlace xs ys pairs rows top heaps endsBehind path order firstOrder ordersMany tSort tMany numbers) 0 0 21 [(0, .ref (ma 0)), (1, .int (nI t0)), (2, .int (nI (tWho T t0)))] [.int (nI b9)] := by
    intro b9 hb9
    have hb9le : b9 ≤ t0 := by rw [hb9]; exact tHear_le _ _ _
    refine g_istore_n (L' := [(0, _), (1, _), (2, _), (3, _)]) 3 dX10_mays_21 rfl (by decide) rfl rfl ?_
    refine g_aload_n 0 dX10_mays_22 rfl rfl ?_
    refine g_aload_n 0 dX10_mays_23 rfl rfl ?_
    refine m_get_known dX10_mays_24 ?_
    refine g_bipush (v := nI 26) dX10_mays_27 (by decide +kernel) ?_
    refine g_iconst (v := nI 2) dX10_mays_29 (by decide +kernel) ?_
    refine g_iload_n 1 dX10_mays_30 rfl rfl ?_
    refine g_imul_n dX10_mays_31 ?_
    refine g_iadd_n dX10_mays_32 ?_
    refine g_iconst (v := nI 1) dX10_mays_33 (by decide +kernel) ?_
    refine g_iadd_n dX10_mays_34 ?_
    refine m_ld_known dX10_mays_35 (by omega) ?_
    refine GG.topi hm9 ?_
    refine g_iload_n 3 dX10_mays_36 rfl rfl ?_
    refine m_cVi (so_all (tNS T) 40 (tSem T t0) m9 b9 _ hsay (EnvM.of hK hl (by omega) (fun t' w a b => hr t' w (by omega) b)) (by omega) (by omega)) hvX10_soIn hyX10_soIn rfl ⟨Nat.le_of_ble_eq_true rfl, Nat.le_of_ble_eq_true rfl⟩ ⟨Nat.zero_le _, Nat.zero_le _⟩ rfl (Nat.le_of_ble_eq_true rfl) dX10_mays_37 m_rec (fun r us hus => ?_)
    obtain ⟨heapsS, rowsS⟩ := us
    obtain ⟨hr9, hdone⟩ := hus
    subst hr9
    have hdone : soDone rows rowsS top pairs _ := hdone
    refine g_istore (L' := [(0, _), (1, _), (2, _), (3, _), (4, _)]) dX10_mays_40 (by decide) rfl rfl ?_
    refine g_aload_n 0 dX10_mays_42 rfl rfl ?_
    refine g_iload_n 2 dX10_mays_43 rfl rfl ?_
    refine g_iload_n 3 dX10_mays_44 rfl rfl ?_
    refine g_iload dX10_mays_45 rfl ?_
    refine m_cVv (ct_laysSeeing (tWho T t0) _ _ (tKind T (tWho T t0)) (by omega) (k7 _ hwS).1 (by have := o8 _ hwS; omega) (by omega) (by omega) (by omega) hW) hvX10_laysSeeing hyX10_laysSeeing rfl ⟨Nat.le_of_ble_eq_true rfl, Nat.le_of_ble_eq_true rfl⟩ ⟨Nat.zero_le _, Nat.zero_le _⟩ rfl (Nat.le_of_ble_eq_true rfl) dX10_mays_47 m_rec (fun u3 hk3 => ?_)
    obtain ⟨heapsR, rowsR⟩ := u3
    have hk3 : rowsUp rowsS rowsR top pairs _ := hk3
    have hsee : ∀ v, v < pairs → rbt rowsR top v = seeF (tP T) (tSl T (tWho T t0)) (leftT T b9) (tSem T t0 (rstE (tE T (leftT T)) b9) b9) v := fun v hv => by
      rw [rowsUp_in hk3 hP hv, hPT]
      refine seeF_congr (by omega) (fun z hz => slW_congr (layd_XY hl (by omega))) (fun z hz => ?_) (fun z hz => hdone.1 z (by omega))
      rw [hdone.2 b9 z (by omega) (by omega)]; exact hr b9 z (by omega) (by omega)
    refine g_aload_n 0 dX10_mays_50 rfl rfl ?_
    refine g_iload_n 2 dX10_mays_51 rfl rfl ?_
    refine g_iconst (v := nI 1) dX10_mays_52 (by decide +kernel) ?_
    refine m_cVi (ct_of _ _ (by omega)) hvX10_of hyX10_of rfl ⟨Nat.le_of_ble_eq_true rfl, Nat.le_of_ble_eq_true rfl⟩ ⟨Nat.zero_le _, Nat.zero_le _⟩ rfl (Nat.le_of_ble_eq_true rfl) dX10_mays_53 m_rec (fun r u hp => ?_)
    obtain rfl := hp
    refine GG.topi (k7 _ hwS).2.1 ?_
    refine g_iconst (v := nI 1) dX10_mays_56 (by decide +kernel) ?_
    refine g_icmp_ne_b (b := true) (tgt := 102) dX10_mays_57 (by decide) (fun c57 => ?_) (fun c57 => ?_)
    · skip
      refine g_iload dX10_mays_102 rfl ?_
      exact g_iret (heapsR, rowsR) dX10_mays_104 (Nat.le_refl _) (Nat.le_refl _) (⟨rfl, fun v hv => by rw [hsee v hv, hb9]; unfold mayL mayT; rw [if_neg c57], fun r' w' a b => by rw [rowsUp_ne hk3 (by omega) b]; exact hdone.2 r' w' a b⟩) (fun _ h => h)
    · skip
      refine g_iconst (v := nI 0) dX10_mays_60 (by decide +kernel) ?_
      refine g_istore (L' := [(0, _), (1, _), (2, _), (3, _), (4, _), (5, _)]) dX10_mays_61 (by decide) rfl rfl ?_
      have loop63 : ∀ (q63 : Nat) (w : Nat) (rowsX : Nat → Int64), pairs - w < q63 → (w ≤ pairs) → (rowsUp rowsR rowsX top w (fun v => !rbt rowsR top v)) → GG l D cl tys cX10_mays 6 (some .int) RX10 ({ frames := 85, cells := 0, slots := 0, locals := 2522 } : Room) (AM ma) MT (QM (Qi (fun (v : Int32) (u : (Nat → Nat) × (Nat → Int64)) => v = nI top ∧ soDone rows u.2 top pairs (mayL T t0)) (fun (u : (Nat → Nat) × (Nat → Int64)) => HM D cl tys mi cI cJ cZ ma known fresh_ saved images isImage thrown tape taped size_ at_ begin_ token value open_ bad badPlace faultKind faultPlace xs ys pairs u.2 (top + 1) u.1 endsBehind path order firstOrder ordersMany tSort tMany numbers) (AM ma)) 0 0 (AM ma)) (HM D cl tys mi cI cJ cZ ma known fresh_ saved images isImage thrown tape taped size_ at_ begin_ token value open_ bad badPlace faultKind faultPlace xs ys pairs rowsX (top + 1) heapsR endsBehind path order firstOrder ordersMany tSort tMany numbers) 0 0 63 [(0, .ref (ma 0)), (1, .int (nI t0)), (2, .int (nI (tWho T t0))), (3, .int (nI b9)), (4, .int (nI top)), (5, .int (nI w))] [] := by
        intro q63
        induction q63 with
        | zero => intro w rowsX hq63; exact absurd hq63 (Nat.not_lt_zero _)
        | succ q63 ih63 =>
          intro w rowsX hq63 hw hi
          refine g_iload dX10_mays_63 rfl ?_
          refine g_aload_n 0 dX10_mays_65 rfl rfl ?_
          refine m_get_pairs dX10_mays_66 ?_
          refine g_icmp_ge_n (tgt := 102) dX10_mays_69 (by decide) (by omega) (by omega) (fun c69 => ?_) (fun c69 => ?_)
          · skip
            have e7 : w = pairs := by omega
            rw [e7] at hi
            refine g_iload dX10_mays_102 rfl ?_
            exact g_iret (heapsR, rowsX) dX10_mays_104 (Nat.le_refl _) (Nat.le_refl _) (⟨rfl, fun v hv => by rw [rowsUp_in hi hP hv, hsee v hv, hb9]; unfold mayL mayT; rw [if_pos c57], fun r' w' a b => by rw [rowsUp_ne hi (by omega) b, rowsUp_ne hk3 (by omega) b]; exact hdone.2 r' w' a b⟩) (fun _ h => h)
          · skip
            refine g_aload_n 0 dX10_mays_72 rfl rfl ?_
            refine g_iload dX10_mays_73 rfl ?_
            refine g_iload dX10_mays_75 rfl ?_
            refine g_aload_n 0 dX10_mays_77 rfl rfl ?_
            refine g_iload dX10_mays_78 rfl ?_
            refine g_iload dX10_mays_80 rfl ?_
            refine m_cVi (ct_has _ _ (by omega) (by omega)) hvX10_has hyX10_has rfl ⟨Nat.le_of_ble_eq_true rfl, Nat.le_of_ble_eq_true rfl⟩ ⟨Nat.zero_le _, Nat.zero_le _⟩ rfl (Nat.le_of_ble_eq_true rfl) dX10_mays_82 m_rec (fun r u hp => ?_)
            obtain rfl := hp
            refine g_if_ne_b (tgt := 92) dX10_mays_85 (by decide) (fun c85 => ?_) (fun c85 => ?_)
            · skip
              refine g_iconst (v := nI 0) dX10_mays_92 (by decide +kernel) ?_
              refine m_cVv (ct_puts _ _ false (by omega) (by omega)) hvX10_puts hyX10_puts rfl ⟨Nat.le_of_ble_eq_true rfl, Nat.le_of_ble_eq_true rfl⟩ ⟨Nat.zero_le _, Nat.zero_le _⟩ rfl (Nat.le_of_ble_eq_true rfl) dX10_mays_93 m_rec (fun rows2 hp => ?_)
              refine g_iinc_n (b := 1) (L' := [(0, _), (1, _), (2, _), (3, _), (4, _), (5, _)]) dX10_mays_96 rfl rfl (by decide) rfl rfl ?_
              refine g_goto (tgt := 63) dX10_mays_99 (by decide) ?_
              have h8 : rbt rowsX top w = rbt rowsR top w := by rw [hi top w (by omega), if_neg (fun q => Nat.lt_irrefl _ q.2)]
              rw [h8] at c85
              exact ih63 (w + 1) rows2 (by omega) (by omega) (rowsUp_step hi hp (by rw [c85]; rfl))
            · skip
              refine g_iconst (v := nI 1) dX10_mays_88 (by decide +kernel) ?_
              refine g_goto (tgt := 93) dX10_mays_89 (by decide) ?_
              refine m_cVv (ct_puts _ _ true (by omega) (by omega)) hvX10_puts hyX10_puts rfl ⟨Nat.le_of_ble_eq_true rfl, Nat.le_of_ble_eq_true rfl⟩ ⟨Nat.zero_le _, Nat.zero_le _⟩ rfl (Nat.le_of_ble_eq_true rfl) dX10_mays_93 m_rec (fun rows2 hp => ?_)
              refine g_iinc_n (b := 1) (L' := [(0, _), (1, _), (2, _), (3, _), (4, _), (5, _)]) dX10_mays_96 rfl rfl (by decide) rfl rfl ?_
              refine g_goto (tgt := 63) dX10_mays_99 (by decide) ?_
              have h8 : rbt rowsX top w = rbt rowsR top w := by rw [hi top w (by omega), if_neg (fun q => Nat.lt_irrefl _ q.2)]
              rw [h8] at c85
              exact ih63 (w + 1) rows2 (by omega) (by omega) (rowsUp_step hi hp (by rw [c85]; rfl))
      exact loop63 (pairs + 1) 0 rowsR (by omega) (by omega) rowsUp_0
  refine g_aload_n 0 dX10_mays_6 rfl rfl ?_
  refine g_iload_n 2 dX10_mays_7 rfl rfl ?_
  refine g_iconst (v := nI 2) dX10_mays_8 (by decide +kernel) ?_
  refine m_cVi (ct_of _ _ (by omega)) hvX10_of hyX10_of rfl ⟨Nat.le_of_ble_eq_true rfl, Nat.le_of_ble_eq_true rfl⟩ ⟨Nat.zero_le _, Nat.zero_le _⟩ rfl (Nat.le_of_ble_eq_true rfl) dX10_mays_9 m_rec (fun r u hp => ?_)
  obtain rfl := hp
  refine GG.topi (k7 _ hwS).2.2 ?_
  refine g_iconst (v := nI 1) dX10_mays_12 (by decide +kernel) ?_
  refine g_icmp_ne_b (b := true) (tgt := 20) dX10_mays_13 (by decide) (fun c13 => ?_) (fun c13 => ?_)
  · skip
    refine g_iload_n 1 dX10_mays_20 rfl rfl ?_
    exact join21 _ (by unfold tHear; first | (rw [if_pos c13]) | (rw [if_neg c13]))
  · skip
    refine g_iconst (v := nI 0) dX10_mays_16 (by decide +kernel) ?_
    refine g_goto (tgt := 21) dX10_mays_17 (by decide) ?_
    exact join21 _ (by unfold tHear; first | (rw [if_pos c13]) | (rw [if_neg c13]))
set_option maxHeartbeats 4000000 in
/-- lays what is left behind all turns -/
theorem ct_lays (T : Talk) (hK : KIs known T) : CT l D cl tys yX10_lays cX10_lays 4 none ({ frames := 86, cells := 0, slots := 0, locals := 2547 } : Room) [.ref (ma 0)] (HM D cl tys mi cI cJ cZ ma known fresh_ saved images isImage thrown tape taped size_ at_ begin_ token value open_ bad badPlace faultKind faultPlace xs ys pairs rows top heaps endsBehind path order firstOrder ordersMany tSort tMany numbers) (Qv (fun (u : (Nat → Nat) × (Nat → Int64) × (Nat → Nat) × (Nat → Nat) × Nat) => layd u.2.2.1 u.2.2.2.1 u.2.2.2.2 (tW T) ∧ rowsL u.2.1 T (tNT T)) (fun (u : (Nat → Nat) × (Nat → Int64) × (Nat → Nat) × (Nat → Nat) × Nat) => HM D cl tys mi cI cJ cZ ma known fresh_ saved images isImage thrown tape taped size_ at_ begin_ token value open_ bad badPlace faultKind faultPlace u.2.2.1 u.2.2.2.1 u.2.2.2.2 u.2.1 21 u.1 endsBehind path order firstOrder ordersMany tSort tMany numbers) (AM ma)) (AM ma) := by
  obtain ⟨⟨o1, o2, o3, o4, o5, o6, o7, o8, o9, o10⟩, k0, k1, k2, k3, k4, k5, k6, k7, k8⟩ := id hK
  refine CT.of (L := [(0, .ref (ma 0))]) rfl (by decide +kernel) rfl (Nat.le_of_ble_eq_true rfl) ?_
  refine g_aload_n 0 dX10_lays_0 rfl rfl ?_
  refine m_cVv (ct_layPairs (tLow T) (tHigh T) (tMost T) (tUn T) k1 k2 k3 k4 o1 o2 o3 o4 o5) hvX10_layPairs hyX10_layPairs rfl ⟨Nat.le_of_ble_eq_true rfl, Nat.le_of_ble_eq_true rfl⟩ ⟨Nat.zero_le _, Nat.zero_le _⟩ rfl (Nat.le_of_ble_eq_true rfl) dX10_lays_1 m_rec (fun ul hld => ?_)
  obtain ⟨xsL, ysL, pairsL⟩ := ul
  have hl : layd xsL ysL pairsL (tW T) := hld
  have hW := layd_OK hl o1 o3
  have hP : pairsL ≤ 1830 := hW.1
  have hPT : pairsL = tP T := hl.1
  refine g_aload_n 0 dX10_lays_4 rfl rfl ?_
  refine g_iconst (v := nI 0) dX10_lays_5 (by decide +kernel) ?_
  refine g_iconst (v := nI 1) dX10_lays_6 (by decide +kernel) ?_
  refine m_cVv (ct_fills _ true (by omega) (by omega)) hvX10_fills hyX10_fills rfl ⟨Nat.le_of_ble_eq_true rfl, Nat.le_of_ble_eq_true rfl⟩ ⟨Nat.zero_le _, Nat.zero_le _⟩ rfl (Nat.le_of_ble_eq_true rfl) dX10_lays_7 m_rec (fun rows2 hp => ?_)
  refine g_iconst (v := nI 0) dX10_lays_10 (by decide +kernel) ?_
  refine g_istore_n (L' := [(0, _), (1, _)]) 1 dX10_lays_11 rfl (by decide) rfl rfl ?_
  have loop12 : ∀ (q12 : Nat) (t top1 : Nat) (heaps1 : Nat → Nat) (rows1 : Nat → Int64), tNT T - t < q12 → (t ≤ tNT T) → (rowsL rows1 T t) → GG l D cl tys cX10_lays 4 none RX10 ({ frames := 86, cells := 0, slots := 0, locals := 2547 } : Room) (AM ma) MT (QM (Qv (fun (u : (Nat → Nat) × (Nat → Int64) × (Nat → Nat) × (Nat → Nat) × Nat) => layd u.2.2.1 u.2.2.2.1 u.2.2.2.2 (tW T) ∧ rowsL u.2.1 T (tNT T)) (fun (u : (Nat → Nat) × (Nat → Int64) × (Nat → Nat) × (Nat → Nat) × Nat) => HM D cl tys mi cI cJ cZ ma known fresh_ saved images isImage thrown tape taped size_ at_ begin_ token value open_ bad badPlace faultKind faultPlace u.2.2.1 u.2.2.2.1 u.2.2.2.2 u.2.1 21 u.1 endsBehind path order firstOrder ordersMany tSort tMany numbers) (AM ma)) 0 0 (AM ma)) (HM D cl tys mi cI cJ cZ ma known fresh_ saved images isImage thrown tape taped size_ at_ begin_ token value open_ bad badPlace faultKind faultPlace xsL ysL pairsL rows1 top1 heaps1 endsBehind path order firstOrder ordersMany tSort tMany numbers) 0 0 12 [(0, .ref (ma 0)), (1, .int (nI t))] [] := by
    intro q12
    induction q12 with
    | zero => intro t top1 heaps1 rows1 hq12; exact absurd hq12 (Nat.not_lt_zero _)
    | succ q12 ih12 =>
      intro t top1 heaps1 rows1 hq12 ht hr
      refine g_iload_n 1 dX10_lays_12 rfl rfl ?_
      refine g_aload_n 0 dX10_lays_13 rfl rfl ?_
      refine m_get_known dX10_lays_14 ?_
      refine g_bipush (v := nI 6) dX10_lays_17 (by decide +kernel) ?_
      refine m_ld_known dX10_lays_19 (by omega) ?_
      refine GG.topi k6 ?_
      refine g_icmp_ge_n (tgt := 88) dX10_lays_20 (by decide) (by omega) (by omega) (fun c20 => ?_) (fun c20 => ?_)
      · skip
        refine g_aload_n 0 dX10_lays_88 rfl rfl ?_
        refine g_bipush (v := nI 21) dX10_lays_89 (by decide +kernel) ?_
        refine m_put_top dX10_lays_91 ?_
        exact g_vret (heaps1, rows1, xsL, ysL, pairsL) dX10_lays_94 (Nat.le_refl _) (Nat.le_refl _) (⟨hl, by have e7 : t = tNT T := (by omega); rw [e7] at hr; exact hr⟩) (fun _ h => h)
      · skip
        refine g_aload_n 0 dX10_lays_23 rfl rfl ?_
        refine g_bipush (v := nI 21) dX10_lays_24 (by decide +kernel) ?_
        refine m_put_top dX10_lays_26 ?_
        refine g_aload_n 0 dX10_lays_29 rfl rfl ?_
        refine g_iload_n 1 dX10_lays_30 rfl rfl ?_
        refine m_cVi (ct_mays T _ hK hl (by omega) (fun t' w a b => hr t' w (by omega) (by omega)) (by omega) (by omega)) hvX10_mays hyX10_mays rfl ⟨Nat.le_of_ble_eq_true rfl, Nat.le_of_ble_eq_true rfl⟩ ⟨Nat.zero_le _, Nat.zero_le _⟩ rfl (Nat.le_of_ble_eq_true rfl) dX10_lays_31 m_rec (fun r um hum => ?_)
        obtain ⟨heapsM, rowsM⟩ := um
        obtain ⟨hr8, hmay⟩ := hum
        subst hr8
        have hmay : soDone rows1 rowsM 21 pairsL _ := hmay
        refine g_istore_n (L' := [(0, _), (1, _), (2, _)]) 2 dX10_lays_34 rfl (by decide) rfl rfl ?_
        refine g_iconst (v := nI 0) dX10_lays_35 (by decide +kernel) ?_
        refine g_istore_n (L' := [(0, _), (1, _), (2, _), (3, _)]) 3 dX10_lays_36 rfl (by decide) rfl rfl ?_
        have loop37 : ∀ (q37 : Nat) (w : Nat) (rowsX : Nat → Int64), pairsL - w < q37 → (w ≤ pairsL) → (rowsUp rowsM rowsX (t + 1) w (fun v => rbt rowsM t v && rbt rowsM 21 v)) → GG l D cl tys cX10_lays 4 none RX10 ({ frames := 86, cells := 0, slots := 0, locals := 2547 } : Room) (AM ma) MT (QM (Qv (fun (u : (Nat → Nat) × (Nat → Int64) × (Nat → Nat) × (Nat → Nat) × Nat) => layd u.2.2.1 u.2.2.2.1 u.2.2.2.2 (tW T) ∧ rowsL u.2.1 T (tNT T)) (fun (u : (Nat → Nat) × (Nat → Int64) × (Nat → Nat) × (Nat → Nat) × Nat) => HM D cl tys mi cI cJ cZ ma known fresh_ saved images isImage thrown tape taped size_ at_ begin_ token value open_ bad badPlace faultKind faultPlace u.2.2.1 u.2.2.2.1 u.2.2.2.2 u.2.1 21 u.1 endsBehind path order firstOrder ordersMany tSort tMany numbers) (AM ma)) 0 0 (AM ma)) (HM D cl tys mi cI cJ cZ ma known fresh_ saved images isImage thrown tape taped size_ at_ begin_ token value open_ bad badPlace faultKind faultPlace xsL ysL pairsL rowsX (21 + 1) heapsM endsBehind path order firstOrder ordersMany tSort tMany numbers) 0 0 37 [(0, .ref (ma 0)), (1, .int (nI t)), (2, .int (nI 21)), (3, .int (nI w))] [] := by
          intro q37
          induction q37 with
          | zero => intro w rowsX hq37; exact absurd hq37 (Nat.not_lt_zero _)
          | succ q37 ih37 =>
            intro w rowsX hq37 hw hi
            refine g_iload_n 3 dX10_lays_37 rfl rfl ?_
            refine g_aload_n 0 dX10_lays_38 rfl rfl ?_
            refine m_get_pairs dX10_lays_39 ?_
            refine g_icmp_ge_n (tgt := 82) dX10_lays_42 (by decide) (by omega) (by omega) (fun c42 => ?_) (fun c42 => ?_)
            · skip
              have e7 : w = pairsL := by omega
              rw [e7] at hi
              refine g_iinc_n (b := 1) (L' := [(0, _), (1, _), (2, _), (3, _)]) dX10_lays_82 rfl rfl (by decide) rfl rfl ?_
              refine g_goto (tgt := 12) dX10_lays_85 (by decide) ?_
              refine GG.locals [0, 1] rfl ?_
              refine ih12 (t + 1) _ heapsM rowsX (by omega) (by omega) (fun t' w a b => ?_)
              by_cases h9 : t' = t + 1
              · rw [h9, rowsUp_in hi hP (by omega), leftT_succ]
                show (rbt rowsM t w && rbt rowsM 21 w) = _
                rw [hmay.1 w (by omega), hmay.2 t w (by omega) (by omega), hr t w (by omega) b]
              · rw [rowsUp_ne hi h9 (by omega), hmay.2 t' w (by omega) (by omega), hr t' w (by omega) b]
            · skip
              refine g_aload_n 0 dX10_lays_45 rfl rfl ?_
              refine g_iload_n 1 dX10_lays_46 rfl rfl ?_
              refine g_iconst (v := nI 1) dX10_lays_47 (by decide +kernel) ?_
              refine g_iadd_n dX10_lays_48 ?_
              refine g_iload_n 3 dX10_lays_49 rfl rfl ?_
              refine g_aload_n 0 dX10_lays_50 rfl rfl ?_
              refine g_iload_n 1 dX10_lays_51 rfl rfl ?_
              refine g_iload_n 3 dX10_lays_52 rfl rfl ?_
              refine m_cVi (ct_has _ _ (by omega) (by omega)) hvX10_has hyX10_has rfl ⟨Nat.le_of_ble_eq_true rfl, Nat.le_of_ble_eq_true rfl⟩ ⟨Nat.zero_le _, Nat.zero_le _⟩ rfl (Nat.le_of_ble_eq_true rfl) dX10_lays_53 m_rec (fun r u hp => ?_)
              obtain rfl := hp
              refine g_if_eq_b (tgt := 72) dX10_lays_56 (by decide) (fun c56 => ?_) (fun c56 => ?_)
              · skip
                refine g_iconst (v := nI 0) dX10_lays_72 (by decide +kernel) ?_
                refine m_cVv (ct_puts _ _ false (by omega) (by omega)) hvX10_puts hyX10_puts rfl ⟨Nat.le_of_ble_eq_true rfl, Nat.le_of_ble_eq_true rfl⟩ ⟨Nat.zero_le _, Nat.zero_le _⟩ rfl (Nat.le_of_ble_eq_true rfl) dX10_lays_73 m_rec (fun rows2 hp => ?_)
                refine g_iinc_n (b := 1) (L' := [(0, _), (1, _), (2, _), (3, _)]) dX10_lays_76 rfl rfl (by decide) rfl rfl ?_
                refine g_goto (tgt := 37) dX10_lays_79 (by decide) ?_
                have h8 : rbt rowsX t w = rbt rowsM t w := rowsUp_ne hi (by omega) (by omega)
                have h7 : rbt rowsX 21 w = rbt rowsM 21 w := rowsUp_ne hi (by omega) (by omega)
                rw [h8] at c56
                refine ih37 (w + 1) _ (by omega) (by omega) (rowsUp_step hi hp ?_)
                show _ = (rbt rowsM t w && rbt rowsM 21 w)
                first | (rw [← h7, c65, c56]; rfl) | (rw [c56]; rfl)
              · skip
                refine g_aload_n 0 dX10_lays_59 rfl rfl ?_
                refine g_iload_n 2 dX10_lays_60 rfl rfl ?_
                refine g_iload_n 3 dX10_lays_61 rfl rfl ?_
                refine m_cVi (ct_has _ _ (by omega) (by omega)) hvX10_has hyX10_has rfl ⟨Nat.le_of_ble_eq_true rfl, Nat.le_of_ble_eq_true rfl⟩ ⟨Nat.zero_le _, Nat.zero_le _⟩ rfl (Nat.le_of_ble_eq_true rfl) dX10_lays_62 m_rec (fun r u hp => ?_)
                obtain rfl := hp
                refine g_if_eq_b (tgt := 72) dX10_lays_65 (by decide) (fun c65 => ?_) (fun c65 => ?_)
                · skip
                  refine g_iconst (v := nI 0) dX10_lays_72 (by decide +kernel) ?_
                  refine m_cVv (ct_puts _ _ false (by omega) (by omega)) hvX10_puts hyX10_puts rfl ⟨Nat.le_of_ble_eq_true rfl, Nat.le_of_ble_eq_true rfl⟩ ⟨Nat.zero_le _, Nat.zero_le _⟩ rfl (Nat.le_of_ble_eq_true rfl) dX10_lays_73 m_rec (fun rows2 hp => ?_)
                  refine g_iinc_n (b := 1) (L' := [(0, _), (1, _), (2, _), (3, _)]) dX10_lays_76 rfl rfl (by decide) rfl rfl ?_
                  refine g_goto (tgt := 37) dX10_lays_79 (by decide) ?_
                  have h8 : rbt rowsX t w = rbt rowsM t w := rowsUp_ne hi (by omega) (by omega)
                  have h7 : rbt rowsX 21 w = rbt rowsM 21 w := rowsUp_ne hi (by omega) (by omega)
                  rw [h8] at c56
                  refine ih37 (w + 1) _ (by omega) (by omega) (rowsUp_step hi hp ?_)
                  show _ = (rbt rowsM t w && rbt rowsM 21 w)
                  first | (rw [← h7, c65, c56]; rfl) | (rw [c56]; rfl)
                · skip
                  refine g_iconst (v := nI 1) dX10_lays_68 (by decide +kernel) ?_
                  refine g_goto (tgt := 73) dX10_lays_69 (by decide) ?_
                  refine m_cVv (ct_puts _ _ true (by omega) (by omega)) hvX10_puts hyX10_puts rfl ⟨Nat.le_of_ble_eq_true rfl, Nat.le_of_ble_eq_true rfl⟩ ⟨Nat.zero_le _, Nat.zero_le _⟩ rfl (Nat.le_of_ble_eq_true rfl) dX10_lays_73 m_rec (fun rows2 hp => ?_)
                  refine g_iinc_n (b := 1) (L' := [(0, _), (1, _), (2, _), (3, _)]) dX10_lays_76 rfl rfl (by decide) rfl rfl ?_
                  refine g_goto (tgt := 37) dX10_lays_79 (by decide) ?_
                  have h8 : rbt rowsX t w = rbt rowsM t w := rowsUp_ne hi (by omega) (by omega)
                  have h7 : rbt rowsX 21 w = rbt rowsM 21 w := rowsUp_ne hi (by omega) (by omega)
                  rw [h8] at c56
                  refine ih37 (w + 1) _ (by omega) (by omega) (rowsUp_step hi hp ?_)
                  show _ = (rbt rowsM t w && rbt rowsM 21 w)
                  first | (rw [← h7, c65, c56]; rfl) | (rw [c56]; rfl)
        exact loop37 (pairsL + 1) 0 rowsM (by omega) (by omega) rowsUp_0
  exact loop12 (tNT T + 1) 0 top heaps rows2 (by omega) (by omega) (fun t w a b => by rw [show t = 0 by omega, rowsUp_in hp hP (show w < pairsL by omega)]; rfl)
set_option maxHeartbeats 4000000 in
/-- how many are left -/
theorem ct_leftNow (T : Talk) (hK : KIs known T) : CT l D cl tys yX10_leftNow cX10_leftNow 1 (some .int) ({ frames := 87, cells := 0, slots := 0, locals := 2570 } : Room) [.ref (ma 0)] (HM D cl tys mi cI cJ cZ ma known fresh_ saved images isImage thrown tape taped size_ at_ begin_ token value open_ bad badPlace faultKind faultPlace xs ys pairs rows top heaps endsBehind path order firstOrder ordersMany tSort tMany numbers) (Qi (fun (v : Int32) (u : (Nat → Nat) × (Nat → Int64) × (Nat → Nat) × (Nat → Nat) × Nat) => layd u.2.2.1 u.2.2.2.1 u.2.2.2.2 (tW T) ∧ rowsL u.2.1 T (tNT T) ∧ v = nI (leftN T (tNT T))) (fun (u : (Nat → Nat) × (Nat → Int64) × (Nat → Nat) × (Nat → Nat) × Nat) => HM D cl tys mi cI cJ cZ ma known fresh_ saved images isImage thrown tape taped size_ at_ begin_ token value open_ bad badPlace faultKind faultPlace u.2.2.1 u.2.2.2.1 u.2.2.2.2 u.2.1 21 u.1 endsBehind path order firstOrder ordersMany tSort tMany numbers) (AM ma)) (AM ma) := by
  obtain ⟨⟨o1, o2, o3, o4, o5, o6, o7, o8, o9, o10⟩, k0, k1, k2, k3, k4, k5, k6, k7, k8⟩ := id hK
  refine CT.of (L := [(0, .ref (ma 0))]) rfl (by decide +kernel) rfl (Nat.le_of_ble_eq_true rfl) ?_
  refine g_aload_n 0 dX10_leftNow_0 rfl rfl ?_
  refine m_cVv (ct_lays T hK) hvX10_lays hyX10_lays rfl ⟨Nat.le_of_ble_eq_true rfl, Nat.le_of_ble_eq_true rfl⟩ ⟨Nat.zero_le _, Nat.zero_le _⟩ rfl (Nat.le_of_ble_eq_true rfl) dX10_leftNow_1 m_rec (fun ul hul => ?_)
  obtain ⟨heapsL, rowsZ, xsL, ysL, pairsL⟩ := ul
  obtain ⟨hl, hr⟩ := hul
  have hl : layd xsL ysL pairsL (tW T) := hl
  have hr : rowsL rowsZ T (tNT T) := hr
  have hW := layd_OK hl o1 o3
  have hP : pairsL ≤ 1830 := hW.1
  have hPT : pairsL = tP T := hl.1
  refine g_aload_n 0 dX10_leftNow_4 rfl rfl ?_
  refine g_aload_n 0 dX10_leftNow_5 rfl rfl ?_
  refine m_get_known dX10_leftNow_6 ?_
  refine g_bipush (v := nI 6) dX10_leftNow_9 (by decide +kernel) ?_
  refine m_ld_known dX10_leftNow_11 (by omega) ?_
  refine GG.topi k6 ?_
  refine m_cVi (ct_manyOf _ (by omega) (by omega)) hvX10_manyOf hyX10_manyOf rfl ⟨Nat.le_of_ble_eq_true rfl, Nat.le_of_ble_eq_true rfl⟩ ⟨Nat.zero_le _, Nat.zero_le _⟩ rfl (Nat.le_of_ble_eq_true rfl) dX10_leftNow_12 m_rec (fun r u hp => ?_)
  obtain rfl := hp
  exact g_iret (heapsL, rowsZ, xsL, ysL, pairsL) dX10_leftNow_15 (Nat.le_refl _) (Nat.le_refl _) (⟨hl, hr, by unfold leftN; rw [← hPT]; exact congrArg nI (cnt_congr (fun w hw => hr _ w (Nat.le_refl _) (by have h9 : w < pairsL := hw; omega)))⟩) (fun _ h => h)
set_option maxHeartbeats 4000000 in
/-- the only one left -/
theorem ct_onlyNow (T : Talk) (hK : KIs known T) : CT l D cl tys yX10_onlyNow cX10_onlyNow 1 (some .int) ({ frames := 88, cells := 0, slots := 0, locals := 2590 } : Room) [.ref (ma 0)] (HM D cl tys mi cI cJ cZ ma known fresh_ saved images isImage thrown tape taped size_ at_ begin_ token value open_ bad badPlace faultKind faultPlace xs ys pairs rows top heaps endsBehind path order firstOrder ordersMany tSort tMany numbers) (Qi (fun (v : Int32) (u : (Nat → Nat) × (Nat → Int64) × (Nat → Nat) × (Nat → Nat) × Nat) => layd u.2.2.1 u.2.2.2.1 u.2.2.2.2 (tW T) ∧ rowsL u.2.1 T (tNT T) ∧ isOnly T v) (fun (u : (Nat → Nat) × (Nat → Int64) × (Nat → Nat) × (Nat → Nat) × Nat) => HM D cl tys mi cI cJ cZ ma known fresh_ saved images isImage thrown tape taped size_ at_ begin_ token value open_ bad badPlace faultKind faultPlace u.2.2.1 u.2.2.2.1 u.2.2.2.2 u.2.1 21 u.1 endsBehind path order firstOrder ordersMany tSort tMany numbers) (AM ma)) (AM ma) := by
  obtain ⟨⟨o1, o2, o3, o4, o5, o6, o7, o8, o9, o10⟩, k0, k1, k2, k3, k4, k5, k6, k7, k8⟩ := id hK
  refine CT.of (L := [(0, .ref (ma 0))]) rfl (by decide +kernel) rfl (Nat.le_of_ble_eq_true rfl) ?_
  refine g_aload_n 0 dX10_onlyNow_0 rfl rfl ?_
  refine m_cVi (ct_leftNow T hK) hvX10_leftNow hyX10_leftNow rfl ⟨Nat.le_of_ble_eq_true rfl, Nat.le_of_ble_eq_true rfl⟩ ⟨Nat.zero_le _, Nat.zero_le _⟩ rfl (Nat.le_of_ble_eq_true rfl) dX10_onlyNow_1 m_rec (fun r ul hul => ?_)
  obtain ⟨heapsL, rowsZ, xsL, ysL, pairsL⟩ := ul
  obtain ⟨hl, hr, hr7⟩ := hul
  subst hr7
  have hl : layd xsL ysL pairsL (tW T) := hl
  have hr : rowsL rowsZ T (tNT T) := hr
  have hW := layd_OK hl o1 o3
  have hP : pairsL ≤ 1830 := hW.1
  have hPT : pairsL = tP T := hl.1
  have hle := leftN_le T (tNT T)
  refine g_iconst (v := nI 1) dX10_onlyNow_4 (by decide +kernel) ?_
  refine g_icmp_ne_n (tgt := 22) dX10_onlyNow_5 (by decide) (by omega) (by omega) (fun c5 => ?_) (fun c5 => ?_)
  · skip
    refine g_iconst (v := -1) dX10_onlyNow_22 (by decide +kernel) ?_
    exact g_iret (heapsL, rowsZ, xsL, ysL, pairsL) dX10_onlyNow_23 (Nat.le_refl _) (Nat.le_refl _) (⟨hl, hr, by unfold isOnly; first | (rw [if_neg c5]) | (rw [if_pos c5]; exact hF)⟩) (fun _ h => h)
  · skip
    refine g_aload_n 0 dX10_onlyNow_8 rfl rfl ?_
    refine g_aload_n 0 dX10_onlyNow_9 rfl rfl ?_
    refine m_get_known dX10_onlyNow_10 ?_
    refine g_bipush (v := nI 6) dX10_onlyNow_13 (by decide +kernel) ?_
    refine m_ld_known dX10_onlyNow_15 (by omega) ?_
    refine GG.topi k6 ?_
    refine m_cVi (ct_first _ (by omega) (by omega)) hvX10_first hyX10_first rfl ⟨Nat.le_of_ble_eq_true rfl, Nat.le_of_ble_eq_true rfl⟩ ⟨Nat.zero_le _, Nat.zero_le _⟩ rfl (Nat.le_of_ble_eq_true rfl) dX10_onlyNow_16 m_rec (fun r u hp => ?_)
    have hF : isFst (leftT T (tNT T)) (tP T) r := by rw [← hPT]; exact isFst_congr (fun w hw => hr _ w (Nat.le_refl _) (by omega)) hp
    refine g_goto (tgt := 23) dX10_onlyNow_19 (by decide) ?_
    exact g_iret (heapsL, rowsZ, xsL, ysL, pairsL) dX10_onlyNow_23 (Nat.le_refl _) (Nat.le_refl _) (⟨hl, hr, by unfold isOnly; first | (rw [if_neg c5]) | (rw [if_pos c5]; exact hF)⟩) (fun _ h => h)
end
