/-! SPEC: trays, images -/
set_option maxRecDepth 100000
/-- trays: their sort (0 .. 3), how many, what stands in them -/
abbrev Trays : Type := Nat → Option (Nat × Nat × (Nat → Int64))
def TrM (tSort : Nat → Int32) (tMany : Nat → Nat) (numbers : Nat → Int64) (Tr : Trays) : Prop := ∀ t, t < 4 → (Tr t = none → tSort t = -1) ∧ ∀ so mn vs, Tr t = some (so, mn, vs) → tSort t = nI so ∧ so < 4 ∧ tMany t = mn ∧ mn ≤ 40 ∧ ∀ k, k < mn → numbers (40 * t + k) = vs k
def trFault (Tr : Trays) (t : Int32) : Nat := match iR t 4 with
  | none => 1
  | some i => match Tr i with
    | none => 2
    | some _ => 0
def cutN (so : Nat) : Nat := 64 - 8 * 2 ^ so
/-- what stays of v in a tray of a sort -/
def cutV (so : Nat) (v : Int64) : Int64 := (v <<< ((nI (cutN so)).toInt64 &&& 63)) >>> ((nI (cutN so)).toInt64 &&& 63)
theorem cut_sub {so : Nat} (h : so < 4) : nI 64 - (nI 8 <<< (nI so &&& 31)) = nI (cutN so) := by
  have : ∀ k, k < 4 → nI 64 - (nI 8 <<< (nI k &&& 31)) = nI (cutN k) := by decide +kernel
  exact this so h
theorem TrM.put {tSort : Nat → Int32} {tMany : Nat → Nat} {numbers nm2 : Nat → Int64} {Tr : Trays} {t so mn : Nat} {vs vs2 : Nat → Int64} (h : TrM tSort tMany numbers Tr) (ht : t < 4) (hT : Tr t = some (so, mn, vs)) (h2 : ∀ j, (j < 40 * t ∨ 40 * t + 40 ≤ j) → nm2 j = numbers j) (h3 : ∀ k, k < mn → nm2 (40 * t + k) = vs2 k) : TrM tSort tMany nm2 (up Tr t (some (so, mn, vs2))) := by
  intro z hz
  obtain ⟨a1, a2⟩ := h z hz
  by_cases q : z = t
  · subst q
    obtain ⟨b1, b2, b3, b4, b5⟩ := a2 so mn vs hT
    refine ⟨fun e => (by rw [up_s] at e; cases e), fun so' mn' vs' e => ?_⟩
    rw [up_s] at e
    cases e
    exact ⟨b1, b2, b3, b4, h3⟩
  · refine ⟨fun e => a1 (by rw [up_n q] at e; exact e), fun so' mn' vs' e => ?_⟩
    rw [up_n q] at e
    obtain ⟨b1, b2, b3, b4, b5⟩ := a2 so' mn' vs' e
    exact ⟨b1, b2, b3, b4, fun k hk => by rw [h2 _ (by omega)]; exact b5 k hk⟩
theorem TrM.new {tSort : Nat → Int32} {tMany : Nat → Nat} {numbers nm2 : Nat → Int64} {Tr : Trays} {t so mn : Nat} {vs2 : Nat → Int64} (h : TrM tSort tMany numbers Tr) (ht : t < 4) (hso : so < 4) (hmn : mn ≤ 40) (h2 : ∀ j, (j < 40 * t ∨ 40 * t + 40 ≤ j) → nm2 j = numbers j) (h3 : ∀ k, k < 40 → nm2 (40 * t + k) = vs2 k) : TrM (up tSort t (nI so)) (up tMany t mn) nm2 (up Tr t (some (so, mn, vs2))) := by
  intro z hz
  obtain ⟨a1, a2⟩ := h z hz
  by_cases q : z = t
  · subst q
    refine ⟨fun e => (by rw [up_s] at e; cases e), fun so' mn' vs' e => ?_⟩
    rw [up_s] at e
    cases e
    exact ⟨up_s _ _ _, hso, up_s _ _ _, hmn, fun k hk => h3 k (by omega)⟩
  · refine ⟨fun e => by rw [up_n q]; exact a1 (by rw [up_n q] at e; exact e), fun so' mn' vs' e => ?_⟩
    rw [up_n q] at e
    obtain ⟨b1, b2, b3, b4, b5⟩ := a2 so' mn' vs' e
    exact ⟨by rw [up_n q]; exact b1, b2, by rw [up_n q]; exact b3, b4, fun k hk => by rw [h2 _ (by omega)]; exact b5 k hk⟩
/-- a new tray: what is thrown, and the trays then -/
def trNew (Tr : Trays) (t so mn : Int32) : Nat × Trays := match iR t 4 with
  | none => (1, Tr)
  | some i => match iR so 4, iR mn 41 with
    | some s, some m => (0, up Tr i (some (s, m, fun _ => 0)))
    | _, _ => (2, Tr)
def trWrite (Tr : Trays) (t p : Int32) (v : Int64) : Nat × Int64 × Trays := match iR t 4 with
  | none => (1, 0, Tr)
  | some i => match Tr i with
    | none => (2, 0, Tr)
    | some (so, mn, vs) => match iR p mn with
      | none => (3, 0, Tr)
      | some k => (0, cutV so v, up Tr i (some (so, mn, up vs k (cutV so v))))
/-- the places of the worlds of f below n -/
def placesL (f : Nat → Bool) (n : Nat) : List Nat := (List.range n).filter f
theorem placesL_y {f : Nat → Bool} {n : Nat} (h : f n = true) : placesL f (n + 1) = placesL f n ++ [n] := by
  unfold placesL; rw [List.range_succ, List.filter_append]; congr 1; simp [h]
theorem placesL_n {f : Nat → Bool} {n : Nat} (h : f n = false) : placesL f (n + 1) = placesL f n := by
  unfold placesL; rw [List.range_succ, List.filter_append]
  have : [n].filter f = [] := by simp [h]
  rw [this, List.append_nil]
theorem placesL_len (f : Nat → Bool) : ∀ n, (placesL f n).length = cnt f n
  | 0 => rfl
  | n + 1 => by
    cases h : f n with
    | true => rw [placesL_y h, List.length_append, placesL_len f n, cnt_y h]; rfl
    | false => rw [placesL_n h, placesL_len f n, cnt_n h]; rfl
theorem placesL_pre (f : Nat → Bool) : ∀ (n m : Nat), n ≤ m → ∃ r, placesL f m = placesL f n ++ r
  | n, 0, h => ⟨[], by rw [show n = 0 by omega]; rfl⟩
  | n, m + 1, h => by
    rcases Nat.lt_or_ge n (m + 1) with q | q
    · obtain ⟨r, hr⟩ := placesL_pre f n m (by omega)
      cases hf : f m with
      | true => exact ⟨r ++ [m], by rw [placesL_y hf, hr, List.append_assoc]⟩
      | false => exact ⟨r, by rw [placesL_n hf, hr]⟩
    · exact ⟨[], by rw [show n = m + 1 by omega, List.append_nil]⟩
def trPour (Tr : Trays) (T : Talk) (t : Int32) : Nat × Int32 × Trays := match iR t 4 with
  | none => (1, 0, Tr)
  | some i => match Tr i with
    | none => (2, 0, Tr)
    | some (so, mn, vs) => (0, nI (min mn (leftN T (tNT T))), up Tr i (some (so, mn, fun k => if k < min mn (leftN T (tNT T)) then cutV so (lN ((placesL (leftT T (tNT T)) (tP T)).getD k 0)) else vs k)))
theorem trPour_ok {Tr : Trays} {T : Talk} {t : Int32} {i so mn : Nat} {vs : Nat → Int64} (h : iR t 4 = some i) (hT : Tr i = some (so, mn, vs)) : trPour Tr T t = (0, nI (min mn (leftN T (tNT T))), up Tr i (some (so, mn, fun k => if k < min mn (leftN T (tNT T)) then cutV so (lN ((placesL (leftT T (tNT T)) (tP T)).getD k 0)) else vs k))) := by
  unfold trPour; rw [h]; dsimp only; rw [hT]
def anG (T : Talk) (vs : Nat → Int64) (k : Nat) : Bool := decide (0 ≤ (vs k).toInt ∧ (vs k).toInt < 2 * (tNS T : Int))
def anS (T : Talk) (vs : Nat → Int64) : Nat → (Nat → Bool)
  | 0 => allT
  | k + 1 => shStep T (vs k).toInt.toNat (anS T vs k)
def anEnd (T : Talk) (mn : Nat) (vs : Nat → Int64) (N : Nat) : Prop := N ≤ mn ∧ (∀ k, k < N → anG T vs k = true) ∧ (N = mn ∨ anG T vs N = false)
def isAnswers (T : Talk) (Tr : Trays) (t wh : Int32) (thr : Nat) (v : Int32) : Prop := match iR t 4 with
  | none => thr = 1
  | some i => match Tr i with
    | none => thr = 2
    | some (_, mn, vs) => if wh = 0 then thr = 0 ∧ ∃ N, anEnd T mn vs N ∧ v = nI (cnt (anS T vs N) (tP T))
      else if wh = 1 then thr = 0 ∧ ∃ N, anEnd T mn vs N ∧ isFst (anS T vs N) (tP T) v
      else if wh = 2 then thr = 0 ∧ ∃ N, anEnd T mn vs N ∧ v = nI N
      else thr = 3
theorem anG_lN {T : Talk} {vs : Nat → Int64} {k : Nat} (h : anG T vs k = true) : ∃ x : Nat, x < 2 * tNS T ∧ vs k = lN x ∧ (vs k).toInt.toNat = x := by
  have h1 := of_decide_eq_true h
  refine ⟨(vs k).toInt.toNat, by omega, ?_, rfl⟩
  apply Int64.toInt_inj.mp
  have hb := (vs k).toInt_lt
  rw [pk_lT (by omega)]
  omega
theorem ans_hi {n : Nat} (h : n ≤ 6) : (lN 2 * lN n - lN 1).toInt = 2 * (n : Int) - 1 := by
  have : ∀ k, k < 7 → (lN 2 * lN k - lN 1).toInt = 2 * (k : Int) - 1 := by decide +kernel
  exact this n (by omega)
/-- images of talks -/
abbrev Imgs : Type := Nat → Option Talk
def ImM (isImage : Nat → Bool) (images : Nat → Int32) (Im : Imgs) : Prop := ∀ i, i < 3 → (Im i = none → isImage i = false) ∧ ∀ T, Im i = some T → isImage i = true ∧ KIs (fun j => images (1868 * i + j)) T
theorem ImM.put {isImage : Nat → Bool} {images im2 : Nat → Int32} {Im : Imgs} {i : Nat} {T : Talk} (h : ImM isImage images Im) (h2 : ∀ j, (j < 1868 * i ∨ 1868 * i + 1868 ≤ j) → im2 j = images j) (h3 : KIs (fun j => im2 (1868 * i + j)) T) : ImM (up isImage i true) im2 (up Im i (some T)) := by
  intro z hz
  obtain ⟨a1, a2⟩ := h z hz
  by_cases q : z = i
  · subst q
    refine ⟨fun e => (by rw [up_s] at e; cases e), fun T' e => ?_⟩
    rw [up_s] at e
    cases e
    exact ⟨up_s _ _ _, h3⟩
  · refine ⟨fun e => by rw [up_n q]; exact a1 (by rw [up_n q] at e; exact e), fun T' e => ?_⟩
    rw [up_n q] at e
    obtain ⟨b1, b2⟩ := a2 T' e
    exact ⟨by rw [up_n q]; exact b1, b2.congr (fun j hj => h2 _ (by omega))⟩
def imKeep (Im : Imgs) (T : Talk) (i : Int32) : Nat × Imgs := match iR i 3 with
  | none => (1, Im)
  | some k => (0, up Im k (some T))
def imBack (Im : Imgs) (T : Talk) (i : Int32) : Nat × Talk := match iR i 3 with
  | none => (1, T)
  | some k => match Im k with
    | none => (2, T)
    | some T2 => (0, T2)
def aCount (T : Talk) (taped : Nat) (wh : Int32) : Int32 := match iR wh 9 with
  | none => -1
  | some i => nI (match i with
    | 0 => tLines T
    | 1 => tLow T
    | 2 => tHigh T
    | 3 => tMost T
    | 4 => tUn T
    | 5 => tNS T
    | 6 => tNT T
    | 7 => tP T
    | _ => taped)
/-- the bytes fed: the j-th of a word, as a number below 256 -/
def fB (w : Int32) (j : Nat) : Nat := ((w.toUInt32 >>> ((nI 24 - nI (8 * j)).toUInt32 &&& Int32.toUInt32 31)).toInt32).toBitVec.toNat % 256
def fW (a b c d e : Int32) (k : Nat) : Int32 := if k < 4 then a else if k < 8 then b else if k < 12 then c else if k < 16 then d else e
def fedT (tape : Nat → Nat) (taped : Nat) (a b c d e : Int32) (n : Nat) : Nat → Nat := fun j => if taped ≤ j ∧ j < taped + n then fB (fW a b c d e (j - taped)) ((j - taped) % 4) else tape j
theorem fedT_0 (tape : Nat → Nat) (taped : Nat) (a b c d e : Int32) : fedT tape taped a b c d e 0 = tape := by
  funext j; unfold fedT; rw [if_neg (by omega)]
theorem fedT_step (tape : Nat → Nat) (taped : Nat) (a b c d e : Int32) (n : Nat) : up (fedT tape taped a b c d e n) (taped + n) (fB (fW a b c d e n) (n % 4)) = fedT tape taped a b c d e (n + 1) := by
  funext j; unfold up fedT
  by_cases h : j = taped + n
  · rw [if_pos h, if_pos (by omega), h, show taped + n - taped = n by omega]
  · rw [if_neg h]
    by_cases h2 : taped ≤ j ∧ j < taped + n
    · rw [if_pos h2, if_pos (by omega)]
    · rw [if_neg h2, if_neg (by omega)]
/-! THE MODEL, 14: trays, images, count, feed -/
set_option maxRecDepth 100000
theorem pour_end {mn n w : Nat} {T : Talk} (hP2 : w ≤ tP T) (hnl : n = min mn (placesL (leftT T (tNT T)) w).length) (h : w = tP T ∨ mn ≤ n) : n = min mn (leftN T (tNT T)) := by
  obtain ⟨r, hr⟩ := placesL_pre (leftT T (tNT T)) w (tP T) hP2
  have h1 := placesL_len (leftT T (tNT T)) (tP T)
  rw [hr, List.length_append] at h1
  unfold leftN
  rcases h with h | h
  · subst h
    rw [placesL_len] at hnl
    exact hnl
  · omega
theorem pour_in {i mn n w so : Nat} {T : Talk} {numbers nm1 vs : Nat → Int64} (b5 : ∀ k, k < mn → numbers (40 * i + k) = vs k) (hP2 : w ≤ tP T) (hin : ∀ z, z < n → nm1 (40 * i + z) = cutV so (lN ((placesL (leftT T (tNT T)) w).getD z 0))) (hno : ∀ z, n ≤ z → nm1 (40 * i + z) = numbers (40 * i + z)) (hn : n ≤ (placesL (leftT T (tNT T)) w).length := by omega) (z : Nat) (hz : z < mn) : nm1 (40 * i + z) = if z < n then cutV so (lN ((placesL (leftT T (tNT T)) (tP T)).getD z 0)) else vs z := by
  obtain ⟨r, hr⟩ := placesL_pre (leftT T (tNT T)) w (tP T) hP2
  by_cases q : z < n
  · rw [if_pos q, hin z q, hr, List.getD_eq_getElem?_getD, List.getD_eq_getElem?_getD, List.getElem?_append_left (by omega)]
  · rw [if_neg q, hno z (by omega)]; exact b5 z hz
theorem pour_up {i n w so : Nat} {f : Nat → Bool} {nm1 : Nat → Int64} (hf : f w = true) (hn : n = (placesL f w).length) (hin : ∀ z, z < n → nm1 (40 * i + z) = cutV so (lN ((placesL f w).getD z 0))) : ∀ z, z < n + 1 → up nm1 (40 * i + n) (cutV so (lN w)) (40 * i + z) = cutV so (lN ((placesL f (w + 1)).getD z 0)) := by
  intro z hz
  rw [placesL_y hf, getD_snoc]
  by_cases q : z = n
  · rw [q, up_s, if_pos hn]
  · rw [up_n (by omega), if_neg (by omega)]; exact hin z (by omega)
theorem up_off {numbers vs : Nat → Int64} {i mn k : Nat} {x : Int64} (h : ∀ z, z < mn → numbers (40 * i + z) = vs z) (z : Nat) (hz : z < mn) : up numbers (40 * i + k) x (40 * i + z) = up vs k x z := by
  unfold up
  by_cases q : z = k
  · rw [if_pos (by omega), if_pos q]
  · rw [if_neg (by omega), if_neg q]; exact h z hz
section
variable {l : Launch} {D : va_G} {cl : List vw_C} {tys : List (ClassId × FieldType)} {mi : Nat} {cI cJ cZ : ClassId} {ma : Nat → Nat} {known fresh_ saved images : Nat → Int32} {isImage : Nat → Bool} {thrown : Nat} {tape : Nat → Nat} {taped size_ at_ begin_ token value open_ bad badPlace faultKind : Nat} {faultPlace : Int32} {xs ys : Nat → Nat} {pairs : Nat} {rows : Nat → Int64} {top : Nat} {heaps : Nat → Nat} {endsBehind : Nat → Int32} {path order firstOrder : Nat → Nat} {ordersMany : Nat} {tSort : Nat → Int32} {tMany : Nat → Nat} {numbers : Nat → Int64}
set_option maxHeartbeats 4000000 in
/-- a tray -/
theorem ct_isTray {HP : Heap → Prop} (v0 : Int32)  : CT l D cl tys yX10_isTray cX10_isTray 1 (some .boolean) ({ frames := 1, cells := 0, slots := 0, locals := 25 } : Room) [.int v0] (HP) (Qi (fun (v : Int32) (u : Unit) => v = bI (iR v0 4).isSome) (fun (u : Unit) => HP) (AM ma)) (AM ma) := by
  refine CT.of (L := [(0, .int v0)]) rfl (by decide +kernel) rfl (Nat.le_of_ble_eq_true rfl) ?_
  refine g_iload_n 0 dX10_isTray_0 rfl rfl ?_
  refine g_i2l dX10_isTray_1 rfl ?_
  refine g_lconst (v := lN 0) dX10_isTray_2 (by decide +kernel) ?_
  refine g_ldc2 (v := lN 3) dX10_isTray_3 q2146 ?_
  refine m_cSi (ct_within _ _ _) hsX10_within hyX10_within rfl ⟨Nat.le_of_ble_eq_true rfl, Nat.le_of_ble_eq_true rfl⟩ ⟨Nat.zero_le _, Nat.zero_le _⟩ rfl (Nat.le_of_ble_eq_true rfl) dX10_isTray_6 (fun r u hp => ?_)
  obtain rfl := hp
  exact g_zret () dX10_isTray_9 (Nat.le_refl _) (Nat.le_refl _) (by rw [wIn_iR1 v0 (by decide)]) (fun _ h => h)
set_option maxHeartbeats 4000000 in
/-- what is at fault with a tray -/
theorem ct_trayFault (Tr : Trays) (t0 : Int32) (hTr : TrM tSort tMany numbers Tr) : CT l D cl tys yX10_trayFault cX10_trayFault 2 (some .int) ({ frames := 2, cells := 0, slots := 0, locals := 45 } : Room) [.ref (ma 0), .int t0] (HM D cl tys mi cI cJ cZ ma known fresh_ saved images isImage thrown tape taped size_ at_ begin_ token value open_ bad badPlace faultKind faultPlace xs ys pairs rows top heaps endsBehind path order firstOrder ordersMany tSort tMany numbers) (Qi (fun (v : Int32) (u : Unit) => v = nI (trFault Tr t0)) (fun (u : Unit) => HM D cl tys mi cI cJ cZ ma known fresh_ saved images isImage thrown tape taped size_ at_ begin_ token value open_ bad badPlace faultKind faultPlace xs ys pairs rows top heaps endsBehind path order firstOrder ordersMany tSort tMany numbers) (AM ma)) (AM ma) := by
  refine CT.of (L := [(0, .ref (ma 0)), (1, .int t0)]) rfl (by decide +kernel) rfl (Nat.le_of_ble_eq_true rfl) ?_
  rcases hit : iR t0 4 with _ | i
  · skip
    refine g_iload_n 1 dX10_trayFault_0 rfl rfl ?_
    refine m_cSi (ct_isTray _) hsX10_isTray hyX10_isTray rfl ⟨Nat.le_of_ble_eq_true rfl, Nat.le_of_ble_eq_true rfl⟩ ⟨Nat.zero_le _, Nat.zero_le _⟩ rfl (Nat.le_of_ble_eq_true rfl) dX10_trayFault_1 (fun r u9 hp => ?_)
    obtain rfl := hp
    refine GG.topi (y := nI 0) (by rw [hit]; rfl) ?_
    refine g_if_ne_n (tgt := 11) dX10_trayFault_4 (by decide) (by decide) (fun h => absurd h (by decide)) (fun _ => ?_)
    refine g_iconst (v := nI 1) dX10_trayFault_7 (by decide +kernel) ?_
    refine g_goto (tgt := 26) dX10_trayFault_8 (by decide) ?_
    exact g_iret () dX10_trayFault_26 (Nat.le_refl _) (Nat.le_refl _) (by rw [show trFault Tr _ = 1 from (by first | (unfold trFault; rw [hit]; done) | (unfold trFault; rw [hit]; rfl) | (unfold trFault; simp only [hit]; done) | (unfold trFault; simp only [hit]; rfl))]) (fun _ h => h)
  · skip
    obtain ⟨hi, ei⟩ := iR_some hit
    subst ei
    rcases hTi : Tr i with _ | ⟨so, mn, vs⟩
    · skip
      have hs9 := (hTr i hi).1 hTi
      refine g_iload_n 1 dX10_trayFault_0 rfl rfl ?_
      refine m_cSi (ct_isTray _) hsX10_isTray hyX10_isTray rfl ⟨Nat.le_of_ble_eq_true rfl, Nat.le_of_ble_eq_true rfl⟩ ⟨Nat.zero_le _, Nat.zero_le _⟩ rfl (Nat.le_of_ble_eq_true rfl) dX10_trayFault_1 (fun r u9 hp => ?_)
      obtain rfl := hp
      refine GG.topi (y := nI 1) (by rw [hit]; rfl) ?_
      refine g_if_ne_n (tgt := 11) dX10_trayFault_4 (by decide) (by decide) (fun _ => ?_) (fun h => absurd h (by decide))
      refine g_aload_n 0 dX10_trayFault_11 rfl rfl ?_
      refine m_get_tSort dX10_trayFault_12 ?_
      refine g_iload_n 1 dX10_trayFault_15 rfl rfl ?_
      refine m_ld_tSort dX10_trayFault_16 (by omega) ?_
      refine g_iconst (v := -1) dX10_trayFault_17 (by decide +kernel) ?_
      refine g_icmp_ne (tgt := 25) dX10_trayFault_18 (by decide) (fun c18 => ?_) (fun c18 => ?_)
      · skip
        exact absurd hs9 c18
      · skip
        refine g_iconst (v := nI 2) dX10_trayFault_21 (by decide +kernel) ?_
        refine g_goto (tgt := 26) dX10_trayFault_22 (by decide) ?_
        exact g_iret () dX10_trayFault_26 (Nat.le_refl _) (Nat.le_refl _) (by rw [show trFault Tr _ = 2 from (by first | (unfold trFault; rw [hit, hTi]; done) | (unfold trFault; rw [hit, hTi]; rfl) | (unfold trFault; simp only [hit, hTi]; done) | (unfold trFault; simp only [hit, hTi]; rfl))]) (fun _ h => h)
    · skip
      obtain ⟨b1, b2, b3, b4, b5⟩ := (hTr i hi).2 so mn vs hTi
      refine g_iload_n 1 dX10_trayFault_0 rfl rfl ?_
      refine m_cSi (ct_isTray _) hsX10_isTray hyX10_isTray rfl ⟨Nat.le_of_ble_eq_true rfl, Nat.le_of_ble_eq_true rfl⟩ ⟨Nat.zero_le _, Nat.zero_le _⟩ rfl (Nat.le_of_ble_eq_true rfl) dX10_trayFault_1 (fun r u9 hp => ?_)
      obtain rfl := hp
      refine GG.topi (y := nI 1) (by rw [hit]; rfl) ?_
      refine g_if_ne_n (tgt := 11) dX10_trayFault_4 (by decide) (by decide) (fun _ => ?_) (fun h => absurd h (by decide))
      refine g_aload_n 0 dX10_trayFault_11 rfl rfl ?_
      refine m_get_tSort dX10_trayFault_12 ?_
      refine g_iload_n 1 dX10_trayFault_15 rfl rfl ?_
      refine m_ld_tSort dX10_trayFault_16 (by omega) ?_
      refine g_iconst (v := -1) dX10_trayFault_17 (by decide +kernel) ?_
      refine g_icmp_ne (tgt := 25) dX10_trayFault_18 (by decide) (fun c18 => ?_) (fun c18 => ?_)
      · skip
        refine g_iconst (v := nI 0) dX10_trayFault_25 (by decide +kernel) ?_
        exact g_iret () dX10_trayFault_26 (Nat.le_refl _) (Nat.le_refl _) (by rw [show trFault Tr _ = 0 from (by first | (unfold trFault; rw [hit, hTi]; done) | (unfold trFault; rw [hit, hTi]; rfl) | (unfold trFault; simp only [hit, hTi]; done) | (unfold trFault; simp only [hit, hTi]; rfl))]) (fun _ h => h)
      · skip
        exact absurd (b1.symm.trans c18) (nI_m1 (by omega))
set_option maxHeartbeats 4000000 in
/-- a new tray -/
theorem ct_tray (Tr : Trays) (t0 s0 m0 : Int32) (hTr : TrM tSort tMany numbers Tr) : CT l D cl tys yX10_tray cX10_tray 5 none ({ frames := 2, cells := 0, slots := 0, locals := 45 } : Room) [.ref (ma 0), .int t0, .int s0, .int m0] (HM D cl tys mi cI cJ cZ ma known fresh_ saved images isImage thrown tape taped size_ at_ begin_ token value open_ bad badPlace faultKind faultPlace xs ys pairs rows top heaps endsBehind path order firstOrder ordersMany tSort tMany numbers) (Qv (fun (u : Nat × (Nat → Int32) × (Nat → Nat) × (Nat → Int64)) => u.1 = (trNew Tr t0 s0 m0).1 ∧ TrM u.2.1 u.2.2.1 u.2.2.2 (trNew Tr t0 s0 m0).2) (fun (u : Nat × (Nat → Int32) × (Nat → Nat) × (Nat → Int64)) => HM D cl tys mi cI cJ cZ ma known fresh_ saved images isImage u.1 tape taped size_ at_ begin_ token value open_ bad badPlace faultKind faultPlace xs ys pairs rows top heaps endsBehind path order firstOrder ordersMany u.2.1 u.2.2.1 u.2.2.2) (AM ma)) (AM ma) := by
  refine CT.of (L := [(0, .ref (ma 0)), (1, .int t0), (2, .int s0), (3, .int m0)]) rfl (by decide +kernel) rfl (Nat.le_of_ble_eq_true rfl) ?_
  rcases hit : iR t0 4 with _ | i
  · skip
    refine g_aload_n 0 dX10_tray_0 rfl rfl ?_
    refine g_iload_n 1 dX10_tray_1 rfl rfl ?_
    refine m_cSi (ct_isTray _) hsX10_isTray hyX10_isTray rfl ⟨Nat.le_of_ble_eq_true rfl, Nat.le_of_ble_eq_true rfl⟩ ⟨Nat.zero_le _, Nat.zero_le _⟩ rfl (Nat.le_of_ble_eq_true rfl) dX10_tray_2 (fun r u9 hp => ?_)
    obtain rfl := hp
    refine GG.topi (y := nI 0) (by rw [hit]; rfl) ?_
    refine g_if_ne_n (tgt := 12) dX10_tray_5 (by decide) (by decide) (fun h => absurd h (by decide)) (fun _ => ?_)
    refine g_iconst (v := nI 1) dX10_tray_8 (by decide +kernel) ?_
    refine g_goto (tgt := 41) dX10_tray_9 (by decide) ?_
    refine m_put_thrown dX10_tray_41 ?_
    refine g_aload_n 0 dX10_tray_44 rfl rfl ?_
    refine m_get_thrown dX10_tray_45 ?_
    refine g_if_le_n (tgt := 52) dX10_tray_48 (by decide) (by decide) (fun h => absurd h (by decide)) (fun _ => ?_)
    exact g_vret (_, _, _, _) dX10_tray_51 (Nat.le_refl _) (Nat.le_refl _) (by rw [show trNew Tr _ _ _ = (1, Tr) from by unfold trNew; rw [hit]]; exact ⟨rfl, hTr⟩) (fun _ h => h)
  · skip
    obtain ⟨hi, ei⟩ := iR_some hit
    subst ei
    rcases his : iR s0 4 with _ | s
    · skip
      refine g_aload_n 0 dX10_tray_0 rfl rfl ?_
      refine g_iload_n 1 dX10_tray_1 rfl rfl ?_
      refine m_cSi (ct_isTray _) hsX10_isTray hyX10_isTray rfl ⟨Nat.le_of_ble_eq_true rfl, Nat.le_of_ble_eq_true rfl⟩ ⟨Nat.zero_le _, Nat.zero_le _⟩ rfl (Nat.le_of_ble_eq_true rfl) dX10_tray_2 (fun r u9 hp => ?_)
      obtain rfl := hp
      refine GG.topi (y := nI 1) (by rw [hit]; rfl) ?_
      refine g_if_ne_n (tgt := 12) dX10_tray_5 (by decide) (by decide) (fun _ => ?_) (fun h => absurd h (by decide))
      refine g_iload_n 2 dX10_tray_12 rfl rfl ?_
      refine g_i2l dX10_tray_13 rfl ?_
      refine g_lconst (v := lN 0) dX10_tray_14 (by decide +kernel) ?_
      refine g_ldc2 (v := lN 3) dX10_tray_15 q2146 ?_
      refine m_cSi (ct_within _ _ _) hsX10_within hyX10_within rfl ⟨Nat.le_of_ble_eq_true rfl, Nat.le_of_ble_eq_true rfl⟩ ⟨Nat.zero_le _, Nat.zero_le _⟩ rfl (Nat.le_of_ble_eq_true rfl) dX10_tray_18 (fun r u9 hp => ?_)
      obtain rfl := hp
      refine GG.topi (y := nI 0) (by rw [wIn_0 s0 (by decide) his]; rfl) ?_
      refine g_if_eq_n (tgt := 36) dX10_tray_21 (by decide) (by decide) (fun _ => ?_) (fun h => absurd h (by decide))
      refine g_iconst (v := nI 2) dX10_tray_36 (by decide +kernel) ?_
      refine g_goto (tgt := 41) dX10_tray_37 (by decide) ?_
      refine m_put_thrown dX10_tray_41 ?_
      refine g_aload_n 0 dX10_tray_44 rfl rfl ?_
      refine m_get_thrown dX10_tray_45 ?_
      refine g_if_le_n (tgt := 52) dX10_tray_48 (by decide) (by decide) (fun h => absurd h (by decide)) (fun _ => ?_)
      exact g_vret (_, _, _, _) dX10_tray_51 (Nat.le_refl _) (Nat.le_refl _) (by rw [show trNew Tr _ _ _ = (2, Tr) from by unfold trNew; rw [hit]; dsimp only; rw [his]]; exact ⟨rfl, hTr⟩) (fun _ h => h)
    · skip
      obtain ⟨hs, es⟩ := iR_some his
      subst es
      rcases him : iR m0 41 with _ | m
      · skip
        refine g_aload_n 0 dX10_tray_0 rfl rfl ?_
        refine g_iload_n 1 dX10_tray_1 rfl rfl ?_
        refine m_cSi (ct_isTray _) hsX10_isTray hyX10_isTray rfl ⟨Nat.le_of_ble_eq_true rfl, Nat.le_of_ble_eq_true rfl⟩ ⟨Nat.zero_le _, Nat.zero_le _⟩ rfl (Nat.le_of_ble_eq_true rfl) dX10_tray_2 (fun r u9 hp => ?_)
        obtain rfl := hp
        refine GG.topi (y := nI 1) (by rw [hit]; rfl) ?_
        refine g_if_ne_n (tgt := 12) dX10_tray_5 (by decide) (by decide) (fun _ => ?_) (fun h => absurd h (by decide))
        refine g_iload_n 2 dX10_tray_12 rfl rfl ?_
        refine g_i2l_n dX10_tray_13 (by omega) ?_
        refine g_lconst (v := lN 0) dX10_tray_14 (by decide +kernel) ?_
        refine g_ldc2 (v := lN 3) dX10_tray_15 q2146 ?_
        refine m_cSi (ct_within _ _ _) hsX10_within hyX10_within rfl ⟨Nat.le_of_ble_eq_true rfl, Nat.le_of_ble_eq_true rfl⟩ ⟨Nat.zero_le _, Nat.zero_le _⟩ rfl (Nat.le_of_ble_eq_true rfl) dX10_tray_18 (fun r u9 hp => ?_)
        obtain rfl := hp
        refine GG.topi (y := nI 1) (by rw [show wIn (lN s) (lN 0) (lN 3) = true from decide_eq_true (by rw [lN_toInt (by omega), lN_toInt (by omega), lN_toInt (by omega)]; omega)]; rfl) ?_
        refine g_if_eq_n (tgt := 36) dX10_tray_21 (by decide) (by decide) (fun h => absurd h (by decide)) (fun _ => ?_)
        refine g_iload_n 3 dX10_tray_24 rfl rfl ?_
        refine g_i2l dX10_tray_25 rfl ?_
        refine g_lconst (v := lN 0) dX10_tray_26 (by decide +kernel) ?_
        refine g_ldc2 (v := lN 40) dX10_tray_27 q2392 ?_
        refine m_cSi (ct_within _ _ _) hsX10_within hyX10_within rfl ⟨Nat.le_of_ble_eq_true rfl, Nat.le_of_ble_eq_true rfl⟩ ⟨Nat.zero_le _, Nat.zero_le _⟩ rfl (Nat.le_of_ble_eq_true rfl) dX10_tray_30 (fun r u9 hp => ?_)
        obtain rfl := hp
        refine GG.topi (y := nI 0) (by rw [wIn_0 m0 (by decide) him]; rfl) ?_
        refine g_if_ne_n (tgt := 40) dX10_tray_33 (by decide) (by decide) (fun h => absurd h (by decide)) (fun _ => ?_)
        refine g_iconst (v := nI 2) dX10_tray_36 (by decide +kernel) ?_
        refine g_goto (tgt := 41) dX10_tray_37 (by decide) ?_
        refine m_put_thrown dX10_tray_41 ?_
        refine g_aload_n 0 dX10_tray_44 rfl rfl ?_
        refine m_get_thrown dX10_tray_45 ?_
        refine g_if_le_n (tgt := 52) dX10_tray_48 (by decide) (by decide) (fun h => absurd h (by decide)) (fun _ => ?_)
        exact g_vret (_, _, _, _) dX10_tray_51 (Nat.le_refl _) (Nat.le_refl _) (by rw [show trNew Tr _ _ _ = (2, Tr) from by unfold trNew; rw [hit]; dsimp only; rw [his, him]]; exact ⟨rfl, hTr⟩) (fun _ h => h)
      · skip
        obtain ⟨hm, em⟩ := iR_some him
        subst em
        refine g_aload_n 0 dX10_tray_0 rfl rfl ?_
        refine g_iload_n 1 dX10_tray_1 rfl rfl ?_
        refine m_cSi (ct_isTray _) hsX10_isTray hyX10_isTray rfl ⟨Nat.le_of_ble_eq_true rfl, Nat.le_of_ble_eq_true rfl⟩ ⟨Nat.zero_le _, Nat.zero_le _⟩ rfl (Nat.le_of_ble_eq_true rfl) dX10_tray_2 (fun r u9 hp => ?_)
        obtain rfl := hp
        refine GG.topi (y := nI 1) (by rw [hit]; rfl) ?_
        refine g_if_ne_n (tgt := 12) dX10_tray_5 (by decide) (by decide) (fun _ => ?_) (fun h => absurd h (by decide))
        refine g_iload_n 2 dX10_tray_12 rfl rfl ?_
        refine g_i2l_n dX10_tray_13 (by omega) ?_
        refine g_lconst (v := lN 0) dX10_tray_14 (by decide +kernel) ?_
        refine g_ldc2 (v := lN 3) dX10_tray_15 q2146 ?_
        refine m_cSi (ct_within _ _ _) hsX10_within hyX10_within rfl ⟨Nat.le_of_ble_eq_true rfl, Nat.le_of_ble_eq_true rfl⟩ ⟨Nat.zero_le _, Nat.zero_le _⟩ rfl (Nat.le_of_ble_eq_true rfl) dX10_tray_18 (fun r u9 hp => ?_)
        obtain rfl := hp
        refine GG.topi (y := nI 1) (by rw [show wIn (lN s) (lN 0) (lN 3) = true from decide_eq_true (by rw [lN_toInt (by omega), lN_toInt (by omega), lN_toInt (by omega)]; omega)]; rfl) ?_
        refine g_if_eq_n (tgt := 36) dX10_tray_21 (by decide) (by decide) (fun h => absurd h (by decide)) (fun _ => ?_)
        refine g_iload_n 3 dX10_tray_24 rfl rfl ?_
        refine g_i2l_n dX10_tray_25 (by omega) ?_
        refine g_lconst (v := lN 0) dX10_tray_26 (by decide +kernel) ?_
        refine g_ldc2 (v := lN 40) dX10_tray_27 q2392 ?_
        refine m_cSi (ct_within _ _ _) hsX10_within hyX10_within rfl ⟨Nat.le_of_ble_eq_true rfl, Nat.le_of_ble_eq_true rfl⟩ ⟨Nat.zero_le _, Nat.zero_le _⟩ rfl (Nat.le_of_ble_eq_true rfl) dX10_tray_30 (fun r u9 hp => ?_)
        obtain rfl := hp
        refine GG.topi (y := nI 1) (by rw [show wIn (lN m) (lN 0) (lN 40) = true from decide_eq_true (by rw [lN_toInt (by omega), lN_toInt (by omega), lN_toInt (by omega)]; omega)]; rfl) ?_
        refine g_if_ne_n (tgt := 40) dX10_tray_33 (by decide) (by decide) (fun _ => ?_) (fun h => absurd h (by decide))
        refine g_iconst (v := nI 0) dX10_tray_40 (by decide +kernel) ?_
        refine m_put_thrown dX10_tray_41 ?_
        refine g_aload_n 0 dX10_tray_44 rfl rfl ?_
        refine m_get_thrown dX10_tray_45 ?_
        refine g_if_le_n (tgt := 52) dX10_tray_48 (by decide) (by decide) (fun _ => ?_) (fun h => absurd h (by decide))
        refine g_aload_n 0 dX10_tray_52 rfl rfl ?_
        refine m_get_tSort dX10_tray_53 ?_
        refine g_iload_n 1 dX10_tray_56 rfl rfl ?_
        refine g_iload_n 2 dX10_tray_57 rfl rfl ?_
        refine m_st_tSort dX10_tray_58 (by omega) ?_
        refine g_aload_n 0 dX10_tray_59 rfl rfl ?_
        refine m_get_tMany dX10_tray_60 ?_
        refine g_iload_n 1 dX10_tray_63 rfl rfl ?_
        refine g_iload_n 3 dX10_tray_64 rfl rfl ?_
        refine m_st_tMany dX10_tray_65 (by omega) ?_
        refine g_iconst (v := nI 0) dX10_tray_66 (by decide +kernel) ?_
        refine g_istore (L' := [(0, _), (1, _), (2, _), (3, _), (4, _)]) dX10_tray_67 (by decide) rfl rfl ?_
        have loop69 : ∀ (q69 : Nat) (k : Nat) (nm1 : Nat → Int64), 40 - k < q69 → (k ≤ 40) → (∀ j, (j < 40 * i ∨ 40 * i + 40 ≤ j) → nm1 j = numbers j) → (∀ z, z < k → nm1 (40 * i + z) = 0) → GG l D cl tys cX10_tray 5 none RX10 ({ frames := 2, cells := 0, slots := 0, locals := 45 } : Room) (AM ma) MT (QM (Qv (fun (u : Nat × (Nat → Int32) × (Nat → Nat) × (Nat → Int64)) => u.1 = (trNew Tr (nI i) (nI s) (nI m)).1 ∧ TrM u.2.1 u.2.2.1 u.2.2.2 (trNew Tr (nI i) (nI s) (nI m)).2) (fun (u : Nat × (Nat → Int32) × (Nat → Nat) × (Nat → Int64)) => HM D cl tys mi cI cJ cZ ma known fresh_ saved images isImage u.1 tape taped size_ at_ begin_ token value open_ bad badPlace faultKind faultPlace xs ys pairs rows top heaps endsBehind path order firstOrder ordersMany u.2.1 u.2.2.1 u.2.2.2) (AM ma)) 0 0 (AM ma)) (HM D cl tys mi cI cJ cZ ma known fresh_ saved images isImage 0 tape taped size_ at_ begin_ token value open_ bad badPlace faultKind faultPlace xs ys pairs rows top heaps endsBehind path order firstOrder ordersMany (up tSort i (nI s)) (up tMany i m) nm1) 0 0 69 [(0, .ref (ma 0)), (1, .int (nI i)), (2, .int (nI s)), (3, .int (nI m)), (4, .int (nI k))] [] := by
          intro q69
          induction q69 with
          | zero => intro k nm1 hq69; exact absurd hq69 (Nat.not_lt_zero _)
          | succ q69 ih69 =>
            intro k nm1 hq69 hk hout hin
            refine g_iload dX10_tray_69 rfl ?_
            refine g_bipush (v := nI 40) dX10_tray_71 (by decide +kernel) ?_
            refine g_icmp_ge_n (tgt := 95) dX10_tray_73 (by decide) (by omega) (by omega) (fun c73 => ?_) (fun c73 => ?_)
            · skip
              exact g_vret (_, _, _, _) dX10_tray_95 (Nat.le_refl _) (Nat.le_refl _) (by have e9 : k = 40 := (by omega); rw [show trNew Tr (nI i) (nI s) (nI m) = (0, up Tr i (some (s, m, fun _ => 0))) from by unfold trNew; rw [hit]; dsimp only; rw [his, him]]; exact ⟨rfl, hTr.new hi hs (by omega) hout (fun z hz => hin z (by omega))⟩) (fun _ h => h)
            · skip
              refine g_aload_n 0 dX10_tray_76 rfl rfl ?_
              refine m_get_numbers dX10_tray_77 ?_
              refine g_bipush (v := nI 40) dX10_tray_80 (by decide +kernel) ?_
              refine g_iload_n 1 dX10_tray_82 rfl rfl ?_
              refine g_imul_n dX10_tray_83 ?_
              refine g_iload dX10_tray_84 rfl ?_
              refine g_iadd_n dX10_tray_86 ?_
              refine g_lconst (v := lN 0) dX10_tray_87 (by decide +kernel) ?_
              refine m_st_numbers dX10_tray_88 (by omega) ?_
              refine g_iinc_n (b := 1) (L' := [(0, _), (1, _), (2, _), (3, _), (4, _)]) dX10_tray_89 rfl rfl (by decide) rfl rfl ?_
              refine g_goto (tgt := 69) dX10_tray_92 (by decide) ?_
              refine ih69 (k + 1) _ (by omega) (by omega) (fun j hj => ?_) (fun z hz => ?_)
              · rw [up_n (by omega)]; exact hout j hj
              · by_cases q : z = k
                · rw [q, up_s]; rfl
                · rw [up_n (by omega)]; exact hin z (by omega)
        exact loop69 41 0 numbers (by omega) (by omega) (fun _ _ => rfl) (fun z hz => absurd hz (Nat.not_lt_zero _))
set_option maxHeartbeats 4000000 in
/-- cut to the width -/
theorem ct_cut (i k so : Nat) (v0 : Int64) (hi : i < 4) (hk : k < 40) (hso : tSort i = nI so) (hso4 : so < 4) : CT l D cl tys yX10_cut cX10_cut 6 (some .long) ({ frames := 0, cells := 0, slots := 0, locals := 0 } : Room) [.ref (ma 0), .int (nI i), .int (nI k), .long v0] (HM D cl tys mi cI cJ cZ ma known fresh_ saved images isImage thrown tape taped size_ at_ begin_ token value open_ bad badPlace faultKind faultPlace xs ys pairs rows top heaps endsBehind path order firstOrder ordersMany tSort tMany numbers) (Ql (fun (v : Int64) (u : Unit) => v = cutV so v0) (fun (u : Unit) => HM D cl tys mi cI cJ cZ ma known fresh_ saved images isImage thrown tape taped size_ at_ begin_ token value open_ bad badPlace faultKind faultPlace xs ys pairs rows top heaps endsBehind path order firstOrder ordersMany tSort tMany (up numbers (40 * i + k) (cutV so v0))) (AM ma)) (AM ma) := by
  refine CT.of (L := [(0, .ref (ma 0)), (1, .int (nI i)), (2, .int (nI k)), (3, .long v0)]) rfl (by decide +kernel) rfl (Nat.le_of_ble_eq_true rfl) ?_
  refine g_bipush (v := nI 64) dX10_cut_0 (by decide +kernel) ?_
  refine g_bipush (v := nI 8) dX10_cut_2 (by decide +kernel) ?_
  refine g_aload_n 0 dX10_cut_4 rfl rfl ?_
  refine m_get_tSort dX10_cut_5 ?_
  refine g_iload_n 1 dX10_cut_8 rfl rfl ?_
  refine m_ld_tSort dX10_cut_9 (by omega) ?_
  refine GG.topi hso ?_
  refine g_ishl dX10_cut_10 ?_
  refine g_isub dX10_cut_11 ?_
  refine GG.topi (cut_sub hso4) ?_
  refine g_istore (L' := [(0, _), (1, _), (2, _), (3, _), (5, _)]) dX10_cut_12 (by decide) rfl rfl ?_
  refine g_aload_n 0 dX10_cut_14 rfl rfl ?_
  refine m_get_numbers dX10_cut_15 ?_
  refine g_bipush (v := nI 40) dX10_cut_18 (by decide +kernel) ?_
  refine g_iload_n 1 dX10_cut_20 rfl rfl ?_
  refine g_imul_n dX10_cut_21 ?_
  refine g_iload_n 2 dX10_cut_22 rfl rfl ?_
  refine g_iadd_n dX10_cut_23 ?_
  refine g_lload_n 3 dX10_cut_24 rfl rfl ?_
  refine g_iload dX10_cut_25 rfl ?_
  refine g_lshl dX10_cut_27 rfl ?_
  refine g_iload dX10_cut_28 rfl ?_
  refine g_lshr dX10_cut_30 rfl ?_
  refine m_st_numbers dX10_cut_31 (by omega) ?_
  refine g_aload_n 0 dX10_cut_32 rfl rfl ?_
  refine m_get_numbers dX10_cut_33 ?_
  refine g_bipush (v := nI 40) dX10_cut_36 (by decide +kernel) ?_
  refine g_iload_n 1 dX10_cut_38 rfl rfl ?_
  refine g_imul_n dX10_cut_39 ?_
  refine g_iload_n 2 dX10_cut_40 rfl rfl ?_
  refine g_iadd_n dX10_cut_41 ?_
  refine m_ld_numbers dX10_cut_42 (by omega) ?_
  exact g_lret () dX10_cut_43 (Nat.le_refl _) (Nat.le_refl _) (up_s _ _ _) (fun _ h => h)
set_option maxHeartbeats 4000000 in
/-- writes into a tray -/
theorem ct_write (Tr : Trays) (t0 p0 : Int32) (v0 : Int64) (hTr : TrM tSort tMany numbers Tr) : CT l D cl tys yX10_write cX10_write 5 (some .long) ({ frames := 3, cells := 0, slots := 0, locals := 66 } : Room) [.ref (ma 0), .int t0, .int p0, .long v0] (HM D cl tys mi cI cJ cZ ma known fresh_ saved images isImage thrown tape taped size_ at_ begin_ token value open_ bad badPlace faultKind faultPlace xs ys pairs rows top heaps endsBehind path order firstOrder ordersMany tSort tMany numbers) (Ql (fun (v : Int64) (u : Nat × (Nat → Int64)) => u.1 = (trWrite Tr t0 p0 v0).1 ∧ ((trWrite Tr t0 p0 v0).1 = 0 → v = (trWrite Tr t0 p0 v0).2.1) ∧ TrM tSort tMany u.2 (trWrite Tr t0 p0 v0).2.2) (fun (u : Nat × (Nat → Int64)) => HM D cl tys mi cI cJ cZ ma known fresh_ saved images isImage u.1 tape taped size_ at_ begin_ token value open_ bad badPlace faultKind faultPlace xs ys pairs rows top heaps endsBehind path order firstOrder ordersMany tSort tMany u.2) (AM ma)) (AM ma) := by
  refine CT.of (L := [(0, .ref (ma 0)), (1, .int t0), (2, .int p0), (3, .long v0)]) rfl (by decide +kernel) rfl (Nat.le_of_ble_eq_true rfl) ?_
  rcases hit : iR t0 4 with _ | i
  · skip
    skip
    · skip
      have h2f : trFault Tr t0 = 1 := (by first | (unfold trFault; rw [hit]; done) | (unfold trFault; rw [hit]; rfl) | (unfold trFault; simp only [hit]; done) | (unfold trFault; simp only [hit]; rfl))
      refine g_aload_n 0 dX10_write_0 rfl rfl ?_
      refine g_aload_n 0 dX10_write_1 rfl rfl ?_
      refine g_iload_n 1 dX10_write_2 rfl rfl ?_
      refine m_cVi (ct_trayFault Tr _ hTr) hvX10_trayFault hyX10_trayFault rfl ⟨Nat.le_of_ble_eq_true rfl, Nat.le_of_ble_eq_true rfl⟩ ⟨Nat.zero_le _, Nat.zero_le _⟩ rfl (Nat.le_of_ble_eq_true rfl) dX10_write_3 m_rec (fun r u9 hp => ?_)
      obtain rfl := hp
      refine GG.topi (y := nI 1) (congrArg nI h2f) ?_
      refine m_put_thrown dX10_write_6 ?_
      refine g_aload_n 0 dX10_write_9 rfl rfl ?_
      refine m_get_thrown dX10_write_10 ?_
      refine g_if_le_n (tgt := 18) dX10_write_13 (by decide) (by decide) (fun h => absurd h (by decide)) (fun _ => ?_)
      refine g_lconst (v := lN 0) dX10_write_16 (by decide +kernel) ?_
      exact g_lret (_, _) dX10_write_17 (Nat.le_refl _) (Nat.le_refl _) (by rw [show trWrite Tr _ _ _ = (1, 0, Tr) from by unfold trWrite; rw [hit]]; exact ⟨rfl, fun h => absurd h (Nat.succ_ne_zero _), hTr⟩) (fun _ h => h)
  · skip
    obtain ⟨hi, ei⟩ := iR_some hit
    subst ei
    rcases hTi : Tr i with _ | ⟨so, mn, vs⟩
    · skip
      have h2f : trFault Tr (nI i) = 2 := (by first | (unfold trFault; rw [hit, hTi]; done) | (unfold trFault; rw [hit, hTi]; rfl) | (unfold trFault; simp only [hit, hTi]; done) | (unfold trFault; simp only [hit, hTi]; rfl))
      refine g_aload_n 0 dX10_write_0 rfl rfl ?_
      refine g_aload_n 0 dX10_write_1 rfl rfl ?_
      refine g_iload_n 1 dX10_write_2 rfl rfl ?_
      refine m_cVi (ct_trayFault Tr _ hTr) hvX10_trayFault hyX10_trayFault rfl ⟨Nat.le_of_ble_eq_true rfl, Nat.le_of_ble_eq_true rfl⟩ ⟨Nat.zero_le _, Nat.zero_le _⟩ rfl (Nat.le_of_ble_eq_true rfl) dX10_write_3 m_rec (fun r u9 hp => ?_)
      obtain rfl := hp
      refine GG.topi (y := nI 2) (congrArg nI h2f) ?_
      refine m_put_thrown dX10_write_6 ?_
      refine g_aload_n 0 dX10_write_9 rfl rfl ?_
      refine m_get_thrown dX10_write_10 ?_
      refine g_if_le_n (tgt := 18) dX10_write_13 (by decide) (by decide) (fun h => absurd h (by decide)) (fun _ => ?_)
      refine g_lconst (v := lN 0) dX10_write_16 (by decide +kernel) ?_
      exact g_lret (_, _) dX10_write_17 (Nat.le_refl _) (Nat.le_refl _) (by rw [show trWrite Tr _ _ _ = (2, 0, Tr) from by unfold trWrite; rw [hit]; dsimp only; rw [hTi]]; exact ⟨rfl, fun h => absurd h (Nat.succ_ne_zero _), hTr⟩) (fun _ h => h)
    · skip
      have h2f : trFault Tr (nI i) = 0 := (by first | (unfold trFault; rw [hit, hTi]; done) | (unfold trFault; rw [hit, hTi]; rfl) | (unfold trFault; simp only [hit, hTi]; done) | (unfold trFault; simp only [hit, hTi]; rfl))
      obtain ⟨b1, b2, b3, b4, b5⟩ := (hTr i hi).2 so mn vs hTi
      subst b3
      rcases hip : iR p0 (tMany i) with _ | k
      · skip
        refine g_aload_n 0 dX10_write_0 rfl rfl ?_
        refine g_aload_n 0 dX10_write_1 rfl rfl ?_
        refine g_iload_n 1 dX10_write_2 rfl rfl ?_
        refine m_cVi (ct_trayFault Tr _ hTr) hvX10_trayFault hyX10_trayFault rfl ⟨Nat.le_of_ble_eq_true rfl, Nat.le_of_ble_eq_true rfl⟩ ⟨Nat.zero_le _, Nat.zero_le _⟩ rfl (Nat.le_of_ble_eq_true rfl) dX10_write_3 m_rec (fun r u9 hp => ?_)
        obtain rfl := hp
        refine GG.topi (y := nI 0) (congrArg nI h2f) ?_
        refine m_put_thrown dX10_write_6 ?_
        refine g_aload_n 0 dX10_write_9 rfl rfl ?_
        refine m_get_thrown dX10_write_10 ?_
        refine g_if_le_n (tgt := 18) dX10_write_13 (by decide) (by decide) (fun _ => ?_) (fun h => absurd h (by decide))
        refine g_iload_n 2 dX10_write_18 rfl rfl ?_
        refine g_i2l dX10_write_19 rfl ?_
        refine g_lconst (v := lN 0) dX10_write_20 (by decide +kernel) ?_
        refine g_aload_n 0 dX10_write_21 rfl rfl ?_
        refine m_get_tMany dX10_write_22 ?_
        refine g_iload_n 1 dX10_write_25 rfl rfl ?_
        refine m_ld_tMany dX10_write_26 (by omega) ?_
        refine g_iconst (v := nI 1) dX10_write_27 (by decide +kernel) ?_
        refine g_isub dX10_write_28 ?_
        refine g_i2l dX10_write_29 rfl ?_
        refine m_cSi (ct_within _ _ _) hsX10_within hyX10_within rfl ⟨Nat.le_of_ble_eq_true rfl, Nat.le_of_ble_eq_true rfl⟩ ⟨Nat.zero_le _, Nat.zero_le _⟩ rfl (Nat.le_of_ble_eq_true rfl) dX10_write_30 (fun r u9 hp => ?_)
        obtain rfl := hp
        refine GG.topi (y := nI 0) (by rw [wIn_iR p0 (by omega), hip]; rfl) ?_
        refine g_if_eq_n (tgt := 46) dX10_write_33 (by decide) (by decide) (fun _ => ?_) (fun h => absurd h (by decide))
        refine g_aload_n 0 dX10_write_46 rfl rfl ?_
        refine g_iconst (v := nI 3) dX10_write_47 (by decide +kernel) ?_
        refine m_cVi (ct_fails _) hvX10_fails hyX10_fails rfl ⟨Nat.le_of_ble_eq_true rfl, Nat.le_of_ble_eq_true rfl⟩ ⟨Nat.zero_le _, Nat.zero_le _⟩ rfl (Nat.le_of_ble_eq_true rfl) dX10_write_48 m_rec (fun r u9 hp => ?_)
        obtain rfl := hp
        refine g_i2l_n dX10_write_51 (by omega) ?_
        exact g_lret (_, _) dX10_write_52 (Nat.le_refl _) (Nat.le_refl _) (by rw [show trWrite Tr _ _ _ = (3, 0, Tr) from by unfold trWrite; rw [hit]; dsimp only; rw [hTi]; dsimp only; rw [hip]]; exact ⟨rfl, fun h => absurd h (Nat.succ_ne_zero _), hTr⟩) (fun _ h => h)
      · skip
        obtain ⟨hk, ek⟩ := iR_some hip
        subst ek
        refine g_aload_n 0 dX10_write_0 rfl rfl ?_
        refine g_aload_n 0 dX10_write_1 rfl rfl ?_
        refine g_iload_n 1 dX10_write_2 rfl rfl ?_
        refine m_cVi (ct_trayFault Tr _ hTr) hvX10_trayFault hyX10_trayFault rfl ⟨Nat.le_of_ble_eq_true rfl, Nat.le_of_ble_eq_true rfl⟩ ⟨Nat.zero_le _, Nat.zero_le _⟩ rfl (Nat.le_of_ble_eq_true rfl) dX10_write_3 m_rec (fun r u9 hp => ?_)
        obtain rfl := hp
        refine GG.topi (y := nI 0) (congrArg nI h2f) ?_
        refine m_put_thrown dX10_write_6 ?_
        refine g_aload_n 0 dX10_write_9 rfl rfl ?_
        refine m_get_thrown dX10_write_10 ?_
        refine g_if_le_n (tgt := 18) dX10_write_13 (by decide) (by decide) (fun _ => ?_) (fun h => absurd h (by decide))
        refine g_iload_n 2 dX10_write_18 rfl rfl ?_
        refine g_i2l_n dX10_write_19 (by omega) ?_
        refine g_lconst (v := lN 0) dX10_write_20 (by decide +kernel) ?_
        refine g_aload_n 0 dX10_write_21 rfl rfl ?_
        refine m_get_tMany dX10_write_22 ?_
        refine g_iload_n 1 dX10_write_25 rfl rfl ?_
        refine m_ld_tMany dX10_write_26 (by omega) ?_
        refine g_iconst (v := nI 1) dX10_write_27 (by decide +kernel) ?_
        refine g_isub dX10_write_28 ?_
        refine g_i2l dX10_write_29 rfl ?_
        refine m_cSi (ct_within _ _ _) hsX10_within hyX10_within rfl ⟨Nat.le_of_ble_eq_true rfl, Nat.le_of_ble_eq_true rfl⟩ ⟨Nat.zero_le _, Nat.zero_le _⟩ rfl (Nat.le_of_ble_eq_true rfl) dX10_write_30 (fun r u9 hp => ?_)
        obtain rfl := hp
        refine GG.topi (y := nI 1) (by rw [show wIn (lN k) (lN 0) (nI (tMany i) - nI 1).toInt64 = true from by rw [← nI_l (show k < 2 ^ 31 by omega), wIn_iR (nI k) (by omega), hip]; rfl]; rfl) ?_
        refine g_if_eq_n (tgt := 46) dX10_write_33 (by decide) (by decide) (fun h => absurd h (by decide)) (fun _ => ?_)
        refine g_aload_n 0 dX10_write_36 rfl rfl ?_
        refine g_iload_n 1 dX10_write_37 rfl rfl ?_
        refine g_iload_n 2 dX10_write_38 rfl rfl ?_
        refine g_lload_n 3 dX10_write_39 rfl rfl ?_
        refine m_cVl (ct_cut i k so _ hi (by omega) b1 b2) hvX10_cut hyX10_cut rfl ⟨Nat.le_of_ble_eq_true rfl, Nat.le_of_ble_eq_true rfl⟩ ⟨Nat.zero_le _, Nat.zero_le _⟩ rfl (Nat.le_of_ble_eq_true rfl) dX10_write_40 m_rec (fun r u9 hp => ?_)
        obtain rfl := hp
        refine g_goto (tgt := 52) dX10_write_43 (by decide) ?_
        exact g_lret (_, _) dX10_write_52 (Nat.le_refl _) (Nat.le_refl _) (by rw [show trWrite Tr (nI i) (nI k) v0 = (0, cutV so v0, up Tr i (some (so, tMany i, up vs k (cutV so v0)))) from by unfold trWrite; rw [hit]; dsimp only; rw [hTi]; dsimp only; rw [hip]]; exact ⟨rfl, fun _ => rfl, hTr.put hi hTi (fun j hj => up_n (by omega)) (fun z hz => up_off b5 z hz)⟩) (fun _ h => h)
set_option maxHeartbeats 4000000 in
/-- pours what is left into a tray -/
theorem ct_pour (T : Talk) (Tr : Trays) (t0 : Int32) (hK : KIs known T) (hTr : TrM tSort tMany numbers Tr) : CT l D cl tys yX10_pour cX10_pour 4 (some .int) ({ frames := 87, cells := 0, slots := 0, locals := 2570 } : Room) [.ref (ma 0), .int t0] (HM D cl tys mi cI cJ cZ ma known fresh_ saved images isImage thrown tape taped size_ at_ begin_ token value open_ bad badPlace faultKind faultPlace xs ys pairs rows top heaps endsBehind path order firstOrder ordersMany tSort tMany numbers) (Qi (fun (v : Int32) (u : (Nat × (Nat → Nat) × (Nat → Nat) × Nat × (Nat → Int64) × Nat × (Nat → Nat)) × (Nat → Int64)) => u.1.1 = (trPour Tr T t0).1 ∧ ((trPour Tr T t0).1 = 0 → v = (trPour Tr T t0).2.1) ∧ TrM tSort tMany u.2 (trPour Tr T t0).2.2) (fun (u : (Nat × (Nat → Nat) × (Nat → Nat) × Nat × (Nat → Int64) × Nat × (Nat → Nat)) × (Nat → Int64)) => HM D cl tys mi cI cJ cZ ma known fresh_ saved images isImage u.1.1 tape taped size_ at_ begin_ token value open_ bad badPlace faultKind faultPlace u.1.2.1 u.1.2.2.1 u.1.2.2.2.1 u.1.2.2.2.2.1 u.1.2.2.2.2.2.1 u.1.2.2.2.2.2.2 endsBehind path order firstOrder ordersMany tSort tMany u.2) (AM ma)) (AM ma) := by
  obtain ⟨⟨o1, o2, o3, o4, o5, o6, o7, o8, o9, o10⟩, k0, k1, k2, k3, k4, k5, k6, k7, k8⟩ := id hK
  refine CT.of (L := [(0, .ref (ma 0)), (1, .int t0)]) rfl (by decide +kernel) rfl (Nat.le_of_ble_eq_true rfl) ?_
  rcases hit : iR t0 4 with _ | i
  · skip
    skip
    · skip
      have h2f : trFault Tr t0 = 1 := (by first | (unfold trFault; rw [hit]; done) | (unfold trFault; rw [hit]; rfl) | (unfold trFault; simp only [hit]; done) | (unfold trFault; simp only [hit]; rfl))
      refine g_aload_n 0 dX10_pour_0 rfl rfl ?_
      refine g_aload_n 0 dX10_pour_1 rfl rfl ?_
      refine g_iload_n 1 dX10_pour_2 rfl rfl ?_
      refine m_cVi (ct_trayFault Tr _ hTr) hvX10_trayFault hyX10_trayFault rfl ⟨Nat.le_of_ble_eq_true rfl, Nat.le_of_ble_eq_true rfl⟩ ⟨Nat.zero_le _, Nat.zero_le _⟩ rfl (Nat.le_of_ble_eq_true rfl) dX10_pour_3 m_rec (fun r u9 hp => ?_)
      obtain rfl := hp
      refine GG.topi (y := nI 1) (congrArg nI h2f) ?_
      refine m_put_thrown dX10_pour_6 ?_
      refine g_aload_n 0 dX10_pour_9 rfl rfl ?_
      refine m_get_thrown dX10_pour_10 ?_
      refine g_if_le_n (tgt := 18) dX10_pour_13 (by decide) (by decide) (fun h => absurd h (by decide)) (fun _ => ?_)
      refine g_iconst (v := nI 0) dX10_pour_16 (by decide +kernel) ?_
      exact g_iret ((_, _, _, _, _, _, _), _) dX10_pour_17 (Nat.le_refl _) (Nat.le_refl _) (by rw [show trPour Tr T _ = (1, 0, Tr) from by unfold trPour; rw [hit]]; exact ⟨rfl, fun h => absurd h (Nat.succ_ne_zero _), hTr⟩) (fun _ h => h)
  · skip
    obtain ⟨hi, ei⟩ := iR_some hit
    subst ei
    rcases hTi : Tr i with _ | ⟨so, mn, vs⟩
    · skip
      have h2f : trFault Tr (nI i) = 2 := (by first | (unfold trFault; rw [hit, hTi]; done) | (unfold trFault; rw [hit, hTi]; rfl) | (unfold trFault; simp only [hit, hTi]; done) | (unfold trFault; simp only [hit, hTi]; rfl))
      refine g_aload_n 0 dX10_pour_0 rfl rfl ?_
      refine g_aload_n 0 dX10_pour_1 rfl rfl ?_
      refine g_iload_n 1 dX10_pour_2 rfl rfl ?_
      refine m_cVi (ct_trayFault Tr _ hTr) hvX10_trayFault hyX10_trayFault rfl ⟨Nat.le_of_ble_eq_true rfl, Nat.le_of_ble_eq_true rfl⟩ ⟨Nat.zero_le _, Nat.zero_le _⟩ rfl (Nat.le_of_ble_eq_true rfl) dX10_pour_3 m_rec (fun r u9 hp => ?_)
      obtain rfl := hp
      refine GG.topi (y := nI 2) (congrArg nI h2f) ?_
      refine m_put_thrown dX10_pour_6 ?_
      refine g_aload_n 0 dX10_pour_9 rfl rfl ?_
      refine m_get_thrown dX10_pour_10 ?_
      refine g_if_le_n (tgt := 18) dX10_pour_13 (by decide) (by decide) (fun h => absurd h (by decide)) (fun _ => ?_)
      refine g_iconst (v := nI 0) dX10_pour_16 (by decide +kernel) ?_
      exact g_iret ((_, _, _, _, _, _, _), _) dX10_pour_17 (Nat.le_refl _) (Nat.le_refl _) (by rw [show trPour Tr T _ = (2, 0, Tr) from by unfold trPour; rw [hit]; dsimp only; rw [hTi]]; exact ⟨rfl, fun h => absurd h (Nat.succ_ne_zero _), hTr⟩) (fun _ h => h)
    · skip
      have h2f : trFault Tr (nI i) = 0 := (by first | (unfold trFault; rw [hit, hTi]; done) | (unfold trFault; rw [hit, hTi]; rfl) | (unfold trFault; simp only [hit, hTi]; done) | (unfold trFault; simp only [hit, hTi]; rfl))
      obtain ⟨b1, b2, b3, b4, b5⟩ := (hTr i hi).2 so mn vs hTi
      subst b3
      refine g_aload_n 0 dX10_pour_0 rfl rfl ?_
      refine g_aload_n 0 dX10_pour_1 rfl rfl ?_
      refine g_iload_n 1 dX10_pour_2 rfl rfl ?_
      refine m_cVi (ct_trayFault Tr _ hTr) hvX10_trayFault hyX10_trayFault rfl ⟨Nat.le_of_ble_eq_true rfl, Nat.le_of_ble_eq_true rfl⟩ ⟨Nat.zero_le _, Nat.zero_le _⟩ rfl (Nat.le_of_ble_eq_true rfl) dX10_pour_3 m_rec (fun r u9 hp => ?_)
      obtain rfl := hp
      refine GG.topi (y := nI 0) (congrArg nI h2f) ?_
      refine m_put_thrown dX10_pour_6 ?_
      refine g_aload_n 0 dX10_pour_9 rfl rfl ?_
      refine m_get_thrown dX10_pour_10 ?_
      refine g_if_le_n (tgt := 18) dX10_pour_13 (by decide) (by decide) (fun _ => ?_) (fun h => absurd h (by decide))
      refine g_aload_n 0 dX10_pour_18 rfl rfl ?_
      refine m_cVv (ct_lays T hK) hvX10_lays hyX10_lays rfl ⟨Nat.le_of_ble_eq_true rfl, Nat.le_of_ble_eq_true rfl⟩ ⟨Nat.zero_le _, Nat.zero_le _⟩ rfl (Nat.le_of_ble_eq_true rfl) dX10_pour_19 m_rec (fun ul hul => ?_)
      obtain ⟨heapsL, rowsZ, xsL, ysL, pairsL⟩ := ul
      dsimp only
      obtain ⟨hl, hr⟩ := hul
      have hl : layd xsL ysL pairsL (tW T) := hl
      have hr : rowsL rowsZ T (tNT T) := hr
      have hW := layd_OK hl o1 o3
      have hP : pairsL ≤ 1830 := hW.1
      have hPT : pairsL = tP T := hl.1
      refine g_iconst (v := nI 0) dX10_pour_22 (by decide +kernel) ?_
      refine g_istore_n (L' := [(0, _), (1, _), (2, _)]) 2 dX10_pour_23 rfl (by decide) rfl rfl ?_
      refine g_iconst (v := nI 0) dX10_pour_24 (by decide +kernel) ?_
      refine g_istore_n (L' := [(0, _), (1, _), (2, _), (3, _)]) 3 dX10_pour_25 rfl (by decide) rfl rfl ?_
      have loop26 : ∀ (q26 : Nat) (w n : Nat) (nm1 : Nat → Int64), tP T - w < q26 → (w ≤ tP T) → (n = min (tMany i) (placesL (leftT T (tNT T)) w).length) → (∀ j, (j < 40 * i ∨ 40 * i + 40 ≤ j) → nm1 j = numbers j) → (∀ z, z < n → nm1 (40 * i + z) = cutV so (lN ((placesL (leftT T (tNT T)) w).getD z 0))) → (∀ z, n ≤ z → nm1 (40 * i + z) = numbers (40 * i + z)) → GG l D cl tys cX10_pour 4 (some .int) RX10 ({ frames := 87, cells := 0, slots := 0, locals := 2570 } : Room) (AM ma) MT (QM (Qi (fun (v : Int32) (u : (Nat × (Nat → Nat) × (Nat → Nat) × Nat × (Nat → Int64) × Nat × (Nat → Nat)) × (Nat → Int64)) => u.1.1 = (trPour Tr T (nI i)).1 ∧ ((trPour Tr T (nI i)).1 = 0 → v = (trPour Tr T (nI i)).2.1) ∧ TrM tSort tMany u.2 (trPour Tr T (nI i)).2.2) (fun (u : (Nat × (Nat → Nat) × (Nat → Nat) × Nat × (Nat → Int64) × Nat × (Nat → Nat)) × (Nat → Int64)) => HM D cl tys mi cI cJ cZ ma known fresh_ saved images isImage u.1.1 tape taped size_ at_ begin_ token value open_ bad badPlace faultKind faultPlace u.1.2.1 u.1.2.2.1 u.1.2.2.2.1 u.1.2.2.2.2.1 u.1.2.2.2.2.2.1 u.1.2.2.2.2.2.2 endsBehind path order firstOrder ordersMany tSort tMany u.2) (AM ma)) 0 0 (AM ma)) (HM D cl tys mi cI cJ cZ ma known fresh_ saved images isImage 0 tape taped size_ at_ begin_ token value open_ bad badPlace faultKind faultPlace xsL ysL pairsL rowsZ 21 heapsL endsBehind path order firstOrder ordersMany tSort tMany nm1) 0 0 26 [(0, .ref (ma 0)), (1, .int (nI i)), (2, .int (nI n)), (3, .int (nI w))] [] := by
        intro q26
        induction q26 with
        | zero => intro w n nm1 hq26; exact absurd hq26 (Nat.not_lt_zero _)
        | succ q26 ih26 =>
          intro w n nm1 hq26 hP2 hnl hout hin hno
          refine g_iload_n 3 dX10_pour_26 rfl rfl ?_
          refine g_aload_n 0 dX10_pour_27 rfl rfl ?_
          refine m_get_pairs dX10_pour_28 ?_
          refine g_icmp_ge_n (tgt := 80) dX10_pour_31 (by decide) (by omega) (by omega) (fun c31 => ?_) (fun c31 => ?_)
          · skip
            refine g_iload_n 2 dX10_pour_80 rfl rfl ?_
            exact g_iret ((_, _, _, _, _, _, _), _) dX10_pour_81 (Nat.le_refl _) (Nat.le_refl _) (by have hnn : n = min (tMany i) (leftN T (tNT T)) := pour_end hP2 hnl (by first | exact Or.inl (by omega) | exact Or.inr c41); rw [trPour_ok hit hTi, ← hnn]; exact ⟨rfl, fun _ => rfl, hTr.put hi hTi hout (fun z hz => pour_in b5 hP2 hin hno (by omega) z hz)⟩) (fun _ h => h)
          · skip
            refine g_iload_n 2 dX10_pour_34 rfl rfl ?_
            refine g_aload_n 0 dX10_pour_35 rfl rfl ?_
            refine m_get_tMany dX10_pour_36 ?_
            refine g_iload_n 1 dX10_pour_39 rfl rfl ?_
            refine m_ld_tMany dX10_pour_40 (by omega) ?_
            refine g_icmp_ge_n (tgt := 80) dX10_pour_41 (by decide) (by omega) (by omega) (fun c41 => ?_) (fun c41 => ?_)
            · skip
              refine g_iload_n 2 dX10_pour_80 rfl rfl ?_
              exact g_iret ((_, _, _, _, _, _, _), _) dX10_pour_81 (Nat.le_refl _) (Nat.le_refl _) (by have hnn : n = min (tMany i) (leftN T (tNT T)) := pour_end hP2 hnl (by first | exact Or.inl (by omega) | exact Or.inr c41); rw [trPour_ok hit hTi, ← hnn]; exact ⟨rfl, fun _ => rfl, hTr.put hi hTi hout (fun z hz => pour_in b5 hP2 hin hno (by omega) z hz)⟩) (fun _ h => h)
            · skip
              refine g_aload_n 0 dX10_pour_44 rfl rfl ?_
              refine g_aload_n 0 dX10_pour_45 rfl rfl ?_
              refine m_get_known dX10_pour_46 ?_
              refine g_bipush (v := nI 6) dX10_pour_49 (by decide +kernel) ?_
              refine m_ld_known dX10_pour_51 (by omega) ?_
              refine GG.topi k6 ?_
              refine g_iload_n 3 dX10_pour_52 rfl rfl ?_
              refine m_cVi (ct_has _ _ (by omega) (by omega)) hvX10_has hyX10_has rfl ⟨Nat.le_of_ble_eq_true rfl, Nat.le_of_ble_eq_true rfl⟩ ⟨Nat.zero_le _, Nat.zero_le _⟩ rfl (Nat.le_of_ble_eq_true rfl) dX10_pour_53 m_rec (fun r u9 hp => ?_)
              obtain rfl := hp
              refine GG.topi (y := bI (leftT T (tNT T) w)) (congrArg bI (hr _ w (Nat.le_refl _) (by omega))) ?_
              refine g_if_ne_b (tgt := 62) dX10_pour_56 (by decide) (fun c56 => ?_) (fun c56 => ?_)
              · skip
                refine g_aload_n 0 dX10_pour_62 rfl rfl ?_
                refine g_iload_n 1 dX10_pour_63 rfl rfl ?_
                refine g_iload_n 2 dX10_pour_64 rfl rfl ?_
                refine g_iload_n 3 dX10_pour_65 rfl rfl ?_
                refine g_i2l_n dX10_pour_66 (by omega) ?_
                refine m_cVl (ct_cut i n so _ hi (by omega) b1 b2) hvX10_cut hyX10_cut rfl ⟨Nat.le_of_ble_eq_true rfl, Nat.le_of_ble_eq_true rfl⟩ ⟨Nat.zero_le _, Nat.zero_le _⟩ rfl (Nat.le_of_ble_eq_true rfl) dX10_pour_67 m_rec (fun r u9 hp => ?_)
                obtain rfl := hp
                refine g_pop2_2 dX10_pour_70 rfl ?_
                refine g_iinc_n (b := 1) (L' := [(0, _), (1, _), (2, _), (3, _)]) dX10_pour_71 rfl rfl (by decide) rfl rfl ?_
                refine g_iinc_n (b := 1) (L' := [(0, _), (1, _), (2, _), (3, _)]) dX10_pour_74 rfl rfl (by decide) rfl rfl ?_
                refine g_goto (tgt := 26) dX10_pour_77 (by decide) ?_
                first
                  | exact ih26 (w + 1) n nm1 (by omega) (by omega) (by rw [placesL_n c56]; exact hnl) hout (by rw [placesL_n c56]; exact hin) hno
                  | exact ih26 (w + 1) (n + 1) _ (by omega) (by omega) (by rw [placesL_y c56, List.length_append]; show n + 1 = min (tMany i) (_ + 1); omega) (fun j hj => by rw [up_n (by omega)]; exact hout j hj) (pour_up c56 (by omega) hin) (fun z hz => by rw [up_n (by omega)]; exact hno z (by omega))
              · skip
                refine g_goto (tgt := 74) dX10_pour_59 (by decide) ?_
                refine g_iinc_n (b := 1) (L' := [(0, _), (1, _), (2, _), (3, _)]) dX10_pour_74 rfl rfl (by decide) rfl rfl ?_
                refine g_goto (tgt := 26) dX10_pour_77 (by decide) ?_
                first
                  | exact ih26 (w + 1) n nm1 (by omega) (by omega) (by rw [placesL_n c56]; exact hnl) hout (by rw [placesL_n c56]; exact hin) hno
                  | exact ih26 (w + 1) (n + 1) _ (by omega) (by omega) (by rw [placesL_y c56, List.length_append]; show n + 1 = min (tMany i) (_ + 1); omega) (fun j hj => by rw [up_n (by omega)]; exact hout j hj) (pour_up c56 (by omega) hin) (fun z hz => by rw [up_n (by omega)]; exact hno z (by omega))
      exact loop26 (tP T + 1) 0 0 numbers (by omega) (Nat.zero_le _) (by show 0 = min (tMany i) 0; omega) (fun _ _ => rfl) (fun z hz => absurd hz (Nat.not_lt_zero _)) (fun _ _ => rfl)
set_option maxHeartbeats 4000000 in
/-- keeps an image -/
theorem ct_image (T : Talk) (Im : Imgs) (i0 : Int32) (hK : KIs known T) (hIm : ImM isImage images Im) : CT l D cl tys yX10_image cX10_image 3 none ({ frames := 1, cells := 0, slots := 0, locals := 25 } : Room) [.ref (ma 0), .int i0] (HM D cl tys mi cI cJ cZ ma known fresh_ saved images isImage thrown tape taped size_ at_ begin_ token value open_ bad badPlace faultKind faultPlace xs ys pairs rows top heaps endsBehind path order firstOrder ordersMany tSort tMany numbers) (Qv (fun (u : Nat × (Nat → Bool) × (Nat → Int32)) => u.1 = (imKeep Im T i0).1 ∧ ImM u.2.1 u.2.2 (imKeep Im T i0).2) (fun (u : Nat × (Nat → Bool) × (Nat → Int32)) => HM D cl tys mi cI cJ cZ ma known fresh_ saved u.2.2 u.2.1 u.1 tape taped size_ at_ begin_ token value open_ bad badPlace faultKind faultPlace xs ys pairs rows top heaps endsBehind path order firstOrder ordersMany tSort tMany numbers) (AM ma)) (AM ma) := by
  refine CT.of (L := [(0, .ref (ma 0)), (1, .int i0)]) rfl (by decide +kernel) rfl (Nat.le_of_ble_eq_true rfl) ?_
  rcases hit : iR i0 3 with _ | i
  · skip
    refine g_aload_n 0 dX10_image_0 rfl rfl ?_
    refine g_iload_n 1 dX10_image_1 rfl rfl ?_
    refine g_i2l dX10_image_2 rfl ?_
    refine g_lconst (v := lN 0) dX10_image_3 (by decide +kernel) ?_
    refine g_ldc2 (v := lN 2) dX10_image_4 q2376 ?_
    refine m_cSi (ct_within _ _ _) hsX10_within hyX10_within rfl ⟨Nat.le_of_ble_eq_true rfl, Nat.le_of_ble_eq_true rfl⟩ ⟨Nat.zero_le _, Nat.zero_le _⟩ rfl (Nat.le_of_ble_eq_true rfl) dX10_image_7 (fun r u9 hp => ?_)
    obtain rfl := hp
    refine GG.topi (y := nI 0) (by rw [wIn_0 i0 (by decide) hit]; rfl) ?_
    refine g_if_eq_n (tgt := 17) dX10_image_10 (by decide) (by decide) (fun _ => ?_) (fun h => absurd h (by decide))
    refine g_iconst (v := nI 1) dX10_image_17 (by decide +kernel) ?_
    refine m_put_thrown dX10_image_18 ?_
    refine g_aload_n 0 dX10_image_21 rfl rfl ?_
    refine m_get_thrown dX10_image_22 ?_
    refine g_if_le_n (tgt := 29) dX10_image_25 (by decide) (by decide) (fun h => absurd h (by decide)) (fun _ => ?_)
    exact g_vret (_, _, _) dX10_image_28 (Nat.le_refl _) (Nat.le_refl _) (by rw [show imKeep Im T _ = (1, Im) from by unfold imKeep; rw [hit]]; exact ⟨rfl, hIm⟩) (fun _ h => h)
  · skip
    obtain ⟨hi, ei⟩ := iR_some hit
    subst ei
    refine g_aload_n 0 dX10_image_0 rfl rfl ?_
    refine g_iload_n 1 dX10_image_1 rfl rfl ?_
    refine g_i2l_n dX10_image_2 (by omega) ?_
    refine g_lconst (v := lN 0) dX10_image_3 (by decide +kernel) ?_
    refine g_ldc2 (v := lN 2) dX10_image_4 q2376 ?_
    refine m_cSi (ct_within _ _ _) hsX10_within hyX10_within rfl ⟨Nat.le_of_ble_eq_true rfl, Nat.le_of_ble_eq_true rfl⟩ ⟨Nat.zero_le _, Nat.zero_le _⟩ rfl (Nat.le_of_ble_eq_true rfl) dX10_image_7 (fun r u9 hp => ?_)
    obtain rfl := hp
    refine GG.topi (y := nI 1) (by rw [show wIn (lN i) (lN 0) (lN 2) = true from decide_eq_true (by rw [lN_toInt (by omega), lN_toInt (by omega), lN_toInt (by omega)]; omega)]; rfl) ?_
    refine g_if_eq_n (tgt := 17) dX10_image_10 (by decide) (by decide) (fun h => absurd h (by decide)) (fun _ => ?_)
    refine g_iconst (v := nI 0) dX10_image_13 (by decide +kernel) ?_
    refine g_goto (tgt := 18) dX10_image_14 (by decide) ?_
    refine m_put_thrown dX10_image_18 ?_
    refine g_aload_n 0 dX10_image_21 rfl rfl ?_
    refine m_get_thrown dX10_image_22 ?_
    refine g_if_le_n (tgt := 29) dX10_image_25 (by decide) (by decide) (fun _ => ?_) (fun h => absurd h (by decide))
    refine g_aload_n 0 dX10_image_29 rfl rfl ?_
    refine m_get_isImage dX10_image_30 ?_
    refine g_iload_n 1 dX10_image_33 rfl rfl ?_
    refine g_iconst (v := nI 1) dX10_image_34 (by decide +kernel) ?_
    refine m_st_isImage (z := true) dX10_image_35 (by omega) ?_
    refine g_iconst (v := nI 0) dX10_image_36 (by decide +kernel) ?_
    refine g_istore_n (L' := [(0, _), (1, _), (2, _)]) 2 dX10_image_37 rfl (by decide) rfl rfl ?_
    have loop38 : ∀ (q38 : Nat) (k : Nat) (im1 : Nat → Int32), 1868 - k < q38 → (k ≤ 1868) → (∀ j, (j < 1868 * i ∨ 1868 * i + 1868 ≤ j) → im1 j = images j) → (∀ z, z < k → im1 (1868 * i + z) = known z) → GG l D cl tys cX10_image 3 none RX10 ({ frames := 1, cells := 0, slots := 0, locals := 25 } : Room) (AM ma) MT (QM (Qv (fun (u : Nat × (Nat → Bool) × (Nat → Int32)) => u.1 = (imKeep Im T (nI i)).1 ∧ ImM u.2.1 u.2.2 (imKeep Im T (nI i)).2) (fun (u : Nat × (Nat → Bool) × (Nat → Int32)) => HM D cl tys mi cI cJ cZ ma known fresh_ saved u.2.2 u.2.1 u.1 tape taped size_ at_ begin_ token value open_ bad badPlace faultKind faultPlace xs ys pairs rows top heaps endsBehind path order firstOrder ordersMany tSort tMany numbers) (AM ma)) 0 0 (AM ma)) (HM D cl tys mi cI cJ cZ ma known fresh_ saved im1 (up isImage i true) 0 tape taped size_ at_ begin_ token value open_ bad badPlace faultKind faultPlace xs ys pairs rows top heaps endsBehind path order firstOrder ordersMany tSort tMany numbers) 0 0 38 [(0, .ref (ma 0)), (1, .int (nI i)), (2, .int (nI k))] [] := by
      intro q38
      induction q38 with
      | zero => intro k im1 hq38; exact absurd hq38 (Nat.not_lt_zero _)
      | succ q38 ih38 =>
        intro k im1 hq38 hk hout hin
        refine g_iload_n 2 dX10_image_38 rfl rfl ?_
        refine g_sipush (v := nI 1868) dX10_image_39 (by decide +kernel) ?_
        refine g_icmp_ge_n (tgt := 69) dX10_image_42 (by decide) (by omega) (by omega) (fun c42 => ?_) (fun c42 => ?_)
        · skip
          exact g_vret (_, _, _) dX10_image_69 (Nat.le_refl _) (Nat.le_refl _) (by have e9 : k = 1868 := (by omega); rw [show imKeep Im T (nI i) = (0, up Im i (some T)) from by unfold imKeep; rw [hit]]; exact ⟨rfl, hIm.put hout (hK.congr (fun j hj => hin j (by omega)))⟩) (fun _ h => h)
        · skip
          refine g_aload_n 0 dX10_image_45 rfl rfl ?_
          refine m_get_images dX10_image_46 ?_
          refine g_sipush (v := nI 1868) dX10_image_49 (by decide +kernel) ?_
          refine g_iload_n 1 dX10_image_52 rfl rfl ?_
          refine g_imul_n dX10_image_53 ?_
          refine g_iload_n 2 dX10_image_54 rfl rfl ?_
          refine g_iadd_n dX10_image_55 ?_
          refine g_aload_n 0 dX10_image_56 rfl rfl ?_
          refine m_get_known dX10_image_57 ?_
          refine g_iload_n 2 dX10_image_60 rfl rfl ?_
          refine m_ld_known dX10_image_61 (by omega) ?_
          refine m_st_images dX10_image_62 (by omega) ?_
          refine g_iinc_n (b := 1) (L' := [(0, _), (1, _), (2, _)]) dX10_image_63 rfl rfl (by decide) rfl rfl ?_
          refine g_goto (tgt := 38) dX10_image_66 (by decide) ?_
          refine ih38 (k + 1) _ (by omega) (by omega) (fun j hj => ?_) (fun z hz => ?_)
          · rw [up_n (by omega)]; exact hout j hj
          · by_cases q : z = k
            · rw [q, up_s]
            · rw [up_n (by omega)]; exact hin z (by omega)
    exact loop38 1869 0 images (by omega) (by omega) (fun _ _ => rfl) (fun z hz => absurd hz (Nat.not_lt_zero _))
set_option maxHeartbeats 4000000 in
/-- an image is the talk again -/
theorem ct_restore (T : Talk) (Im : Imgs) (i0 : Int32) (hK : KIs known T) (hIm : ImM isImage images Im) : CT l D cl tys yX10_restore cX10_restore 3 none ({ frames := 1, cells := 0, slots := 0, locals := 25 } : Room) [.ref (ma 0), .int i0] (HM D cl tys mi cI cJ cZ ma known fresh_ saved images isImage thrown tape taped size_ at_ begin_ token value open_ bad badPlace faultKind faultPlace xs ys pairs rows top heaps endsBehind path order firstOrder ordersMany tSort tMany numbers) (Qv (fun (u : Nat × (Nat → Int32)) => u.1 = (imBack Im T i0).1 ∧ KIs u.2 (imBack Im T i0).2) (fun (u : Nat × (Nat → Int32)) => HM D cl tys mi cI cJ cZ ma u.2 fresh_ saved images isImage u.1 tape taped size_ at_ begin_ token value open_ bad badPlace faultKind faultPlace xs ys pairs rows top heaps endsBehind path order firstOrder ordersMany tSort tMany numbers) (AM ma)) (AM ma) := by
  refine CT.of (L := [(0, .ref (ma 0)), (1, .int i0)]) rfl (by decide +kernel) rfl (Nat.le_of_ble_eq_true rfl) ?_
  rcases hit : iR i0 3 with _ | i
  · skip
    refine g_aload_n 0 dX10_restore_0 rfl rfl ?_
    refine g_iload_n 1 dX10_restore_1 rfl rfl ?_
    refine g_i2l dX10_restore_2 rfl ?_
    refine g_lconst (v := lN 0) dX10_restore_3 (by decide +kernel) ?_
    refine g_ldc2 (v := lN 2) dX10_restore_4 q2376 ?_
    refine m_cSi (ct_within _ _ _) hsX10_within hyX10_within rfl ⟨Nat.le_of_ble_eq_true rfl, Nat.le_of_ble_eq_true rfl⟩ ⟨Nat.zero_le _, Nat.zero_le _⟩ rfl (Nat.le_of_ble_eq_true rfl) dX10_restore_7 (fun r u9 hp => ?_)
    obtain rfl := hp
    refine GG.topi (y := nI 0) (by rw [wIn_0 i0 (by decide) hit]; rfl) ?_
    refine g_if_ne_n (tgt := 17) dX10_restore_10 (by decide) (by decide) (fun h => absurd h (by decide)) (fun _ => ?_)
    refine g_iconst (v := nI 1) dX10_restore_13 (by decide +kernel) ?_
    refine g_goto (tgt := 31) dX10_restore_14 (by decide) ?_
    refine m_put_thrown dX10_restore_31 ?_
    refine g_aload_n 0 dX10_restore_34 rfl rfl ?_
    refine m_get_thrown dX10_restore_35 ?_
    refine g_if_le_n (tgt := 42) dX10_restore_38 (by decide) (by decide) (fun h => absurd h (by decide)) (fun _ => ?_)
    exact g_vret (_, _) dX10_restore_41 (Nat.le_refl _) (Nat.le_refl _) (by rw [show imBack Im T _ = (1, T) from by unfold imBack; rw [hit]]; exact ⟨rfl, hK⟩) (fun _ h => h)
  · skip
    obtain ⟨hi, ei⟩ := iR_some hit
    subst ei
    rcases hTi : Im i with _ | T2
    · skip
      have hs9 := (hIm i hi).1 hTi
      refine g_aload_n 0 dX10_restore_0 rfl rfl ?_
      refine g_iload_n 1 dX10_restore_1 rfl rfl ?_
      refine g_i2l_n dX10_restore_2 (by omega) ?_
      refine g_lconst (v := lN 0) dX10_restore_3 (by decide +kernel) ?_
      refine g_ldc2 (v := lN 2) dX10_restore_4 q2376 ?_
      refine m_cSi (ct_within _ _ _) hsX10_within hyX10_within rfl ⟨Nat.le_of_ble_eq_true rfl, Nat.le_of_ble_eq_true rfl⟩ ⟨Nat.zero_le _, Nat.zero_le _⟩ rfl (Nat.le_of_ble_eq_true rfl) dX10_restore_7 (fun r u9 hp => ?_)
      obtain rfl := hp
      refine GG.topi (y := nI 1) (by rw [show wIn (lN i) (lN 0) (lN 2) = true from decide_eq_true (by rw [lN_toInt (by omega), lN_toInt (by omega), lN_toInt (by omega)]; omega)]; rfl) ?_
      refine g_if_ne_n (tgt := 17) dX10_restore_10 (by decide) (by decide) (fun _ => ?_) (fun h => absurd h (by decide))
      refine g_aload_n 0 dX10_restore_17 rfl rfl ?_
      refine m_get_isImage dX10_restore_18 ?_
      refine g_iload_n 1 dX10_restore_21 rfl rfl ?_
      refine m_ld_isImage dX10_restore_22 (by omega) ?_
      refine g_if_ne_b (tgt := 30) dX10_restore_23 (by decide) (fun c23 => ?_) (fun c23 => ?_)
      · skip
        exact absurd (hs9.symm.trans c23) (by decide)
      · skip
        refine g_iconst (v := nI 2) dX10_restore_26 (by decide +kernel) ?_
        refine g_goto (tgt := 31) dX10_restore_27 (by decide) ?_
        refine m_put_thrown dX10_restore_31 ?_
        refine g_aload_n 0 dX10_restore_34 rfl rfl ?_
        refine m_get_thrown dX10_restore_35 ?_
        refine g_if_le_n (tgt := 42) dX10_restore_38 (by decide) (by decide) (fun h => absurd h (by decide)) (fun _ => ?_)
        exact g_vret (_, _) dX10_restore_41 (Nat.le_refl _) (Nat.le_refl _) (by rw [show imBack Im T (nI i) = (2, T) from by unfold imBack; rw [hit]; dsimp only; rw [hTi]]; exact ⟨rfl, hK⟩) (fun _ h => h)
    · skip
      obtain ⟨b1, b2⟩ := (hIm i hi).2 T2 hTi
      refine g_aload_n 0 dX10_restore_0 rfl rfl ?_
      refine g_iload_n 1 dX10_restore_1 rfl rfl ?_
      refine g_i2l_n dX10_restore_2 (by omega) ?_
      refine g_lconst (v := lN 0) dX10_restore_3 (by decide +kernel) ?_
      refine g_ldc2 (v := lN 2) dX10_restore_4 q2376 ?_
      refine m_cSi (ct_within _ _ _) hsX10_within hyX10_within rfl ⟨Nat.le_of_ble_eq_true rfl, Nat.le_of_ble_eq_true rfl⟩ ⟨Nat.zero_le _, Nat.zero_le _⟩ rfl (Nat.le_of_ble_eq_true rfl) dX10_restore_7 (fun r u9 hp => ?_)
      obtain rfl := hp
      refine GG.topi (y := nI 1) (by rw [show wIn (lN i) (lN 0) (lN 2) = true from decide_eq_true (by rw [lN_toInt (by omega), lN_toInt (by omega), lN_toInt (by omega)]; omega)]; rfl) ?_
      refine g_if_ne_n (tgt := 17) dX10_restore_10 (by decide) (by decide) (fun _ => ?_) (fun h => absurd h (by decide))
      refine g_aload_n 0 dX10_restore_17 rfl rfl ?_
      refine m_get_isImage dX10_restore_18 ?_
      refine g_iload_n 1 dX10_restore_21 rfl rfl ?_
      refine m_ld_isImage dX10_restore_22 (by omega) ?_
      refine g_if_ne_b (tgt := 30) dX10_restore_23 (by decide) (fun c23 => ?_) (fun c23 => ?_)
      · skip
        refine g_iconst (v := nI 0) dX10_restore_30 (by decide +kernel) ?_
        refine m_put_thrown dX10_restore_31 ?_
        refine g_aload_n 0 dX10_restore_34 rfl rfl ?_
        refine m_get_thrown dX10_restore_35 ?_
        refine g_if_le_n (tgt := 42) dX10_restore_38 (by decide) (by decide) (fun _ => ?_) (fun h => absurd h (by decide))
        refine g_iconst (v := nI 0) dX10_restore_42 (by decide +kernel) ?_
        refine g_istore_n (L' := [(0, _), (1, _), (2, _)]) 2 dX10_restore_43 rfl (by decide) rfl rfl ?_
        have loop44 : ∀ (q44 : Nat) (k : Nat) (kn1 : Nat → Int32), 1868 - k < q44 → (k ≤ 1868) → (∀ z, z < k → kn1 z = images (1868 * i + z)) → GG l D cl tys cX10_restore 3 none RX10 ({ frames := 1, cells := 0, slots := 0, locals := 25 } : Room) (AM ma) MT (QM (Qv (fun (u : Nat × (Nat → Int32)) => u.1 = (imBack Im T (nI i)).1 ∧ KIs u.2 (imBack Im T (nI i)).2) (fun (u : Nat × (Nat → Int32)) => HM D cl tys mi cI cJ cZ ma u.2 fresh_ saved images isImage u.1 tape taped size_ at_ begin_ token value open_ bad badPlace faultKind faultPlace xs ys pairs rows top heaps endsBehind path order firstOrder ordersMany tSort tMany numbers) (AM ma)) 0 0 (AM ma)) (HM D cl tys mi cI cJ cZ ma kn1 fresh_ saved images isImage 0 tape taped size_ at_ begin_ token value open_ bad badPlace faultKind faultPlace xs ys pairs rows top heaps endsBehind path order firstOrder ordersMany tSort tMany numbers) 0 0 44 [(0, .ref (ma 0)), (1, .int (nI i)), (2, .int (nI k))] [] := by
          intro q44
          induction q44 with
          | zero => intro k kn1 hq44; exact absurd hq44 (Nat.not_lt_zero _)
          | succ q44 ih44 =>
            intro k kn1 hq44 hk hin
            refine g_iload_n 2 dX10_restore_44 rfl rfl ?_
            refine g_sipush (v := nI 1868) dX10_restore_45 (by decide +kernel) ?_
            refine g_icmp_ge_n (tgt := 75) dX10_restore_48 (by decide) (by omega) (by omega) (fun c48 => ?_) (fun c48 => ?_)
            · skip
              exact g_vret (_, _) dX10_restore_75 (Nat.le_refl _) (Nat.le_refl _) (by have e9 : k = 1868 := (by omega); rw [show imBack Im T (nI i) = (0, T2) from by unfold imBack; rw [hit]; dsimp only; rw [hTi]]; exact ⟨rfl, b2.congr (fun j hj => hin j (by omega))⟩) (fun _ h => h)
            · skip
              refine g_aload_n 0 dX10_restore_51 rfl rfl ?_
              refine m_get_known dX10_restore_52 ?_
              refine g_iload_n 2 dX10_restore_55 rfl rfl ?_
              refine g_aload_n 0 dX10_restore_56 rfl rfl ?_
              refine m_get_images dX10_restore_57 ?_
              refine g_sipush (v := nI 1868) dX10_restore_60 (by decide +kernel) ?_
              refine g_iload_n 1 dX10_restore_63 rfl rfl ?_
              refine g_imul_n dX10_restore_64 ?_
              refine g_iload_n 2 dX10_restore_65 rfl rfl ?_
              refine g_iadd_n dX10_restore_66 ?_
              refine m_ld_images dX10_restore_67 (by omega) ?_
              refine m_st_known dX10_restore_68 (by omega) ?_
              refine g_iinc_n (b := 1) (L' := [(0, _), (1, _), (2, _)]) dX10_restore_69 rfl rfl (by decide) rfl rfl ?_
              refine g_goto (tgt := 44) dX10_restore_72 (by decide) ?_
              refine ih44 (k + 1) _ (by omega) (by omega) (fun z hz => ?_)
              by_cases q : z = k
              · rw [q, up_s]
              · rw [up_n q]; exact hin z (by omega)
        exact loop44 1869 0 known (by omega) (by omega) (fun z hz => absurd hz (Nat.not_lt_zero _))
      · skip
        exact absurd (b1.symm.trans c23) (by decide)
set_option maxHeartbeats 4000000 in
/-- counts -/
theorem ct_count (T : Talk) (wh : Int32) (hK : KIs known T) : CT l D cl tys yX10_count cX10_count 2 (some .int) ({ frames := 1, cells := 0, slots := 0, locals := 22 } : Room) [.ref (ma 0), .int wh] (HM D cl tys mi cI cJ cZ ma known fresh_ saved images isImage thrown tape taped size_ at_ begin_ token value open_ bad badPlace faultKind faultPlace xs ys pairs rows top heaps endsBehind path order firstOrder ordersMany tSort tMany numbers) (Qi (fun (v : Int32) (u : Nat × (Nat → Nat) × (Nat → Nat) × Nat × (Nat → Int64) × Nat × (Nat → Nat)) => u.1 = 0 ∧ v = aCount T taped wh) (fun (u : Nat × (Nat → Nat) × (Nat → Nat) × Nat × (Nat → Int64) × Nat × (Nat → Nat)) => HM D cl tys mi cI cJ cZ ma known fresh_ saved images isImage u.1 tape taped size_ at_ begin_ token value open_ bad badPlace faultKind faultPlace u.2.1 u.2.2.1 u.2.2.2.1 u.2.2.2.2.1 u.2.2.2.2.2.1 u.2.2.2.2.2.2 endsBehind path order firstOrder ordersMany tSort tMany numbers) (AM ma)) (AM ma) := by
  obtain ⟨⟨o1, o2, o3, o4, o5, o6, o7, o8, o9, o10⟩, k0, k1, k2, k3, k4, k5, k6, k7, k8⟩ := id hK
  refine CT.of (L := [(0, .ref (ma 0)), (1, .int wh)]) rfl (by decide +kernel) rfl (Nat.le_of_ble_eq_true rfl) ?_
  rcases hit : iR wh 9 with _ | i
  · skip
    refine g_aload_n 0 dX10_count_0 rfl rfl ?_
    refine g_iconst (v := nI 0) dX10_count_1 (by decide +kernel) ?_
    refine m_put_thrown dX10_count_2 ?_
    refine g_aload_n 0 dX10_count_5 rfl rfl ?_
    refine m_cVv (ct_layPairs (tLow T) (tHigh T) (tMost T) (tUn T) k1 k2 k3 k4 o1 o2 o3 o4 o5) hvX10_layPairs hyX10_layPairs rfl ⟨Nat.le_of_ble_eq_true rfl, Nat.le_of_ble_eq_true rfl⟩ ⟨Nat.zero_le _, Nat.zero_le _⟩ rfl (Nat.le_of_ble_eq_true rfl) dX10_count_6 m_rec (fun ul hld => ?_)
    obtain ⟨xsL, ysL, pairsL⟩ := ul
    dsimp only
    have hl : layd xsL ysL pairsL (tW T) := hld
    have hW := layd_OK hl o1 o3
    have hP : pairsL ≤ 1830 := hW.1
    have hPT : pairsL = tP T := hl.1
    refine g_iload_n 1 dX10_count_9 rfl rfl ?_
    refine g_tableOut (tgt := 120) dX10_count_10 (by have := iR_none hit; omega) (by decide) ?_
    refine g_iconst (v := -1) dX10_count_120 (by decide +kernel) ?_
    exact g_iret (_, _, _, _, _, _, _) dX10_count_121 (Nat.le_refl _) (Nat.le_refl _) (by exact ⟨rfl, by unfold aCount; rw [hit]⟩) (fun _ h => h)
  · skip
    obtain ⟨hi, ei⟩ := iR_some hit
    subst ei
    rcases (show i = 0 ∨ i = 1 ∨ i = 2 ∨ i = 3 ∨ i = 4 ∨ i = 5 ∨ i = 6 ∨ i = 7 ∨ i = 8 by omega) with rfl | rfl | rfl | rfl | rfl | rfl | rfl | rfl | rfl
    · skip
      refine g_aload_n 0 dX10_count_0 rfl rfl ?_
      refine g_iconst (v := nI 0) dX10_count_1 (by decide +kernel) ?_
      refine m_put_thrown dX10_count_2 ?_
      refine g_aload_n 0 dX10_count_5 rfl rfl ?_
      refine m_cVv (ct_layPairs (tLow T) (tHigh T) (tMost T) (tUn T) k1 k2 k3 k4 o1 o2 o3 o4 o5) hvX10_layPairs hyX10_layPairs rfl ⟨Nat.le_of_ble_eq_true rfl, Nat.le_of_ble_eq_true rfl⟩ ⟨Nat.zero_le _, Nat.zero_le _⟩ rfl (Nat.le_of_ble_eq_true rfl) dX10_count_6 m_rec (fun ul hld => ?_)
      obtain ⟨xsL, ysL, pairsL⟩ := ul
      dsimp only
      have hl : layd xsL ysL pairsL (tW T) := hld
      have hW := layd_OK hl o1 o3
      have hP : pairsL ≤ 1830 := hW.1
      have hPT : pairsL = tP T := hl.1
      refine g_iload_n 1 dX10_count_9 rfl rfl ?_
      refine g_table_n (a := 0) (tgt := 60) dX10_count_10 (by decide) (by decide) (by decide) rfl (by decide) ?_
      refine g_aload_n 0 dX10_count_60 rfl rfl ?_
      refine m_get_known dX10_count_61 ?_
      refine g_iconst (v := nI 0) dX10_count_64 (by decide +kernel) ?_
      refine m_ld_known dX10_count_65 (by omega) ?_
      exact g_iret (_, _, _, _, _, _, _) dX10_count_66 (Nat.le_refl _) (Nat.le_refl _) (by refine ⟨rfl, ?_⟩; rw [show aCount T taped (nI 0) = _ from by unfold aCount; rw [hit]]; exact k0) (fun _ h => h)
    · skip
      refine g_aload_n 0 dX10_count_0 rfl rfl ?_
      refine g_iconst (v := nI 0) dX10_count_1 (by decide +kernel) ?_
      refine m_put_thrown dX10_count_2 ?_
      refine g_aload_n 0 dX10_count_5 rfl rfl ?_
      refine m_cVv (ct_layPairs (tLow T) (tHigh T) (tMost T) (tUn T) k1 k2 k3 k4 o1 o2 o3 o4 o5) hvX10_layPairs hyX10_layPairs rfl ⟨Nat.le_of_ble_eq_true rfl, Nat.le_of_ble_eq_true rfl⟩ ⟨Nat.zero_le _, Nat.zero_le _⟩ rfl (Nat.le_of_ble_eq_true rfl) dX10_count_6 m_rec (fun ul hld => ?_)
      obtain ⟨xsL, ysL, pairsL⟩ := ul
      dsimp only
      have hl : layd xsL ysL pairsL (tW T) := hld
      have hW := layd_OK hl o1 o3
      have hP : pairsL ≤ 1830 := hW.1
      have hPT : pairsL = tP T := hl.1
      refine g_iload_n 1 dX10_count_9 rfl rfl ?_
      refine g_table_n (a := 1) (tgt := 67) dX10_count_10 (by decide) (by decide) (by decide) rfl (by decide) ?_
      refine g_aload_n 0 dX10_count_67 rfl rfl ?_
      refine m_get_known dX10_count_68 ?_
      refine g_iconst (v := nI 1) dX10_count_71 (by decide +kernel) ?_
      refine m_ld_known dX10_count_72 (by omega) ?_
      exact g_iret (_, _, _, _, _, _, _) dX10_count_73 (Nat.le_refl _) (Nat.le_refl _) (by refine ⟨rfl, ?_⟩; rw [show aCount T taped (nI 1) = _ from by unfold aCount; rw [hit]]; exact k1) (fun _ h => h)
    · skip
      refine g_aload_n 0 dX10_count_0 rfl rfl ?_
      refine g_iconst (v := nI 0) dX10_count_1 (by decide +kernel) ?_
      refine m_put_thrown dX10_count_2 ?_
      refine g_aload_n 0 dX10_count_5 rfl rfl ?_
      refine m_cVv (ct_layPairs (tLow T) (tHigh T) (tMost T) (tUn T) k1 k2 k3 k4 o1 o2 o3 o4 o5) hvX10_layPairs hyX10_layPairs rfl ⟨Nat.le_of_ble_eq_true rfl, Nat.le_of_ble_eq_true rfl⟩ ⟨Nat.zero_le _, Nat.zero_le _⟩ rfl (Nat.le_of_ble_eq_true rfl) dX10_count_6 m_rec (fun ul hld => ?_)
      obtain ⟨xsL, ysL, pairsL⟩ := ul
      dsimp only
      have hl : layd xsL ysL pairsL (tW T) := hld
      have hW := layd_OK hl o1 o3
      have hP : pairsL ≤ 1830 := hW.1
      have hPT : pairsL = tP T := hl.1
      refine g_iload_n 1 dX10_count_9 rfl rfl ?_
      refine g_table_n (a := 2) (tgt := 74) dX10_count_10 (by decide) (by decide) (by decide) rfl (by decide) ?_
      refine g_aload_n 0 dX10_count_74 rfl rfl ?_
      refine m_get_known dX10_count_75 ?_
      refine g_iconst (v := nI 2) dX10_count_78 (by decide +kernel) ?_
      refine m_ld_known dX10_count_79 (by omega) ?_
      exact g_iret (_, _, _, _, _, _, _) dX10_count_80 (Nat.le_refl _) (Nat.le_refl _) (by refine ⟨rfl, ?_⟩; rw [show aCount T taped (nI 2) = _ from by unfold aCount; rw [hit]]; exact k2) (fun _ h => h)
    · skip
      refine g_aload_n 0 dX10_count_0 rfl rfl ?_
      refine g_iconst (v := nI 0) dX10_count_1 (by decide +kernel) ?_
      refine m_put_thrown dX10_count_2 ?_
      refine g_aload_n 0 dX10_count_5 rfl rfl ?_
      refine m_cVv (ct_layPairs (tLow T) (tHigh T) (tMost T) (tUn T) k1 k2 k3 k4 o1 o2 o3 o4 o5) hvX10_layPairs hyX10_layPairs rfl ⟨Nat.le_of_ble_eq_true rfl, Nat.le_of_ble_eq_true rfl⟩ ⟨Nat.zero_le _, Nat.zero_le _⟩ rfl (Nat.le_of_ble_eq_true rfl) dX10_count_6 m_rec (fun ul hld => ?_)
      obtain ⟨xsL, ysL, pairsL⟩ := ul
      dsimp only
      have hl : layd xsL ysL pairsL (tW T) := hld
      have hW := layd_OK hl o1 o3
      have hP : pairsL ≤ 1830 := hW.1
      have hPT : pairsL = tP T := hl.1
      refine g_iload_n 1 dX10_count_9 rfl rfl ?_
      refine g_table_n (a := 3) (tgt := 81) dX10_count_10 (by decide) (by decide) (by decide) rfl (by decide) ?_
      refine g_aload_n 0 dX10_count_81 rfl rfl ?_
      refine m_get_known dX10_count_82 ?_
      refine g_iconst (v := nI 3) dX10_count_85 (by decide +kernel) ?_
      refine m_ld_known dX10_count_86 (by omega) ?_
      exact g_iret (_, _, _, _, _, _, _) dX10_count_87 (Nat.le_refl _) (Nat.le_refl _) (by refine ⟨rfl, ?_⟩; rw [show aCount T taped (nI 3) = _ from by unfold aCount; rw [hit]]; exact k3) (fun _ h => h)
    · skip
      refine g_aload_n 0 dX10_count_0 rfl rfl ?_
      refine g_iconst (v := nI 0) dX10_count_1 (by decide +kernel) ?_
      refine m_put_thrown dX10_count_2 ?_
      refine g_aload_n 0 dX10_count_5 rfl rfl ?_
      refine m_cVv (ct_layPairs (tLow T) (tHigh T) (tMost T) (tUn T) k1 k2 k3 k4 o1 o2 o3 o4 o5) hvX10_layPairs hyX10_layPairs rfl ⟨Nat.le_of_ble_eq_true rfl, Nat.le_of_ble_eq_true rfl⟩ ⟨Nat.zero_le _, Nat.zero_le _⟩ rfl (Nat.le_of_ble_eq_true rfl) dX10_count_6 m_rec (fun ul hld => ?_)
      obtain ⟨xsL, ysL, pairsL⟩ := ul
      dsimp only
      have hl : layd xsL ysL pairsL (tW T) := hld
      have hW := layd_OK hl o1 o3
      have hP : pairsL ≤ 1830 := hW.1
      have hPT : pairsL = tP T := hl.1
      refine g_iload_n 1 dX10_count_9 rfl rfl ?_
      refine g_table_n (a := 4) (tgt := 88) dX10_count_10 (by decide) (by decide) (by decide) rfl (by decide) ?_
      refine g_aload_n 0 dX10_count_88 rfl rfl ?_
      refine m_get_known dX10_count_89 ?_
      refine g_iconst (v := nI 4) dX10_count_92 (by decide +kernel) ?_
      refine m_ld_known dX10_count_93 (by omega) ?_
      exact g_iret (_, _, _, _, _, _, _) dX10_count_94 (Nat.le_refl _) (Nat.le_refl _) (by refine ⟨rfl, ?_⟩; rw [show aCount T taped (nI 4) = _ from by unfold aCount; rw [hit]]; exact k4) (fun _ h => h)
    · skip
      refine g_aload_n 0 dX10_count_0 rfl rfl ?_
      refine g_iconst (v := nI 0) dX10_count_1 (by decide +kernel) ?_
      refine m_put_thrown dX10_count_2 ?_
      refine g_aload_n 0 dX10_count_5 rfl rfl ?_
      refine m_cVv (ct_layPairs (tLow T) (tHigh T) (tMost T) (tUn T) k1 k2 k3 k4 o1 o2 o3 o4 o5) hvX10_layPairs hyX10_layPairs rfl ⟨Nat.le_of_ble_eq_true rfl, Nat.le_of_ble_eq_true rfl⟩ ⟨Nat.zero_le _, Nat.zero_le _⟩ rfl (Nat.le_of_ble_eq_true rfl) dX10_count_6 m_rec (fun ul hld => ?_)
      obtain ⟨xsL, ysL, pairsL⟩ := ul
      dsimp only
      have hl : layd xsL ysL pairsL (tW T) := hld
      have hW := layd_OK hl o1 o3
      have hP : pairsL ≤ 1830 := hW.1
      have hPT : pairsL = tP T := hl.1
      refine g_iload_n 1 dX10_count_9 rfl rfl ?_
      refine g_table_n (a := 5) (tgt := 95) dX10_count_10 (by decide) (by decide) (by decide) rfl (by decide) ?_
      refine g_aload_n 0 dX10_count_95 rfl rfl ?_
      refine m_get_known dX10_count_96 ?_
      refine g_iconst (v := nI 5) dX10_count_99 (by decide +kernel) ?_
      refine m_ld_known dX10_count_100 (by omega) ?_
      exact g_iret (_, _, _, _, _, _, _) dX10_count_101 (Nat.le_refl _) (Nat.le_refl _) (by refine ⟨rfl, ?_⟩; rw [show aCount T taped (nI 5) = _ from by unfold aCount; rw [hit]]; exact k5) (fun _ h => h)
    · skip
      refine g_aload_n 0 dX10_count_0 rfl rfl ?_
      refine g_iconst (v := nI 0) dX10_count_1 (by decide +kernel) ?_
      refine m_put_thrown dX10_count_2 ?_
      refine g_aload_n 0 dX10_count_5 rfl rfl ?_
      refine m_cVv (ct_layPairs (tLow T) (tHigh T) (tMost T) (tUn T) k1 k2 k3 k4 o1 o2 o3 o4 o5) hvX10_layPairs hyX10_layPairs rfl ⟨Nat.le_of_ble_eq_true rfl, Nat.le_of_ble_eq_true rfl⟩ ⟨Nat.zero_le _, Nat.zero_le _⟩ rfl (Nat.le_of_ble_eq_true rfl) dX10_count_6 m_rec (fun ul hld => ?_)
      obtain ⟨xsL, ysL, pairsL⟩ := ul
      dsimp only
      have hl : layd xsL ysL pairsL (tW T) := hld
      have hW := layd_OK hl o1 o3
      have hP : pairsL ≤ 1830 := hW.1
      have hPT : pairsL = tP T := hl.1
      refine g_iload_n 1 dX10_count_9 rfl rfl ?_
      refine g_table_n (a := 6) (tgt := 102) dX10_count_10 (by decide) (by decide) (by decide) rfl (by decide) ?_
      refine g_aload_n 0 dX10_count_102 rfl rfl ?_
      refine m_get_known dX10_count_103 ?_
      refine g_bipush (v := nI 6) dX10_count_106 (by decide +kernel) ?_
      refine m_ld_known dX10_count_108 (by omega) ?_
      exact g_iret (_, _, _, _, _, _, _) dX10_count_109 (Nat.le_refl _) (Nat.le_refl _) (by refine ⟨rfl, ?_⟩; rw [show aCount T taped (nI 6) = _ from by unfold aCount; rw [hit]]; exact k6) (fun _ h => h)
    · skip
      refine g_aload_n 0 dX10_count_0 rfl rfl ?_
      refine g_iconst (v := nI 0) dX10_count_1 (by decide +kernel) ?_
      refine m_put_thrown dX10_count_2 ?_
      refine g_aload_n 0 dX10_count_5 rfl rfl ?_
      refine m_cVv (ct_layPairs (tLow T) (tHigh T) (tMost T) (tUn T) k1 k2 k3 k4 o1 o2 o3 o4 o5) hvX10_layPairs hyX10_layPairs rfl ⟨Nat.le_of_ble_eq_true rfl, Nat.le_of_ble_eq_true rfl⟩ ⟨Nat.zero_le _, Nat.zero_le _⟩ rfl (Nat.le_of_ble_eq_true rfl) dX10_count_6 m_rec (fun ul hld => ?_)
      obtain ⟨xsL, ysL, pairsL⟩ := ul
      dsimp only
      have hl : layd xsL ysL pairsL (tW T) := hld
      have hW := layd_OK hl o1 o3
      have hP : pairsL ≤ 1830 := hW.1
      have hPT : pairsL = tP T := hl.1
      refine g_iload_n 1 dX10_count_9 rfl rfl ?_
      refine g_table_n (a := 7) (tgt := 110) dX10_count_10 (by decide) (by decide) (by decide) rfl (by decide) ?_
      refine g_aload_n 0 dX10_count_110 rfl rfl ?_
      refine m_get_pairs dX10_count_111 ?_
      exact g_iret (_, _, _, _, _, _, _) dX10_count_114 (Nat.le_refl _) (Nat.le_refl _) (by refine ⟨rfl, ?_⟩; rw [show aCount T taped (nI 7) = _ from by unfold aCount; rw [hit]]; exact congrArg nI hPT) (fun _ h => h)
    · skip
      refine g_aload_n 0 dX10_count_0 rfl rfl ?_
      refine g_iconst (v := nI 0) dX10_count_1 (by decide +kernel) ?_
      refine m_put_thrown dX10_count_2 ?_
      refine g_aload_n 0 dX10_count_5 rfl rfl ?_
      refine m_cVv (ct_layPairs (tLow T) (tHigh T) (tMost T) (tUn T) k1 k2 k3 k4 o1 o2 o3 o4 o5) hvX10_layPairs hyX10_layPairs rfl ⟨Nat.le_of_ble_eq_true rfl, Nat.le_of_ble_eq_true rfl⟩ ⟨Nat.zero_le _, Nat.zero_le _⟩ rfl (Nat.le_of_ble_eq_true rfl) dX10_count_6 m_rec (fun ul hld => ?_)
      obtain ⟨xsL, ysL, pairsL⟩ := ul
      dsimp only
      have hl : layd xsL ysL pairsL (tW T) := hld
      have hW := layd_OK hl o1 o3
      have hP : pairsL ≤ 1830 := hW.1
      have hPT : pairsL = tP T := hl.1
      refine g_iload_n 1 dX10_count_9 rfl rfl ?_
      refine g_table_n (a := 8) (tgt := 115) dX10_count_10 (by decide) (by decide) (by decide) rfl (by decide) ?_
      refine g_aload_n 0 dX10_count_115 rfl rfl ?_
      refine m_get_taped dX10_count_116 ?_
      exact g_iret (_, _, _, _, _, _, _) dX10_count_119 (Nat.le_refl _) (Nat.le_refl _) (by refine ⟨rfl, ?_⟩; rw [show aCount T taped (nI 8) = _ from by unfold aCount; rw [hit]]; exact rfl) (fun _ h => h)
set_option maxHeartbeats 4000000 in
/-- the last fault -/
theorem ct_fault (wh : Int32)  : CT l D cl tys yX10_fault cX10_fault 2 (some .int) ({ frames := 0, cells := 0, slots := 0, locals := 0 } : Room) [.ref (ma 0), .int wh] (HM D cl tys mi cI cJ cZ ma known fresh_ saved images isImage thrown tape taped size_ at_ begin_ token value open_ bad badPlace faultKind faultPlace xs ys pairs rows top heaps endsBehind path order firstOrder ordersMany tSort tMany numbers) (Qi (fun (v : Int32) (u : Nat) => u = 0 ∧ v = (if wh = 0 then nI faultKind else if wh = nI 1 then faultPlace else -1)) (fun (u : Nat) => HM D cl tys mi cI cJ cZ ma known fresh_ saved images isImage u tape taped size_ at_ begin_ token value open_ bad badPlace faultKind faultPlace xs ys pairs rows top heaps endsBehind path order firstOrder ordersMany tSort tMany numbers) (AM ma)) (AM ma) := by
  refine CT.of (L := [(0, .ref (ma 0)), (1, .int wh)]) rfl (by decide +kernel) rfl (Nat.le_of_ble_eq_true rfl) ?_
  refine g_aload_n 0 dX10_fault_0 rfl rfl ?_
  refine g_iconst (v := nI 0) dX10_fault_1 (by decide +kernel) ?_
  refine m_put_thrown dX10_fault_2 ?_
  refine g_iload_n 1 dX10_fault_5 rfl rfl ?_
  refine g_if_ne (tgt := 16) dX10_fault_6 (by decide) (fun c6 => ?_) (fun c6 => ?_)
  · skip
    refine g_iload_n 1 dX10_fault_16 rfl rfl ?_
    refine g_iconst (v := nI 1) dX10_fault_17 (by decide +kernel) ?_
    refine g_icmp_ne (tgt := 28) dX10_fault_18 (by decide) (fun c18 => ?_) (fun c18 => ?_)
    · skip
      refine g_iconst (v := -1) dX10_fault_28 (by decide +kernel) ?_
      exact g_iret _ dX10_fault_29 (Nat.le_refl _) (Nat.le_refl _) (by first | (rw [if_pos c6]; exact ⟨rfl, rfl⟩) | (rw [if_neg c6]; first | (rw [if_pos c18]; exact ⟨rfl, rfl⟩) | (rw [if_neg c18]; exact ⟨rfl, rfl⟩))) (fun _ h => h)
    · skip
      refine g_aload_n 0 dX10_fault_21 rfl rfl ?_
      refine m_get_faultPlace dX10_fault_22 ?_
      refine g_goto (tgt := 29) dX10_fault_25 (by decide) ?_
      exact g_iret _ dX10_fault_29 (Nat.le_refl _) (Nat.le_refl _) (by first | (rw [if_pos c6]; exact ⟨rfl, rfl⟩) | (rw [if_neg c6]; first | (rw [if_pos c18]; exact ⟨rfl, rfl⟩) | (rw [if_neg c18]; exact ⟨rfl, rfl⟩))) (fun _ h => h)
  · skip
    refine g_aload_n 0 dX10_fault_9 rfl rfl ?_
    refine m_get_faultKind dX10_fault_10 ?_
    refine g_goto (tgt := 29) dX10_fault_13 (by decide) ?_
    exact g_iret _ dX10_fault_29 (Nat.le_refl _) (Nat.le_refl _) (by first | (rw [if_pos c6]; exact ⟨rfl, rfl⟩) | (rw [if_neg c6]; first | (rw [if_pos c18]; exact ⟨rfl, rfl⟩) | (rw [if_neg c18]; exact ⟨rfl, rfl⟩))) (fun _ h => h)
end
