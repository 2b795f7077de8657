/-! SPEC: what is said, as a function of an environment (pairs, xs, ys, sights, deaf, left), of the turns behind and of a world -/
set_option maxRecDepth 100000
abbrev SE : Type := Nat × (Nat → Nat) × (Nat → Nat) × (Nat → Nat) × (Nat → Bool) × (Nat → Nat → Bool)
abbrev Sem : Type := SE → Nat → Nat → Bool
def eSl (E : SE) (s : Nat) : Nat → Nat := slW (E.2.2.2.1 s) E.2.1 E.2.2.1
def rstE (E : SE) (t : Nat) : SE := (E.1, E.2.1, E.2.2.1, E.2.2.2.1, E.2.2.2.2.1, fun t' w => decide (t' ≤ t) && E.2.2.2.2.2 t' w)
/-- behind how many turns one hears -/
def eT (E : SE) (s t : Nat) : Nat := if E.2.2.2.2.1 s = true then 0 else t
def sEven : Sem := fun E _ w => decide ((E.2.1 w + E.2.2.1 w) % 2 = 0)
def sSame : Sem := fun E _ w => decide (E.2.1 w = E.2.2.1 w)
def sAbove (n : Nat) : Sem := fun E _ w => decide (n < E.2.1 w + E.2.2.1 w)
def sKnows (s : Nat) : Sem := fun E t w => knowF E.1 (eSl E s) (E.2.2.2.2.2 (eT E s t)) w
def sSees (s : Nat) (g : Sem) : Sem := fun E t w => seeF E.1 (eSl E s) (E.2.2.2.2.2 (eT E s t)) (g (rstE E (eT E s t)) (eT E s t)) w
def sWas (n : Nat) (g : Sem) : Sem := fun E t w => g (rstE E (min n t)) (min n t) w
def sNot (g : Sem) : Sem := fun E t w => !g E t w
def sAny (gs : List Sem) : Sem := fun E t w => gs.any (fun g => g E t w)
def sAll (gs : List Sem) : Sem := fun E t w => gs.all (fun g => g E t w)
theorem eT_le (E : SE) (s t : Nat) : eT E s t ≤ t := by unfold eT; split <;> omega
/-- marks beside one another, each holding a part -/
def ChM (say : Sem → Nat → Prop) (K : Nat → Int32) : List Sem → Int32 → Prop
  | [], p => p = -1
  | g :: gs, p => ∃ q r : Nat, q < 450 ∧ p = nI q ∧ K (66 + 4 * q + 2) = nI r ∧ say g r ∧ ChM say K gs (K (66 + 4 * q + 3))
/-- the mark m says f (d: its depth) -/
def SayM (nS : Nat) : Nat → Sem → Nat → (Nat → Int32) → Prop
  | 0, _, _, _ => False
  | d + 1, f, m, K => m < 450 ∧ (
    (K (66 + 4 * m + 0) = nI 6 ∧ f = sEven) ∨ (K (66 + 4 * m + 0) = nI 7 ∧ f = sSame) ∨
    (∃ a : Nat, K (66 + 4 * m + 0) = nI 8 ∧ K (66 + 4 * m + 1) = nI a ∧ a ≤ 120 ∧ f = sAbove a) ∨
    (∃ s : Nat, K (66 + 4 * m + 0) = nI 3 ∧ s < nS ∧ K (66 + 4 * m + 1) = nI s ∧ f = sKnows s) ∨
    (∃ (s p : Nat) (g : Sem), K (66 + 4 * m + 0) = nI 4 ∧ s < nS ∧ K (66 + 4 * m + 1) = nI s ∧ K (66 + 4 * m + 2) = nI p ∧ SayM nS d g p K ∧ f = sSees s g) ∨
    (∃ (a p : Nat) (g : Sem), K (66 + 4 * m + 0) = nI 5 ∧ a ≤ 20 ∧ K (66 + 4 * m + 1) = nI a ∧ K (66 + 4 * m + 2) = nI p ∧ SayM nS d g p K ∧ f = sWas a g) ∨
    (∃ (p : Nat) (g : Sem), K (66 + 4 * m + 0) = nI 2 ∧ K (66 + 4 * m + 2) = nI p ∧ SayM nS d g p K ∧ f = sNot g) ∨
    (∃ gs : List Sem, K (66 + 4 * m + 0) = nI 0 ∧ ChM (fun g r => SayM nS d g r K) K gs (K (66 + 4 * m + 2)) ∧ f = sAny gs) ∨
    (∃ gs : List Sem, K (66 + 4 * m + 0) = nI 1 ∧ ChM (fun g r => SayM nS d g r K) K gs (K (66 + 4 * m + 2)) ∧ f = sAll gs))
theorem SayM_lt {nS d : Nat} {f : Sem} {m : Nat} {K : Nat → Int32} (h : SayM nS d f m K) : m < 450 := by
  cases d with
  | zero => exact h.elim
  | succ d => exact h.1
theorem SayM_pos {nS d : Nat} {f : Sem} {m : Nat} {K : Nat → Int32} (h : SayM nS d f m K) : 1 ≤ d := by
  cases d with
  | zero => exact h.elim
  | succ d => omega
theorem ChM_nil {say : Sem → Nat → Prop} {K : Nat → Int32} {gs : List Sem} (h : ChM say K gs (-1)) : gs = [] := by
  cases gs with
  | nil => rfl
  | cons g gs =>
    obtain ⟨q, r, h1, h2, -⟩ := h
    exact absurd h2.symm (nI_m1 (by omega))
theorem ChM_cons {say : Sem → Nat → Prop} {K : Nat → Int32} {gs : List Sem} {p : Int32} (h : ChM say K gs p) (hp : ¬ p = -1) : ∃ (g : Sem) (gs2 : List Sem) (q r : Nat), gs = g :: gs2 ∧ q < 450 ∧ p = nI q ∧ K (66 + 4 * q + 2) = nI r ∧ say g r ∧ ChM say K gs2 (K (66 + 4 * q + 3)) := by
  cases gs with
  | nil => exact absurd h hp
  | cons g gs =>
    obtain ⟨q, r, h1, h2, h3, h4, h5⟩ := h
    exact ⟨g, gs, q, r, rfl, h1, h2, h3, h4, h5⟩
/-- the model's speakers and rows are as the environment says, behind t turns -/
def EnvM (known : Nat → Int32) (xs ys : Nat → Nat) (pairs : Nat) (rows : Nat → Int64) (nS : Nat) (E : SE) (t : Nat) : Prop :=
  wOK pairs xs ys ∧ E.1 = pairs ∧ (∀ w, w < pairs → E.2.1 w = xs w ∧ E.2.2.1 w = ys w) ∧ nS ≤ 6 ∧
  (∀ s, s < nS → known (8 + 3 * s + 0) = nI (E.2.2.2.1 s) ∧ E.2.2.2.1 s < 2 ^ 31 ∧ known (8 + 3 * s + 2) = bI (E.2.2.2.2.1 s)) ∧
  t ≤ 20 ∧ ∀ t' w, t' ≤ t → w < pairs → rbt rows t' w = E.2.2.2.2.2 t' w
theorem EnvM.keep {known : Nat → Int32} {xs ys : Nat → Nat} {pairs : Nat} {rows rows2 : Nat → Int64} {nS : Nat} {E : SE} {t : Nat} (h : EnvM known xs ys pairs rows nS E t) (hk : ∀ r' w', r' < 21 → w' < 1856 → rbt rows2 r' w' = rbt rows r' w') : EnvM known xs ys pairs rows2 nS E t := by
  obtain ⟨h1, h2, h3, h4, h5, h6, h7⟩ := h
  exact ⟨h1, h2, h3, h4, h5, h6, fun t' w a b => by rw [hk t' w (by omega) (by have := h1.1; omega)]; exact h7 t' w a b⟩
theorem EnvM.rst {known : Nat → Int32} {xs ys : Nat → Nat} {pairs : Nat} {rows : Nat → Int64} {nS : Nat} {E : SE} {t t2 : Nat} (h : EnvM known xs ys pairs rows nS E t) (ht : t2 ≤ t) : EnvM known xs ys pairs rows nS (rstE E t2) t2 := by
  obtain ⟨h1, h2, h3, h4, h5, h6, h7⟩ := h
  refine ⟨h1, h2, h3, h4, h5, by omega, fun t' w a b => ?_⟩
  rw [h7 t' w (by omega) b]
  show _ = (decide (t' ≤ t2) && _)
  rw [decide_eq_true a, Bool.true_and]
theorem slW_congr {kd w : Nat} {xs ys xs2 ys2 : Nat → Nat} (h : xs2 w = xs w ∧ ys2 w = ys w) : slW kd xs2 ys2 w = slW kd xs ys w := by unfold slW; rw [h.1, h.2]
theorem likeN_congr {P : Nat} {sl sl2 : Nat → Nat} {f f2 : Nat → Bool} {w : Nat} (hw : w < P) (hs : ∀ v, v < P → sl v = sl2 v) (hf : ∀ v, v < P → f v = f2 v) : likeN P sl f w = likeN P sl2 f2 w :=
  cnt_congr (fun v hv => by show (decide (sl v = sl w) && f v) = (decide (sl2 v = sl2 w) && f2 v); rw [hs v hv, hs w hw, hf v hv])
theorem knowF_congr {P : Nat} {sl sl2 : Nat → Nat} {f f2 : Nat → Bool} {w : Nat} (hw : w < P) (hs : ∀ v, v < P → sl v = sl2 v) (hf : ∀ v, v < P → f v = f2 v) : knowF P sl f w = knowF P sl2 f2 w := by
  unfold knowF; rw [likeN_congr hw hs hf, hf w hw]
theorem seeF_congr {P : Nat} {sl sl2 : Nat → Nat} {f f2 g g2 : Nat → Bool} {w : Nat} (hw : w < P) (hs : ∀ v, v < P → sl v = sl2 v) (hf : ∀ v, v < P → f v = f2 v) (hg : ∀ v, v < P → g v = g2 v) : seeF P sl f g w = seeF P sl2 f2 g2 w := by
  unfold seeF; rw [likeN_congr hw hs (f2 := fun v => f2 v && !g2 v) (fun v hv => by show (f v && !g v) = (f2 v && !g2 v); rw [hf v hv, hg v hv])]
/-- a new row top is made, the rows below stay -/
def soDone (rows rows2 : Nat → Int64) (top P : Nat) (g : Nat → Bool) : Prop := (∀ w, w < P → rbt rows2 top w = g w) ∧ ∀ r' w', r' < top → w' < 1856 → rbt rows2 r' w' = rbt rows r' w'
/-- the row is turned, all other rows below top stay -/
def jDone (rows rows2 : Nat → Int64) (row top P : Nat) (g : Nat → Bool) : Prop := (∀ w, w < P → rbt rows2 row w = g w) ∧ ∀ r' w', r' < top → ¬ r' = row → w' < 1856 → rbt rows2 r' w' = rbt rows r' w'
theorem rowsUp_skip {rows r1 : Nat → Int64} {row w : Nat} {g : Nat → Bool} (h : rowsUp rows r1 row w g) (hw : w < 1856) (hb : g w = rbt rows row w) : rowsUp rows r1 row (w + 1) g := by
  intro r' w' hw'
  rw [h r' w' hw']
  by_cases h1 : r' = row
  · by_cases h2 : w' = w
    · subst h2; subst h1
      rw [if_neg (fun q => Nat.lt_irrefl _ q.2), if_pos ⟨rfl, Nat.lt_succ_self _⟩, hb]
    · by_cases h3 : w' < w
      · rw [if_pos ⟨h1, h3⟩, if_pos ⟨h1, Nat.lt_succ_of_lt h3⟩]
      · rw [if_neg (fun q => h3 q.2), if_neg (fun q => by omega)]
  · rw [if_neg (fun q => h1 q.1), if_neg (fun q => h1 q.1)]
def jG (b : Bool) (gs : List Sem) (E : SE) (t w : Nat) : Bool := if b = true then sAny gs E t w else sAll gs E t w
theorem jG_nil (b : Bool) (E : SE) (t w : Nat) : jG b [] E t w = !b := by cases b <;> rfl
theorem jG_snoc (b : Bool) (gs : List Sem) (g : Sem) (E : SE) (t w : Nat) : jG b (gs ++ [g]) E t w = if g E t w = b then b else jG b gs E t w := by
  cases b with
  | true => show (gs ++ [g]).any _ = _; rw [List.any_append]; show (gs.any _ || (g E t w || false)) = if g E t w = true then true else gs.any _; cases g E t w <;> simp
  | false => show (gs ++ [g]).all _ = _; rw [List.all_append]; show (gs.all _ && (g E t w && true)) = if g E t w = false then false else gs.all _; cases g E t w <;> simp
/-! THE MODEL, 4: soIn, joins -/
set_option maxRecDepth 100000
section
variable {l : Launch} {D : va_G} {cl : List vw_C} {tys : List (ClassId × FieldType)} {mi : Nat} {cI cJ cZ : ClassId} {ma : Nat → Nat} {known fresh_ saved images : Nat → Int32} {isImage : Nat → Bool} {thrown : Nat} {tape : Nat → Nat} {taped size_ at_ begin_ token value open_ bad badPlace faultKind : Nat} {faultPlace : Int32} {xs ys : Nat → Nat} {pairs : Nat} {rows : Nat → Int64} {top : Nat} {heaps : Nat → Nat} {endsBehind : Nat → Int32} {path order firstOrder : Nat → Nat} {ordersMany : Nat} {tSort : Nat → Int32} {tMany : Nat → Nat} {numbers : Nat → Int64}
/-- soIn at depth d -/
abbrev SoOK (l : Launch) (D : va_G) (cl : List vw_C) (tys : List (ClassId × FieldType)) (mi : Nat) (cI cJ cZ : ClassId) (ma : Nat → Nat) (nS d : Nat) : Prop := ∀ {known fresh_ saved images : Nat → Int32} {isImage : Nat → Bool} {thrown : Nat} {tape : Nat → Nat} {taped size_ at_ begin_ token value open_ bad badPlace faultKind : Nat} {faultPlace : Int32} {xs ys : Nat → Nat} {pairs : Nat} {rows : Nat → Int64} {top : Nat} {heaps : Nat → Nat} {endsBehind : Nat → Int32} {path order firstOrder : Nat → Nat} {ordersMany : Nat} {tSort : Nat → Int32} {tMany : Nat → Nat} {numbers : Nat → Int64} (f : Sem) (m0 t0 : Nat) (E : SE), SayM nS d f m0 known → EnvM known xs ys pairs rows nS E t0 → 21 ≤ top → top + d ≤ 85 → CT l D cl tys yX10_soIn cX10_soIn 9 (some .int) ({ frames := 4 + 2 * (d), cells := 0, slots := 0, locals := 94 + 60 * (d) } : Room) [.ref (ma 0), .int (nI m0), .int (nI t0)] (HM D cl tys mi cI cJ cZ ma known fresh_ saved images isImage thrown tape taped size_ at_ begin_ token value open_ bad badPlace faultKind faultPlace xs ys pairs rows top heaps endsBehind path order firstOrder ordersMany tSort tMany numbers) (Qi (fun (v : Int32) (u : (Nat → Nat) × (Nat → Int64)) => v = nI top ∧ soDone rows u.2 top pairs (f E t0)) (fun (u : (Nat → Nat) × (Nat → Int64)) => HM D cl tys mi cI cJ cZ ma known fresh_ saved images isImage thrown tape taped size_ at_ begin_ token value open_ bad badPlace faultKind faultPlace xs ys pairs u.2 (top + 1) u.1 endsBehind path order firstOrder ordersMany tSort tMany numbers) (AM ma)) (AM ma)
set_option maxHeartbeats 4000000 in
/-- joins the marks beside one another -/
theorem ct_joins (d nS r0 t0 : Nat) (p0 : Int32) (b0 : Bool) (gs : List Sem) (E : SE) (ih : SoOK l D cl tys mi cI cJ cZ ma nS d) (hch0 : ChM (fun g r => SayM nS d g r known) known gs p0) (hE : EnvM known xs ys pairs rows nS E t0) (ht1 : 21 ≤ r0) (ht2 : r0 < top) (ht3 : top + d ≤ 85) : CT l D cl tys yX10_joins cX10_joins 8 none ({ frames := 5 + 2 * (d), cells := 0, slots := 0, locals := 94 + 30 + 60 * (d) } : Room) [.ref (ma 0), .int (nI r0), .int p0, .int (nI t0), .int (bI b0)] (HM D cl tys mi cI cJ cZ ma known fresh_ saved images isImage thrown tape taped size_ at_ begin_ token value open_ bad badPlace faultKind faultPlace xs ys pairs rows top heaps endsBehind path order firstOrder ordersMany tSort tMany numbers) (Qv (fun (u : (Nat → Nat) × (Nat → Int64)) => jDone rows u.2 r0 top pairs (jG b0 gs E t0)) (fun (u : (Nat → Nat) × (Nat → Int64)) => HM D cl tys mi cI cJ cZ ma known fresh_ saved images isImage thrown tape taped size_ at_ begin_ token value open_ bad badPlace faultKind faultPlace xs ys pairs u.2 top u.1 endsBehind path order firstOrder ordersMany tSort tMany numbers) (AM ma)) (AM ma) := by
  have hP : pairs ≤ 1830 := hE.1.1
  refine CT.of (L := [(0, .ref (ma 0)), (1, .int (nI r0)), (2, .int p0), (3, .int (nI t0)), (4, .int (bI b0))]) rfl (by decide +kernel) rfl (Nat.le_of_ble_eq_true rfl) ?_
  refine g_aload_n 0 dX10_joins_0 rfl rfl ?_
  refine g_iload_n 1 dX10_joins_1 rfl rfl ?_
  refine g_iload dX10_joins_2 rfl ?_
  refine g_if_ne_b (tgt := 11) dX10_joins_4 (by decide) (fun c4 => ?_) (fun c4 => ?_)
  · skip
    refine g_iconst (v := nI 0) dX10_joins_11 (by decide +kernel) ?_
    refine GG.topi (y := bI (!b0)) (by cases b0 <;> first | rfl | exact absurd c4 (by decide)) ?_
    refine m_cVv (ct_fills _ (!b0) (by omega) (by omega)) hvX10_fills hyX10_fills rfl ⟨by dsimp only; omega, by dsimp only; omega⟩ ⟨Nat.zero_le _, Nat.zero_le _⟩ rfl (Nat.le_of_ble_eq_true rfl) dX10_joins_12 m_rec (fun rowsF hF => ?_)
    refine g_iload_n 2 dX10_joins_15 rfl rfl ?_
    refine g_istore (L' := [(0, _), (1, _), (2, _), (3, _), (4, _), (5, _)]) dX10_joins_16 (by decide) rfl rfl ?_
    have loop18 : ∀ (q18 : Nat) (p : Int32) (gs1 gs2 : List Sem) (heaps1 : Nat → Nat) (rows1 : Nat → Int64), gs2.length < q18 → (gs = gs1 ++ gs2) → (ChM (fun g r => SayM nS d g r known) known gs2 p) → (jDone rows rows1 r0 top pairs (jG b0 gs1 E t0)) → GG l D cl tys cX10_joins 8 none RX10 ({ frames := 5 + 2 * (d), cells := 0, slots := 0, locals := 94 + 30 + 60 * (d) } : Room) (AM ma) MT (QM (Qv (fun (u : (Nat → Nat) × (Nat → Int64)) => jDone rows u.2 r0 top pairs (jG b0 gs E t0)) (fun (u : (Nat → Nat) × (Nat → Int64)) => HM D cl tys mi cI cJ cZ ma known fresh_ saved images isImage thrown tape taped size_ at_ begin_ token value open_ bad badPlace faultKind faultPlace xs ys pairs u.2 top u.1 endsBehind path order firstOrder ordersMany tSort tMany numbers) (AM ma)) 0 0 (AM ma)) (HM D cl tys mi cI cJ cZ ma known fresh_ saved images isImage thrown tape taped size_ at_ begin_ token value open_ bad badPlace faultKind faultPlace xs ys pairs rows1 top heaps1 endsBehind path order firstOrder ordersMany tSort tMany numbers) 0 0 18 [(0, .ref (ma 0)), (1, .int (nI r0)), (2, .int p0), (3, .int (nI t0)), (4, .int (bI b0)), (5, .int p)] [] := by
      intro q18
      induction q18 with
      | zero => intro p gs1 gs2 heaps1 rows1 hq18; exact absurd hq18 (Nat.not_lt_zero _)
      | succ q18 ih18 =>
        intro p gs1 gs2 heaps1 rows1 hq18 hgs hch hj
        have hkp : ∀ r' w', r' < 21 → w' < 1856 → rbt rows1 r' w' = rbt rows r' w' := fun r' w' a b => hj.2 r' w' (by omega) (by omega) b
        refine g_iload dX10_joins_18 rfl ?_
        refine g_iconst (v := -1) dX10_joins_20 (by decide +kernel) ?_
        refine g_icmp_eq (tgt := 100) dX10_joins_21 (by decide) (fun c21 => ?_) (fun c21 => ?_)
        · skip
          have e9 := ChM_nil (by rw [← c21]; exact hch)
          subst e9
          exact g_vret (heaps1, rows1) dX10_joins_100 (Nat.le_refl _) (Nat.le_refl _) (by rw [hgs, List.append_nil]; exact hj) (fun _ h => h)
        · skip
          obtain ⟨g9, gs3, q9, r9, e9, hq9, rfl, hr9, hsay, hch3⟩ := ChM_cons hch c21
          subst e9
          have hd1 := SayM_pos hsay
          refine g_aload_n 0 dX10_joins_24 rfl rfl ?_
          refine g_aload_n 0 dX10_joins_25 rfl rfl ?_
          refine g_iload dX10_joins_26 rfl ?_
          refine g_iconst (v := nI 2) dX10_joins_28 (by decide +kernel) ?_
          refine m_cVi (ct_markOf _ _ (by omega)) hvX10_markOf hyX10_markOf rfl ⟨by dsimp only; omega, by dsimp only; omega⟩ ⟨Nat.zero_le _, Nat.zero_le _⟩ rfl (Nat.le_of_ble_eq_true rfl) dX10_joins_29 m_rec (fun r u hp => ?_)
          obtain rfl := hp
          refine GG.topi hr9 ?_
          refine g_iload_n 3 dX10_joins_32 rfl rfl ?_
          refine m_cVi (ih _ _ t0 E hsay (hE.keep hkp) (by omega) (by omega)) hvX10_soIn hyX10_soIn rfl ⟨by dsimp only; omega, by dsimp only; omega⟩ ⟨Nat.zero_le _, Nat.zero_le _⟩ rfl (Nat.le_of_ble_eq_true rfl) dX10_joins_33 m_rec (fun r us hus => ?_)
          obtain ⟨heapsS, rowsS⟩ := us
          obtain ⟨hr9, hdone⟩ := hus
          subst hr9
          have hdone : soDone rows1 rowsS top pairs (g9 E t0) := hdone
          refine g_istore (L' := [(0, _), (1, _), (2, _), (3, _), (4, _), (5, _), (6, _)]) dX10_joins_36 (by decide) rfl rfl ?_
          refine g_iconst (v := nI 0) dX10_joins_38 (by decide +kernel) ?_
          refine g_istore (L' := [(0, _), (1, _), (2, _), (3, _), (4, _), (5, _), (6, _), (7, _)]) dX10_joins_39 (by decide) rfl rfl ?_
          have loop41 : ∀ (q41 : Nat) (w : Nat) (rows2 : Nat → Int64), pairs - w < q41 → (w ≤ pairs) → (rowsUp rowsS rows2 r0 w (fun v => if rbt rowsS top v = b0 then b0 else rbt rowsS r0 v)) → GG l D cl tys cX10_joins 8 none RX10 ({ frames := 5 + 2 * (d), cells := 0, slots := 0, locals := 94 + 30 + 60 * (d) } : Room) (AM ma) MT (QM (Qv (fun (u : (Nat → Nat) × (Nat → Int64)) => jDone rows u.2 r0 top pairs (jG b0 gs E t0)) (fun (u : (Nat → Nat) × (Nat → Int64)) => HM D cl tys mi cI cJ cZ ma known fresh_ saved images isImage thrown tape taped size_ at_ begin_ token value open_ bad badPlace faultKind faultPlace xs ys pairs u.2 top u.1 endsBehind path order firstOrder ordersMany tSort tMany numbers) (AM ma)) 0 0 (AM ma)) (HM D cl tys mi cI cJ cZ ma known fresh_ saved images isImage thrown tape taped size_ at_ begin_ token value open_ bad badPlace faultKind faultPlace xs ys pairs rows2 (top + 1) heapsS endsBehind path order firstOrder ordersMany tSort tMany numbers) 0 0 41 [(0, .ref (ma 0)), (1, .int (nI r0)), (2, .int p0), (3, .int (nI t0)), (4, .int (bI b0)), (5, .int (nI q9)), (6, .int (nI top)), (7, .int (nI w))] [] := by
            intro q41
            induction q41 with
            | zero => intro w rows2 hq41; exact absurd hq41 (Nat.not_lt_zero _)
            | succ q41 ih41 =>
              intro w rows2 hq41 hw hi
              refine g_iload dX10_joins_41 rfl ?_
              refine g_aload_n 0 dX10_joins_43 rfl rfl ?_
              refine m_get_pairs dX10_joins_44 ?_
              refine g_icmp_ge_n (tgt := 78) dX10_joins_47 (by decide) (by omega) (by omega) (fun c47 => ?_) (fun c47 => ?_)
              · skip
                have e7 : w = pairs := by omega
                rw [e7] at hi
                refine g_aload_n 0 dX10_joins_78 rfl rfl ?_
                refine g_dup dX10_joins_79 rfl ?_
                refine m_get_top dX10_joins_80 ?_
                refine g_iconst (v := nI 1) dX10_joins_83 (by decide +kernel) ?_
                refine g_isub_n dX10_joins_84 (by omega) ?_
                refine m_put_top dX10_joins_85 ?_
                refine g_aload_n 0 dX10_joins_88 rfl rfl ?_
                refine g_iload dX10_joins_89 rfl ?_
                refine g_iconst (v := nI 3) dX10_joins_91 (by decide +kernel) ?_
                refine m_cVi (ct_markOf _ _ (by omega)) hvX10_markOf hyX10_markOf rfl ⟨by dsimp only; omega, by dsimp only; omega⟩ ⟨Nat.zero_le _, Nat.zero_le _⟩ rfl (Nat.le_of_ble_eq_true rfl) dX10_joins_92 m_rec (fun r u hp => ?_)
                obtain rfl := hp
                refine g_istore (L' := [(0, _), (1, _), (2, _), (3, _), (4, _), (5, _), (6, _), (7, _)]) dX10_joins_95 (by decide) rfl rfl ?_
                refine g_goto (tgt := 18) dX10_joins_97 (by decide) ?_
                refine GG.locals [0, 1, 2, 3, 4, 5] rfl ?_
                refine ih18 _ (gs1 ++ [g9]) gs3 heapsS rows2 (by simp only [List.length_cons] at hq18; omega) (by rw [hgs, List.append_assoc]; rfl) hch3 ⟨fun v hv => ?_, fun r' w' a b c => ?_⟩
                · rw [jG_snoc, rowsUp_in hi hP (by omega), hdone.1 v hv, hdone.2 r0 v ht2 (by omega), hj.1 v hv]
                · rw [rowsUp_ne hi b c, hdone.2 r' w' a c, hj.2 r' w' a b c]
              · skip
                refine g_aload_n 0 dX10_joins_50 rfl rfl ?_
                refine g_iload dX10_joins_51 rfl ?_
                refine g_iload dX10_joins_53 rfl ?_
                refine m_cVi (ct_has _ _ (by omega) (by omega)) hvX10_has hyX10_has rfl ⟨by dsimp only; omega, by dsimp only; omega⟩ ⟨Nat.zero_le _, Nat.zero_le _⟩ rfl (Nat.le_of_ble_eq_true rfl) dX10_joins_55 m_rec (fun r u hp => ?_)
                obtain rfl := hp
                refine g_iload dX10_joins_58 rfl ?_
                refine g_icmp_ne_b (tgt := 72) dX10_joins_60 (by decide) (fun c60 => ?_) (fun c60 => ?_)
                · skip
                  refine g_iinc_n (b := 1) (L' := [(0, _), (1, _), (2, _), (3, _), (4, _), (5, _), (6, _), (7, _)]) dX10_joins_72 rfl rfl (by decide) rfl rfl ?_
                  refine g_goto (tgt := 41) dX10_joins_75 (by decide) ?_
                  have h8 : rbt rows2 top w = rbt rowsS top w := rowsUp_ne hi (by omega) (by omega)
                  rw [h8] at c60
                  first
                    | exact ih41 (w + 1) _ (by omega) (by omega) (rowsUp_step hi hp (by show b0 = if rbt rowsS top w = b0 then b0 else _; rw [if_pos c60]))
                    | exact ih41 (w + 1) _ (by omega) (by omega) (rowsUp_skip hi (by omega) (by show (if rbt rowsS top w = b0 then b0 else _) = _; rw [if_neg c60]))
                · skip
                  refine g_aload_n 0 dX10_joins_63 rfl rfl ?_
                  refine g_iload_n 1 dX10_joins_64 rfl rfl ?_
                  refine g_iload dX10_joins_65 rfl ?_
                  refine g_iload dX10_joins_67 rfl ?_
                  refine m_cVv (ct_puts _ _ _ (by omega) (by omega)) hvX10_puts hyX10_puts rfl ⟨by dsimp only; omega, by dsimp only; omega⟩ ⟨Nat.zero_le _, Nat.zero_le _⟩ rfl (Nat.le_of_ble_eq_true rfl) dX10_joins_69 m_rec (fun rows3 hp => ?_)
                  refine g_iinc_n (b := 1) (L' := [(0, _), (1, _), (2, _), (3, _), (4, _), (5, _), (6, _), (7, _)]) dX10_joins_72 rfl rfl (by decide) rfl rfl ?_
                  refine g_goto (tgt := 41) dX10_joins_75 (by decide) ?_
                  have h8 : rbt rows2 top w = rbt rowsS top w := rowsUp_ne hi (by omega) (by omega)
                  rw [h8] at c60
                  first
                    | exact ih41 (w + 1) _ (by omega) (by omega) (rowsUp_step hi hp (by show b0 = if rbt rowsS top w = b0 then b0 else _; rw [if_pos c60]))
                    | exact ih41 (w + 1) _ (by omega) (by omega) (rowsUp_skip hi (by omega) (by show (if rbt rowsS top w = b0 then b0 else _) = _; rw [if_neg c60]))
          exact loop41 (pairs + 1) 0 rowsS (by omega) (by omega) rowsUp_0
    exact loop18 (gs.length + 1) p0 [] gs heaps rowsF (by omega) rfl hch0 ⟨fun w hw => by rw [rowsUp_in hF hP hw, jG_nil], fun r' w' a b c => rowsUp_ne hF b c⟩
  · skip
    refine g_iconst (v := nI 1) dX10_joins_7 (by decide +kernel) ?_
    refine g_goto (tgt := 12) dX10_joins_8 (by decide) ?_
    refine GG.topi (y := bI (!b0)) (by cases b0 <;> first | rfl | exact absurd c4 (by decide)) ?_
    refine m_cVv (ct_fills _ (!b0) (by omega) (by omega)) hvX10_fills hyX10_fills rfl ⟨by dsimp only; omega, by dsimp only; omega⟩ ⟨Nat.zero_le _, Nat.zero_le _⟩ rfl (Nat.le_of_ble_eq_true rfl) dX10_joins_12 m_rec (fun rowsF hF => ?_)
    refine g_iload_n 2 dX10_joins_15 rfl rfl ?_
    refine g_istore (L' := [(0, _), (1, _), (2, _), (3, _), (4, _), (5, _)]) dX10_joins_16 (by decide) rfl rfl ?_
    have loop18 : ∀ (q18 : Nat) (p : Int32) (gs1 gs2 : List Sem) (heaps1 : Nat → Nat) (rows1 : Nat → Int64), gs2.length < q18 → (gs = gs1 ++ gs2) → (ChM (fun g r => SayM nS d g r known) known gs2 p) → (jDone rows rows1 r0 top pairs (jG b0 gs1 E t0)) → GG l D cl tys cX10_joins 8 none RX10 ({ frames := 5 + 2 * (d), cells := 0, slots := 0, locals := 94 + 30 + 60 * (d) } : Room) (AM ma) MT (QM (Qv (fun (u : (Nat → Nat) × (Nat → Int64)) => jDone rows u.2 r0 top pairs (jG b0 gs E t0)) (fun (u : (Nat → Nat) × (Nat → Int64)) => HM D cl tys mi cI cJ cZ ma known fresh_ saved images isImage thrown tape taped size_ at_ begin_ token value open_ bad badPlace faultKind faultPlace xs ys pairs u.2 top u.1 endsBehind path order firstOrder ordersMany tSort tMany numbers) (AM ma)) 0 0 (AM ma)) (HM D cl tys mi cI cJ cZ ma known fresh_ saved images isImage thrown tape taped size_ at_ begin_ token value open_ bad badPlace faultKind faultPlace xs ys pairs rows1 top heaps1 endsBehind path order firstOrder ordersMany tSort tMany numbers) 0 0 18 [(0, .ref (ma 0)), (1, .int (nI r0)), (2, .int p0), (3, .int (nI t0)), (4, .int (bI b0)), (5, .int p)] [] := by
      intro q18
      induction q18 with
      | zero => intro p gs1 gs2 heaps1 rows1 hq18; exact absurd hq18 (Nat.not_lt_zero _)
      | succ q18 ih18 =>
        intro p gs1 gs2 heaps1 rows1 hq18 hgs hch hj
        have hkp : ∀ r' w', r' < 21 → w' < 1856 → rbt rows1 r' w' = rbt rows r' w' := fun r' w' a b => hj.2 r' w' (by omega) (by omega) b
        refine g_iload dX10_joins_18 rfl ?_
        refine g_iconst (v := -1) dX10_joins_20 (by decide +kernel) ?_
        refine g_icmp_eq (tgt := 100) dX10_joins_21 (by decide) (fun c21 => ?_) (fun c21 => ?_)
        · skip
          have e9 := ChM_nil (by rw [← c21]; exact hch)
          subst e9
          exact g_vret (heaps1, rows1) dX10_joins_100 (Nat.le_refl _) (Nat.le_refl _) (by rw [hgs, List.append_nil]; exact hj) (fun _ h => h)
        · skip
          obtain ⟨g9, gs3, q9, r9, e9, hq9, rfl, hr9, hsay, hch3⟩ := ChM_cons hch c21
          subst e9
          have hd1 := SayM_pos hsay
          refine g_aload_n 0 dX10_joins_24 rfl rfl ?_
          refine g_aload_n 0 dX10_joins_25 rfl rfl ?_
          refine g_iload dX10_joins_26 rfl ?_
          refine g_iconst (v := nI 2) dX10_joins_28 (by decide +kernel) ?_
          refine m_cVi (ct_markOf _ _ (by omega)) hvX10_markOf hyX10_markOf rfl ⟨by dsimp only; omega, by dsimp only; omega⟩ ⟨Nat.zero_le _, Nat.zero_le _⟩ rfl (Nat.le_of_ble_eq_true rfl) dX10_joins_29 m_rec (fun r u hp => ?_)
          obtain rfl := hp
          refine GG.topi hr9 ?_
          refine g_iload_n 3 dX10_joins_32 rfl rfl ?_
          refine m_cVi (ih _ _ t0 E hsay (hE.keep hkp) (by omega) (by omega)) hvX10_soIn hyX10_soIn rfl ⟨by dsimp only; omega, by dsimp only; omega⟩ ⟨Nat.zero_le _, Nat.zero_le _⟩ rfl (Nat.le_of_ble_eq_true rfl) dX10_joins_33 m_rec (fun r us hus => ?_)
          obtain ⟨heapsS, rowsS⟩ := us
          obtain ⟨hr9, hdone⟩ := hus
          subst hr9
          have hdone : soDone rows1 rowsS top pairs (g9 E t0) := hdone
          refine g_istore (L' := [(0, _), (1, _), (2, _), (3, _), (4, _), (5, _), (6, _)]) dX10_joins_36 (by decide) rfl rfl ?_
          refine g_iconst (v := nI 0) dX10_joins_38 (by decide +kernel) ?_
          refine g_istore (L' := [(0, _), (1, _), (2, _), (3, _), (4, _), (5, _), (6, _), (7, _)]) dX10_joins_39 (by decide) rfl rfl ?_
          have loop41 : ∀ (q41 : Nat) (w : Nat) (rows2 : Nat → Int64), pairs - w < q41 → (w ≤ pairs) → (rowsUp rowsS rows2 r0 w (fun v => if rbt rowsS top v = b0 then b0 else rbt rowsS r0 v)) → GG l D cl tys cX10_joins 8 none RX10 ({ frames := 5 + 2 * (d), cells := 0, slots := 0, locals := 94 + 30 + 60 * (d) } : Room) (AM ma) MT (QM (Qv (fun (u : (Nat → Nat) × (Nat → Int64)) => jDone rows u.2 r0 top pairs (jG b0 gs E t0)) (fun (u : (Nat → Nat) × (Nat → Int64)) => HM D cl tys mi cI cJ cZ ma known fresh_ saved images isImage thrown tape taped size_ at_ begin_ token value open_ bad badPlace faultKind faultPlace xs ys pairs u.2 top u.1 endsBehind path order firstOrder ordersMany tSort tMany numbers) (AM ma)) 0 0 (AM ma)) (HM D cl tys mi cI cJ cZ ma known fresh_ saved images isImage thrown tape taped size_ at_ begin_ token value open_ bad badPlace faultKind faultPlace xs ys pairs rows2 (top + 1) heapsS endsBehind path order firstOrder ordersMany tSort tMany numbers) 0 0 41 [(0, .ref (ma 0)), (1, .int (nI r0)), (2, .int p0), (3, .int (nI t0)), (4, .int (bI b0)), (5, .int (nI q9)), (6, .int (nI top)), (7, .int (nI w))] [] := by
            intro q41
            induction q41 with
            | zero => intro w rows2 hq41; exact absurd hq41 (Nat.not_lt_zero _)
            | succ q41 ih41 =>
              intro w rows2 hq41 hw hi
              refine g_iload dX10_joins_41 rfl ?_
              refine g_aload_n 0 dX10_joins_43 rfl rfl ?_
              refine m_get_pairs dX10_joins_44 ?_
              refine g_icmp_ge_n (tgt := 78) dX10_joins_47 (by decide) (by omega) (by omega) (fun c47 => ?_) (fun c47 => ?_)
              · skip
                have e7 : w = pairs := by omega
                rw [e7] at hi
                refine g_aload_n 0 dX10_joins_78 rfl rfl ?_
                refine g_dup dX10_joins_79 rfl ?_
                refine m_get_top dX10_joins_80 ?_
                refine g_iconst (v := nI 1) dX10_joins_83 (by decide +kernel) ?_
                refine g_isub_n dX10_joins_84 (by omega) ?_
                refine m_put_top dX10_joins_85 ?_
                refine g_aload_n 0 dX10_joins_88 rfl rfl ?_
                refine g_iload dX10_joins_89 rfl ?_
                refine g_iconst (v := nI 3) dX10_joins_91 (by decide +kernel) ?_
                refine m_cVi (ct_markOf _ _ (by omega)) hvX10_markOf hyX10_markOf rfl ⟨by dsimp only; omega, by dsimp only; omega⟩ ⟨Nat.zero_le _, Nat.zero_le _⟩ rfl (Nat.le_of_ble_eq_true rfl) dX10_joins_92 m_rec (fun r u hp => ?_)
                obtain rfl := hp
                refine g_istore (L' := [(0, _), (1, _), (2, _), (3, _), (4, _), (5, _), (6, _), (7, _)]) dX10_joins_95 (by decide) rfl rfl ?_
                refine g_goto (tgt := 18) dX10_joins_97 (by decide) ?_
                refine GG.locals [0, 1, 2, 3, 4, 5] rfl ?_
                refine ih18 _ (gs1 ++ [g9]) gs3 heapsS rows2 (by simp only [List.length_cons] at hq18; omega) (by rw [hgs, List.append_assoc]; rfl) hch3 ⟨fun v hv => ?_, fun r' w' a b c => ?_⟩
                · rw [jG_snoc, rowsUp_in hi hP (by omega), hdone.1 v hv, hdone.2 r0 v ht2 (by omega), hj.1 v hv]
                · rw [rowsUp_ne hi b c, hdone.2 r' w' a c, hj.2 r' w' a b c]
              · skip
                refine g_aload_n 0 dX10_joins_50 rfl rfl ?_
                refine g_iload dX10_joins_51 rfl ?_
                refine g_iload dX10_joins_53 rfl ?_
                refine m_cVi (ct_has _ _ (by omega) (by omega)) hvX10_has hyX10_has rfl ⟨by dsimp only; omega, by dsimp only; omega⟩ ⟨Nat.zero_le _, Nat.zero_le _⟩ rfl (Nat.le_of_ble_eq_true rfl) dX10_joins_55 m_rec (fun r u hp => ?_)
                obtain rfl := hp
                refine g_iload dX10_joins_58 rfl ?_
                refine g_icmp_ne_b (tgt := 72) dX10_joins_60 (by decide) (fun c60 => ?_) (fun c60 => ?_)
                · skip
                  refine g_iinc_n (b := 1) (L' := [(0, _), (1, _), (2, _), (3, _), (4, _), (5, _), (6, _), (7, _)]) dX10_joins_72 rfl rfl (by decide) rfl rfl ?_
                  refine g_goto (tgt := 41) dX10_joins_75 (by decide) ?_
                  have h8 : rbt rows2 top w = rbt rowsS top w := rowsUp_ne hi (by omega) (by omega)
                  rw [h8] at c60
                  first
                    | exact ih41 (w + 1) _ (by omega) (by omega) (rowsUp_step hi hp (by show b0 = if rbt rowsS top w = b0 then b0 else _; rw [if_pos c60]))
                    | exact ih41 (w + 1) _ (by omega) (by omega) (rowsUp_skip hi (by omega) (by show (if rbt rowsS top w = b0 then b0 else _) = _; rw [if_neg c60]))
                · skip
                  refine g_aload_n 0 dX10_joins_63 rfl rfl ?_
                  refine g_iload_n 1 dX10_joins_64 rfl rfl ?_
                  refine g_iload dX10_joins_65 rfl ?_
                  refine g_iload dX10_joins_67 rfl ?_
                  refine m_cVv (ct_puts _ _ _ (by omega) (by omega)) hvX10_puts hyX10_puts rfl ⟨by dsimp only; omega, by dsimp only; omega⟩ ⟨Nat.zero_le _, Nat.zero_le _⟩ rfl (Nat.le_of_ble_eq_true rfl) dX10_joins_69 m_rec (fun rows3 hp => ?_)
                  refine g_iinc_n (b := 1) (L' := [(0, _), (1, _), (2, _), (3, _), (4, _), (5, _), (6, _), (7, _)]) dX10_joins_72 rfl rfl (by decide) rfl rfl ?_
                  refine g_goto (tgt := 41) dX10_joins_75 (by decide) ?_
                  have h8 : rbt rows2 top w = rbt rowsS top w := rowsUp_ne hi (by omega) (by omega)
                  rw [h8] at c60
                  first
                    | exact ih41 (w + 1) _ (by omega) (by omega) (rowsUp_step hi hp (by show b0 = if rbt rowsS top w = b0 then b0 else _; rw [if_pos c60]))
                    | exact ih41 (w + 1) _ (by omega) (by omega) (rowsUp_skip hi (by omega) (by show (if rbt rowsS top w = b0 then b0 else _) = _; rw [if_neg c60]))
          exact loop41 (pairs + 1) 0 rowsS (by omega) (by omega) rowsUp_0
    exact loop18 (gs.length + 1) p0 [] gs heaps rowsF (by omega) rfl hch0 ⟨fun w hw => by rw [rowsUp_in hF hP hw, jG_nil], fun r' w' a b c => rowsUp_ne hF b c⟩
set_option maxHeartbeats 4000000 in
/-- works out a mark -/
theorem ct_soInS (d nS m0 t0 : Nat) (f : Sem) (E : SE) (ih : SoOK l D cl tys mi cI cJ cZ ma nS d) (hs : SayM nS (d + 1) f m0 known) (hE : EnvM known xs ys pairs rows nS E t0) (ht1 : 21 ≤ top) (ht2 : top + (d + 1) ≤ 85) : CT l D cl tys yX10_soIn cX10_soIn 9 (some .int) ({ frames := 4 + 2 * (d + 1), cells := 0, slots := 0, locals := 94 + 60 * (d + 1) } : Room) [.ref (ma 0), .int (nI m0), .int (nI t0)] (HM D cl tys mi cI cJ cZ ma known fresh_ saved images isImage thrown tape taped size_ at_ begin_ token value open_ bad badPlace faultKind faultPlace xs ys pairs rows top heaps endsBehind path order firstOrder ordersMany tSort tMany numbers) (Qi (fun (v : Int32) (u : (Nat → Nat) × (Nat → Int64)) => v = nI top ∧ soDone rows u.2 top pairs (f E t0)) (fun (u : (Nat → Nat) × (Nat → Int64)) => HM D cl tys mi cI cJ cZ ma known fresh_ saved images isImage thrown tape taped size_ at_ begin_ token value open_ bad badPlace faultKind faultPlace xs ys pairs u.2 (top + 1) u.1 endsBehind path order firstOrder ordersMany tSort tMany numbers) (AM ma)) (AM ma) := by
  have hP : pairs ≤ 1830 := hE.1.1
  have hnS := hE.2.2.2.1
  have ht0 := hE.2.2.2.2.2.1
  refine CT.of (L := [(0, .ref (ma 0)), (1, .int (nI m0)), (2, .int (nI t0))]) rfl (by decide +kernel) rfl (Nat.le_of_ble_eq_true rfl) ?_
  obtain ⟨hm0, hs⟩ := hs
  rcases hs with ⟨hk, hf⟩ | ⟨hk, hf⟩ | ⟨a, hk, hn, ha, hf⟩ | ⟨s, hk, hsn, hn, hf⟩ | ⟨s, p, g, hk, hsn, hn, hpp, hsay, hf⟩ | ⟨a, p, g, hk, ha, hn, hpp, hsay, hf⟩ | ⟨p, g, hk, hpp, hsay, hf⟩ | ⟨gs, hk, hch, hf⟩ | ⟨gs, hk, hch, hf⟩
  · skip
    refine g_aload_n 0 dX10_soIn_0 rfl rfl ?_
    refine g_iload_n 1 dX10_soIn_1 rfl rfl ?_
    refine g_iconst (v := nI 0) dX10_soIn_2 (by decide +kernel) ?_
    refine m_cVi (ct_markOf _ _ (by omega)) hvX10_markOf hyX10_markOf rfl ⟨by dsimp only; omega, by dsimp only; omega⟩ ⟨Nat.zero_le _, Nat.zero_le _⟩ rfl (Nat.le_of_ble_eq_true rfl) dX10_soIn_3 m_rec (fun r u hp => ?_)
    obtain rfl := hp
    refine GG.topi hk ?_
    refine g_istore_n (L' := [(0, _), (1, _), (2, _), (3, _)]) 3 dX10_soIn_6 rfl (by decide) rfl rfl ?_
    refine g_aload_n 0 dX10_soIn_7 rfl rfl ?_
    refine g_iload_n 1 dX10_soIn_8 rfl rfl ?_
    refine g_iconst (v := nI 1) dX10_soIn_9 (by decide +kernel) ?_
    refine m_cVi (ct_markOf _ _ (by omega)) hvX10_markOf hyX10_markOf rfl ⟨by dsimp only; omega, by dsimp only; omega⟩ ⟨Nat.zero_le _, Nat.zero_le _⟩ rfl (Nat.le_of_ble_eq_true rfl) dX10_soIn_10 m_rec (fun r u hp => ?_)
    obtain rfl := hp
    refine g_istore (L' := [(0, _), (1, _), (2, _), (3, _), (4, _)]) dX10_soIn_13 (by decide) rfl rfl ?_
    refine g_aload_n 0 dX10_soIn_15 rfl rfl ?_
    refine g_iload_n 1 dX10_soIn_16 rfl rfl ?_
    refine g_iconst (v := nI 2) dX10_soIn_17 (by decide +kernel) ?_
    refine m_cVi (ct_markOf _ _ (by omega)) hvX10_markOf hyX10_markOf rfl ⟨by dsimp only; omega, by dsimp only; omega⟩ ⟨Nat.zero_le _, Nat.zero_le _⟩ rfl (Nat.le_of_ble_eq_true rfl) dX10_soIn_18 m_rec (fun r u hp => ?_)
    obtain rfl := hp
    refine g_istore (L' := [(0, _), (1, _), (2, _), (3, _), (4, _), (5, _)]) dX10_soIn_21 (by decide) rfl rfl ?_
    refine g_iload_n 3 dX10_soIn_23 rfl rfl ?_
    refine g_iconst (v := nI 5) dX10_soIn_24 (by decide +kernel) ?_
    refine g_icmp_ne_n (tgt := 41) dX10_soIn_25 (by decide) (by decide) (by decide) (fun _ => ?_) (fun h => absurd h (by decide))
    refine g_iload_n 3 dX10_soIn_41 rfl rfl ?_
    refine g_iconst (v := nI 3) dX10_soIn_42 (by decide +kernel) ?_
    refine g_icmp_eq_n (tgt := 51) dX10_soIn_43 (by decide) (by decide) (by decide) (fun h => absurd h (by decide)) (fun _ => ?_)
    refine g_iload_n 3 dX10_soIn_46 rfl rfl ?_
    refine g_iconst (v := nI 4) dX10_soIn_47 (by decide +kernel) ?_
    refine g_icmp_ne_n (tgt := 66) dX10_soIn_48 (by decide) (by decide) (by decide) (fun _ => ?_) (fun h => absurd h (by decide))
    refine g_iload_n 2 dX10_soIn_66 rfl rfl ?_
    refine g_istore (L' := [(0, _), (1, _), (2, _), (3, _), (4, _), (5, _), (6, _)]) dX10_soIn_67 (by decide) rfl rfl ?_
    refine g_iload_n 3 dX10_soIn_69 rfl rfl ?_
    refine g_iconst (v := nI 2) dX10_soIn_70 (by decide +kernel) ?_
    refine g_icmp_eq_n (tgt := 79) dX10_soIn_71 (by decide) (by decide) (by decide) (fun h => absurd h (by decide)) (fun _ => ?_)
    refine g_iload_n 3 dX10_soIn_74 rfl rfl ?_
    refine g_iconst (v := nI 4) dX10_soIn_75 (by decide +kernel) ?_
    refine g_icmp_ne_n (tgt := 90) dX10_soIn_76 (by decide) (by decide) (by decide) (fun _ => ?_) (fun h => absurd h (by decide))
    refine g_aload_n 0 dX10_soIn_90 rfl rfl ?_
    refine m_cVi (ct_pushes) hvX10_pushes hyX10_pushes rfl ⟨by dsimp only; omega, by dsimp only; omega⟩ ⟨Nat.zero_le _, Nat.zero_le _⟩ rfl (Nat.le_of_ble_eq_true rfl) dX10_soIn_91 m_rec (fun r u hp => ?_)
    obtain rfl := hp
    refine g_istore (L' := [(0, _), (1, _), (2, _), (3, _), (4, _), (5, _), (6, _), (7, _)]) dX10_soIn_94 (by decide) rfl rfl ?_
    refine g_iload_n 3 dX10_soIn_96 rfl rfl ?_
    refine g_tableOut_n (a := 6) (tgt := 224) dX10_soIn_97 (by decide) (by decide) (by decide) ?_
    refine g_iconst (v := nI 0) dX10_soIn_224 (by decide +kernel) ?_
    refine g_istore (L' := [(0, _), (1, _), (2, _), (3, _), (4, _), (5, _), (6, _), (7, _), (8, _)]) dX10_soIn_225 (by decide) rfl rfl ?_
    have loop227 : ∀ (q227 : Nat) (w : Nat) (rowsR : Nat → Int64), pairs - w < q227 → (w ≤ pairs) → (rowsUp rows rowsR top w (sEven E t0)) → GG l D cl tys cX10_soIn 9 (some .int) RX10 ({ frames := 4 + 2 * (d + 1), cells := 0, slots := 0, locals := 94 + 60 * (d + 1) } : Room) (AM ma) MT (QM (Qi (fun (v : Int32) (u : (Nat → Nat) × (Nat → Int64)) => v = nI top ∧ soDone rows u.2 top pairs (f E t0)) (fun (u : (Nat → Nat) × (Nat → Int64)) => HM D cl tys mi cI cJ cZ ma known fresh_ saved images isImage thrown tape taped size_ at_ begin_ token value open_ bad badPlace faultKind faultPlace xs ys pairs u.2 (top + 1) u.1 endsBehind path order firstOrder ordersMany tSort tMany numbers) (AM ma)) 0 0 (AM ma)) (HM D cl tys mi cI cJ cZ ma known fresh_ saved images isImage thrown tape taped size_ at_ begin_ token value open_ bad badPlace faultKind faultPlace xs ys pairs rowsR (top + 1) heaps endsBehind path order firstOrder ordersMany tSort tMany numbers) 0 0 227 [(0, .ref (ma 0)), (1, .int (nI m0)), (2, .int (nI t0)), (3, .int (nI 6)), (4, .int (known (66 + 4 * m0 + 1))), (5, .int (known (66 + 4 * m0 + 2))), (6, .int (nI t0)), (7, .int (nI top)), (8, .int (nI w))] [] := by
      intro q227
      induction q227 with
      | zero => intro w rowsR hq227; exact absurd hq227 (Nat.not_lt_zero _)
      | succ q227 ih227 =>
        intro w rowsR hq227 hw hi
        refine g_iload dX10_soIn_227 rfl ?_
        refine g_aload_n 0 dX10_soIn_229 rfl rfl ?_
        refine m_get_pairs dX10_soIn_230 ?_
        refine g_icmp_ge_n (tgt := 340) dX10_soIn_233 (by decide) (by omega) (by omega) (fun c233 => ?_) (fun c233 => ?_)
        · skip
          have e7 : w = pairs := by omega
          rw [e7] at hi
          refine g_iload dX10_soIn_340 rfl ?_
          exact g_iret (heaps, rowsR) dX10_soIn_342 (Nat.le_refl _) (Nat.le_refl _) (by subst hf; exact ⟨rfl, fun v hv => by rw [rowsUp_in hi hP (by omega)], fun r' w' a b => rowsUp_ne hi (by omega) b⟩) (fun _ h => h)
        · skip
          refine g_aload_n 0 dX10_soIn_236 rfl rfl ?_
          refine g_iload dX10_soIn_237 rfl ?_
          refine g_iload dX10_soIn_239 rfl ?_
          refine g_iload_n 3 dX10_soIn_241 rfl rfl ?_
          refine g_bipush (v := nI 6) dX10_soIn_242 (by decide +kernel) ?_
          refine g_icmp_ne_n (tgt := 275) dX10_soIn_244 (by decide) (by decide) (by decide) (fun h => absurd h (by decide)) (fun _ => ?_)
          refine g_aload_n 0 dX10_soIn_247 rfl rfl ?_
          refine m_get_xs dX10_soIn_248 ?_
          refine g_iload dX10_soIn_251 rfl ?_
          refine m_ld_xs dX10_soIn_253 (by omega) ?_
          refine g_aload_n 0 dX10_soIn_254 rfl rfl ?_
          refine m_get_ys dX10_soIn_255 ?_
          refine g_iload dX10_soIn_258 rfl ?_
          refine m_ld_ys dX10_soIn_260 (by omega) ?_
          refine g_iadd_n dX10_soIn_261 ?_
          refine g_iconst (v := nI 2) dX10_soIn_262 (by decide +kernel) ?_
          refine g_irem_n dX10_soIn_263 (by have := (hE.1.2 w c233).1; have := (hE.1.2 w c233).2.1; omega) (by decide) (by decide) ?_
          refine g_if_ne_n (tgt := 271) dX10_soIn_264 (by decide) (by have := (hE.1.2 w c233).1; have := (hE.1.2 w c233).2.1; omega) (fun c264 => ?_) (fun c264 => ?_)
          · skip
            refine g_iconst (v := nI 0) dX10_soIn_271 (by decide +kernel) ?_
            refine g_goto (tgt := 331) dX10_soIn_272 (by decide) ?_
            refine m_cVv (ct_puts _ _ false (by omega) (by omega)) hvX10_puts hyX10_puts rfl ⟨by dsimp only; omega, by dsimp only; omega⟩ ⟨Nat.zero_le _, Nat.zero_le _⟩ rfl (Nat.le_of_ble_eq_true rfl) dX10_soIn_331 m_rec (fun rows3 hp => ?_)
            refine g_iinc_n (b := 1) (L' := [(0, _), (1, _), (2, _), (3, _), (4, _), (5, _), (6, _), (7, _), (8, _)]) dX10_soIn_334 rfl rfl (by decide) rfl rfl ?_
            refine g_goto (tgt := 227) dX10_soIn_337 (by decide) ?_
            have hXY := hE.2.2.1 w c233
            refine ih227 (w + 1) rows3 (by omega) (by omega) (rowsUp_step hi hp ?_)
            show _ = decide ((E.2.1 w + E.2.2.1 w) % 2 = 0)
            rw [hXY.1, hXY.2]
            first | exact (decide_eq_true c264).symm | exact (decide_eq_false c264).symm
          · skip
            refine g_iconst (v := nI 1) dX10_soIn_267 (by decide +kernel) ?_
            refine g_goto (tgt := 331) dX10_soIn_268 (by decide) ?_
            refine m_cVv (ct_puts _ _ true (by omega) (by omega)) hvX10_puts hyX10_puts rfl ⟨by dsimp only; omega, by dsimp only; omega⟩ ⟨Nat.zero_le _, Nat.zero_le _⟩ rfl (Nat.le_of_ble_eq_true rfl) dX10_soIn_331 m_rec (fun rows3 hp => ?_)
            refine g_iinc_n (b := 1) (L' := [(0, _), (1, _), (2, _), (3, _), (4, _), (5, _), (6, _), (7, _), (8, _)]) dX10_soIn_334 rfl rfl (by decide) rfl rfl ?_
            refine g_goto (tgt := 227) dX10_soIn_337 (by decide) ?_
            have hXY := hE.2.2.1 w c233
            refine ih227 (w + 1) rows3 (by omega) (by omega) (rowsUp_step hi hp ?_)
            show _ = decide ((E.2.1 w + E.2.2.1 w) % 2 = 0)
            rw [hXY.1, hXY.2]
            first | exact (decide_eq_true c264).symm | exact (decide_eq_false c264).symm
    exact loop227 (pairs + 1) 0 rows (by omega) (by omega) rowsUp_0
  · skip
    refine g_aload_n 0 dX10_soIn_0 rfl rfl ?_
    refine g_iload_n 1 dX10_soIn_1 rfl rfl ?_
    refine g_iconst (v := nI 0) dX10_soIn_2 (by decide +kernel) ?_
    refine m_cVi (ct_markOf _ _ (by omega)) hvX10_markOf hyX10_markOf rfl ⟨by dsimp only; omega, by dsimp only; omega⟩ ⟨Nat.zero_le _, Nat.zero_le _⟩ rfl (Nat.le_of_ble_eq_true rfl) dX10_soIn_3 m_rec (fun r u hp => ?_)
    obtain rfl := hp
    refine GG.topi hk ?_
    refine g_istore_n (L' := [(0, _), (1, _), (2, _), (3, _)]) 3 dX10_soIn_6 rfl (by decide) rfl rfl ?_
    refine g_aload_n 0 dX10_soIn_7 rfl rfl ?_
    refine g_iload_n 1 dX10_soIn_8 rfl rfl ?_
    refine g_iconst (v := nI 1) dX10_soIn_9 (by decide +kernel) ?_
    refine m_cVi (ct_markOf _ _ (by omega)) hvX10_markOf hyX10_markOf rfl ⟨by dsimp only; omega, by dsimp only; omega⟩ ⟨Nat.zero_le _, Nat.zero_le _⟩ rfl (Nat.le_of_ble_eq_true rfl) dX10_soIn_10 m_rec (fun r u hp => ?_)
    obtain rfl := hp
    refine g_istore (L' := [(0, _), (1, _), (2, _), (3, _), (4, _)]) dX10_soIn_13 (by decide) rfl rfl ?_
    refine g_aload_n 0 dX10_soIn_15 rfl rfl ?_
    refine g_iload_n 1 dX10_soIn_16 rfl rfl ?_
    refine g_iconst (v := nI 2) dX10_soIn_17 (by decide +kernel) ?_
    refine m_cVi (ct_markOf _ _ (by omega)) hvX10_markOf hyX10_markOf rfl ⟨by dsimp only; omega, by dsimp only; omega⟩ ⟨Nat.zero_le _, Nat.zero_le _⟩ rfl (Nat.le_of_ble_eq_true rfl) dX10_soIn_18 m_rec (fun r u hp => ?_)
    obtain rfl := hp
    refine g_istore (L' := [(0, _), (1, _), (2, _), (3, _), (4, _), (5, _)]) dX10_soIn_21 (by decide) rfl rfl ?_
    refine g_iload_n 3 dX10_soIn_23 rfl rfl ?_
    refine g_iconst (v := nI 5) dX10_soIn_24 (by decide +kernel) ?_
    refine g_icmp_ne_n (tgt := 41) dX10_soIn_25 (by decide) (by decide) (by decide) (fun _ => ?_) (fun h => absurd h (by decide))
    refine g_iload_n 3 dX10_soIn_41 rfl rfl ?_
    refine g_iconst (v := nI 3) dX10_soIn_42 (by decide +kernel) ?_
    refine g_icmp_eq_n (tgt := 51) dX10_soIn_43 (by decide) (by decide) (by decide) (fun h => absurd h (by decide)) (fun _ => ?_)
    refine g_iload_n 3 dX10_soIn_46 rfl rfl ?_
    refine g_iconst (v := nI 4) dX10_soIn_47 (by decide +kernel) ?_
    refine g_icmp_ne_n (tgt := 66) dX10_soIn_48 (by decide) (by decide) (by decide) (fun _ => ?_) (fun h => absurd h (by decide))
    refine g_iload_n 2 dX10_soIn_66 rfl rfl ?_
    refine g_istore (L' := [(0, _), (1, _), (2, _), (3, _), (4, _), (5, _), (6, _)]) dX10_soIn_67 (by decide) rfl rfl ?_
    refine g_iload_n 3 dX10_soIn_69 rfl rfl ?_
    refine g_iconst (v := nI 2) dX10_soIn_70 (by decide +kernel) ?_
    refine g_icmp_eq_n (tgt := 79) dX10_soIn_71 (by decide) (by decide) (by decide) (fun h => absurd h (by decide)) (fun _ => ?_)
    refine g_iload_n 3 dX10_soIn_74 rfl rfl ?_
    refine g_iconst (v := nI 4) dX10_soIn_75 (by decide +kernel) ?_
    refine g_icmp_ne_n (tgt := 90) dX10_soIn_76 (by decide) (by decide) (by decide) (fun _ => ?_) (fun h => absurd h (by decide))
    refine g_aload_n 0 dX10_soIn_90 rfl rfl ?_
    refine m_cVi (ct_pushes) hvX10_pushes hyX10_pushes rfl ⟨by dsimp only; omega, by dsimp only; omega⟩ ⟨Nat.zero_le _, Nat.zero_le _⟩ rfl (Nat.le_of_ble_eq_true rfl) dX10_soIn_91 m_rec (fun r u hp => ?_)
    obtain rfl := hp
    refine g_istore (L' := [(0, _), (1, _), (2, _), (3, _), (4, _), (5, _), (6, _), (7, _)]) dX10_soIn_94 (by decide) rfl rfl ?_
    refine g_iload_n 3 dX10_soIn_96 rfl rfl ?_
    refine g_tableOut_n (a := 7) (tgt := 224) dX10_soIn_97 (by decide) (by decide) (by decide) ?_
    refine g_iconst (v := nI 0) dX10_soIn_224 (by decide +kernel) ?_
    refine g_istore (L' := [(0, _), (1, _), (2, _), (3, _), (4, _), (5, _), (6, _), (7, _), (8, _)]) dX10_soIn_225 (by decide) rfl rfl ?_
    have loop227 : ∀ (q227 : Nat) (w : Nat) (rowsR : Nat → Int64), pairs - w < q227 → (w ≤ pairs) → (rowsUp rows rowsR top w (sSame E t0)) → GG l D cl tys cX10_soIn 9 (some .int) RX10 ({ frames := 4 + 2 * (d + 1), cells := 0, slots := 0, locals := 94 + 60 * (d + 1) } : Room) (AM ma) MT (QM (Qi (fun (v : Int32) (u : (Nat → Nat) × (Nat → Int64)) => v = nI top ∧ soDone rows u.2 top pairs (f E t0)) (fun (u : (Nat → Nat) × (Nat → Int64)) => HM D cl tys mi cI cJ cZ ma known fresh_ saved images isImage thrown tape taped size_ at_ begin_ token value open_ bad badPlace faultKind faultPlace xs ys pairs u.2 (top + 1) u.1 endsBehind path order firstOrder ordersMany tSort tMany numbers) (AM ma)) 0 0 (AM ma)) (HM D cl tys mi cI cJ cZ ma known fresh_ saved images isImage thrown tape taped size_ at_ begin_ token value open_ bad badPlace faultKind faultPlace xs ys pairs rowsR (top + 1) heaps endsBehind path order firstOrder ordersMany tSort tMany numbers) 0 0 227 [(0, .ref (ma 0)), (1, .int (nI m0)), (2, .int (nI t0)), (3, .int (nI 7)), (4, .int (known (66 + 4 * m0 + 1))), (5, .int (known (66 + 4 * m0 + 2))), (6, .int (nI t0)), (7, .int (nI top)), (8, .int (nI w))] [] := by
      intro q227
      induction q227 with
      | zero => intro w rowsR hq227; exact absurd hq227 (Nat.not_lt_zero _)
      | succ q227 ih227 =>
        intro w rowsR hq227 hw hi
        refine g_iload dX10_soIn_227 rfl ?_
        refine g_aload_n 0 dX10_soIn_229 rfl rfl ?_
        refine m_get_pairs dX10_soIn_230 ?_
        refine g_icmp_ge_n (tgt := 340) dX10_soIn_233 (by decide) (by omega) (by omega) (fun c233 => ?_) (fun c233 => ?_)
        · skip
          have e7 : w = pairs := by omega
          rw [e7] at hi
          refine g_iload dX10_soIn_340 rfl ?_
          exact g_iret (heaps, rowsR) dX10_soIn_342 (Nat.le_refl _) (Nat.le_refl _) (by subst hf; exact ⟨rfl, fun v hv => by rw [rowsUp_in hi hP (by omega)], fun r' w' a b => rowsUp_ne hi (by omega) b⟩) (fun _ h => h)
        · skip
          refine g_aload_n 0 dX10_soIn_236 rfl rfl ?_
          refine g_iload dX10_soIn_237 rfl ?_
          refine g_iload dX10_soIn_239 rfl ?_
          refine g_iload_n 3 dX10_soIn_241 rfl rfl ?_
          refine g_bipush (v := nI 6) dX10_soIn_242 (by decide +kernel) ?_
          refine g_icmp_ne_n (tgt := 275) dX10_soIn_244 (by decide) (by decide) (by decide) (fun _ => ?_) (fun h => absurd h (by decide))
          refine g_iload_n 3 dX10_soIn_275 rfl rfl ?_
          refine g_bipush (v := nI 7) dX10_soIn_276 (by decide +kernel) ?_
          refine g_icmp_ne_n (tgt := 306) dX10_soIn_278 (by decide) (by decide) (by decide) (fun h => absurd h (by decide)) (fun _ => ?_)
          refine g_aload_n 0 dX10_soIn_281 rfl rfl ?_
          refine m_get_xs dX10_soIn_282 ?_
          refine g_iload dX10_soIn_285 rfl ?_
          refine m_ld_xs dX10_soIn_287 (by omega) ?_
          refine g_aload_n 0 dX10_soIn_288 rfl rfl ?_
          refine m_get_ys dX10_soIn_289 ?_
          refine g_iload dX10_soIn_292 rfl ?_
          refine m_ld_ys dX10_soIn_294 (by omega) ?_
          refine g_icmp_ne_n (tgt := 302) dX10_soIn_295 (by decide) (by have := (hE.1.2 w c233).1; have := (hE.1.2 w c233).2.1; omega) (by have := (hE.1.2 w c233).1; have := (hE.1.2 w c233).2.1; omega) (fun c295 => ?_) (fun c295 => ?_)
          · skip
            refine g_iconst (v := nI 0) dX10_soIn_302 (by decide +kernel) ?_
            refine g_goto (tgt := 331) dX10_soIn_303 (by decide) ?_
            refine m_cVv (ct_puts _ _ false (by omega) (by omega)) hvX10_puts hyX10_puts rfl ⟨by dsimp only; omega, by dsimp only; omega⟩ ⟨Nat.zero_le _, Nat.zero_le _⟩ rfl (Nat.le_of_ble_eq_true rfl) dX10_soIn_331 m_rec (fun rows3 hp => ?_)
            refine g_iinc_n (b := 1) (L' := [(0, _), (1, _), (2, _), (3, _), (4, _), (5, _), (6, _), (7, _), (8, _)]) dX10_soIn_334 rfl rfl (by decide) rfl rfl ?_
            refine g_goto (tgt := 227) dX10_soIn_337 (by decide) ?_
            have hXY := hE.2.2.1 w c233
            refine ih227 (w + 1) rows3 (by omega) (by omega) (rowsUp_step hi hp ?_)
            show _ = decide (E.2.1 w = E.2.2.1 w)
            rw [hXY.1, hXY.2]
            first | exact (decide_eq_true c295).symm | exact (decide_eq_false c295).symm
          · skip
            refine g_iconst (v := nI 1) dX10_soIn_298 (by decide +kernel) ?_
            refine g_goto (tgt := 331) dX10_soIn_299 (by decide) ?_
            refine m_cVv (ct_puts _ _ true (by omega) (by omega)) hvX10_puts hyX10_puts rfl ⟨by dsimp only; omega, by dsimp only; omega⟩ ⟨Nat.zero_le _, Nat.zero_le _⟩ rfl (Nat.le_of_ble_eq_true rfl) dX10_soIn_331 m_rec (fun rows3 hp => ?_)
            refine g_iinc_n (b := 1) (L' := [(0, _), (1, _), (2, _), (3, _), (4, _), (5, _), (6, _), (7, _), (8, _)]) dX10_soIn_334 rfl rfl (by decide) rfl rfl ?_
            refine g_goto (tgt := 227) dX10_soIn_337 (by decide) ?_
            have hXY := hE.2.2.1 w c233
            refine ih227 (w + 1) rows3 (by omega) (by omega) (rowsUp_step hi hp ?_)
            show _ = decide (E.2.1 w = E.2.2.1 w)
            rw [hXY.1, hXY.2]
            first | exact (decide_eq_true c295).symm | exact (decide_eq_false c295).symm
    exact loop227 (pairs + 1) 0 rows (by omega) (by omega) rowsUp_0
  · skip
    refine g_aload_n 0 dX10_soIn_0 rfl rfl ?_
    refine g_iload_n 1 dX10_soIn_1 rfl rfl ?_
    refine g_iconst (v := nI 0) dX10_soIn_2 (by decide +kernel) ?_
    refine m_cVi (ct_markOf _ _ (by omega)) hvX10_markOf hyX10_markOf rfl ⟨by dsimp only; omega, by dsimp only; omega⟩ ⟨Nat.zero_le _, Nat.zero_le _⟩ rfl (Nat.le_of_ble_eq_true rfl) dX10_soIn_3 m_rec (fun r u hp => ?_)
    obtain rfl := hp
    refine GG.topi hk ?_
    refine g_istore_n (L' := [(0, _), (1, _), (2, _), (3, _)]) 3 dX10_soIn_6 rfl (by decide) rfl rfl ?_
    refine g_aload_n 0 dX10_soIn_7 rfl rfl ?_
    refine g_iload_n 1 dX10_soIn_8 rfl rfl ?_
    refine g_iconst (v := nI 1) dX10_soIn_9 (by decide +kernel) ?_
    refine m_cVi (ct_markOf _ _ (by omega)) hvX10_markOf hyX10_markOf rfl ⟨by dsimp only; omega, by dsimp only; omega⟩ ⟨Nat.zero_le _, Nat.zero_le _⟩ rfl (Nat.le_of_ble_eq_true rfl) dX10_soIn_10 m_rec (fun r u hp => ?_)
    obtain rfl := hp
    refine GG.topi hn ?_
    refine g_istore (L' := [(0, _), (1, _), (2, _), (3, _), (4, _)]) dX10_soIn_13 (by decide) rfl rfl ?_
    refine g_aload_n 0 dX10_soIn_15 rfl rfl ?_
    refine g_iload_n 1 dX10_soIn_16 rfl rfl ?_
    refine g_iconst (v := nI 2) dX10_soIn_17 (by decide +kernel) ?_
    refine m_cVi (ct_markOf _ _ (by omega)) hvX10_markOf hyX10_markOf rfl ⟨by dsimp only; omega, by dsimp only; omega⟩ ⟨Nat.zero_le _, Nat.zero_le _⟩ rfl (Nat.le_of_ble_eq_true rfl) dX10_soIn_18 m_rec (fun r u hp => ?_)
    obtain rfl := hp
    refine g_istore (L' := [(0, _), (1, _), (2, _), (3, _), (4, _), (5, _)]) dX10_soIn_21 (by decide) rfl rfl ?_
    refine g_iload_n 3 dX10_soIn_23 rfl rfl ?_
    refine g_iconst (v := nI 5) dX10_soIn_24 (by decide +kernel) ?_
    refine g_icmp_ne_n (tgt := 41) dX10_soIn_25 (by decide) (by decide) (by decide) (fun _ => ?_) (fun h => absurd h (by decide))
    refine g_iload_n 3 dX10_soIn_41 rfl rfl ?_
    refine g_iconst (v := nI 3) dX10_soIn_42 (by decide +kernel) ?_
    refine g_icmp_eq_n (tgt := 51) dX10_soIn_43 (by decide) (by decide) (by decide) (fun h => absurd h (by decide)) (fun _ => ?_)
    refine g_iload_n 3 dX10_soIn_46 rfl rfl ?_
    refine g_iconst (v := nI 4) dX10_soIn_47 (by decide +kernel) ?_
    refine g_icmp_ne_n (tgt := 66) dX10_soIn_48 (by decide) (by decide) (by decide) (fun _ => ?_) (fun h => absurd h (by decide))
    refine g_iload_n 2 dX10_soIn_66 rfl rfl ?_
    refine g_istore (L' := [(0, _), (1, _), (2, _), (3, _), (4, _), (5, _), (6, _)]) dX10_soIn_67 (by decide) rfl rfl ?_
    refine g_iload_n 3 dX10_soIn_69 rfl rfl ?_
    refine g_iconst (v := nI 2) dX10_soIn_70 (by decide +kernel) ?_
    refine g_icmp_eq_n (tgt := 79) dX10_soIn_71 (by decide) (by decide) (by decide) (fun h => absurd h (by decide)) (fun _ => ?_)
    refine g_iload_n 3 dX10_soIn_74 rfl rfl ?_
    refine g_iconst (v := nI 4) dX10_soIn_75 (by decide +kernel) ?_
    refine g_icmp_ne_n (tgt := 90) dX10_soIn_76 (by decide) (by decide) (by decide) (fun _ => ?_) (fun h => absurd h (by decide))
    refine g_aload_n 0 dX10_soIn_90 rfl rfl ?_
    refine m_cVi (ct_pushes) hvX10_pushes hyX10_pushes rfl ⟨by dsimp only; omega, by dsimp only; omega⟩ ⟨Nat.zero_le _, Nat.zero_le _⟩ rfl (Nat.le_of_ble_eq_true rfl) dX10_soIn_91 m_rec (fun r u hp => ?_)
    obtain rfl := hp
    refine g_istore (L' := [(0, _), (1, _), (2, _), (3, _), (4, _), (5, _), (6, _), (7, _)]) dX10_soIn_94 (by decide) rfl rfl ?_
    refine g_iload_n 3 dX10_soIn_96 rfl rfl ?_
    refine g_tableOut_n (a := 8) (tgt := 224) dX10_soIn_97 (by decide) (by decide) (by decide) ?_
    refine g_iconst (v := nI 0) dX10_soIn_224 (by decide +kernel) ?_
    refine g_istore (L' := [(0, _), (1, _), (2, _), (3, _), (4, _), (5, _), (6, _), (7, _), (8, _)]) dX10_soIn_225 (by decide) rfl rfl ?_
    have loop227 : ∀ (q227 : Nat) (w : Nat) (rowsR : Nat → Int64), pairs - w < q227 → (w ≤ pairs) → (rowsUp rows rowsR top w ((sAbove a) E t0)) → GG l D cl tys cX10_soIn 9 (some .int) RX10 ({ frames := 4 + 2 * (d + 1), cells := 0, slots := 0, locals := 94 + 60 * (d + 1) } : Room) (AM ma) MT (QM (Qi (fun (v : Int32) (u : (Nat → Nat) × (Nat → Int64)) => v = nI top ∧ soDone rows u.2 top pairs (f E t0)) (fun (u : (Nat → Nat) × (Nat → Int64)) => HM D cl tys mi cI cJ cZ ma known fresh_ saved images isImage thrown tape taped size_ at_ begin_ token value open_ bad badPlace faultKind faultPlace xs ys pairs u.2 (top + 1) u.1 endsBehind path order firstOrder ordersMany tSort tMany numbers) (AM ma)) 0 0 (AM ma)) (HM D cl tys mi cI cJ cZ ma known fresh_ saved images isImage thrown tape taped size_ at_ begin_ token value open_ bad badPlace faultKind faultPlace xs ys pairs rowsR (top + 1) heaps endsBehind path order firstOrder ordersMany tSort tMany numbers) 0 0 227 [(0, .ref (ma 0)), (1, .int (nI m0)), (2, .int (nI t0)), (3, .int (nI 8)), (4, .int (nI a)), (5, .int (known (66 + 4 * m0 + 2))), (6, .int (nI t0)), (7, .int (nI top)), (8, .int (nI w))] [] := by
      intro q227
      induction q227 with
      | zero => intro w rowsR hq227; exact absurd hq227 (Nat.not_lt_zero _)
      | succ q227 ih227 =>
        intro w rowsR hq227 hw hi
        refine g_iload dX10_soIn_227 rfl ?_
        refine g_aload_n 0 dX10_soIn_229 rfl rfl ?_
        refine m_get_pairs dX10_soIn_230 ?_
        refine g_icmp_ge_n (tgt := 340) dX10_soIn_233 (by decide) (by omega) (by omega) (fun c233 => ?_) (fun c233 => ?_)
        · skip
          have e7 : w = pairs := by omega
          rw [e7] at hi
          refine g_iload dX10_soIn_340 rfl ?_
          exact g_iret (heaps, rowsR) dX10_soIn_342 (Nat.le_refl _) (Nat.le_refl _) (by subst hf; exact ⟨rfl, fun v hv => by rw [rowsUp_in hi hP (by omega)], fun r' w' a b => rowsUp_ne hi (by omega) b⟩) (fun _ h => h)
        · skip
          refine g_aload_n 0 dX10_soIn_236 rfl rfl ?_
          refine g_iload dX10_soIn_237 rfl ?_
          refine g_iload dX10_soIn_239 rfl ?_
          refine g_iload_n 3 dX10_soIn_241 rfl rfl ?_
          refine g_bipush (v := nI 6) dX10_soIn_242 (by decide +kernel) ?_
          refine g_icmp_ne_n (tgt := 275) dX10_soIn_244 (by decide) (by decide) (by decide) (fun _ => ?_) (fun h => absurd h (by decide))
          refine g_iload_n 3 dX10_soIn_275 rfl rfl ?_
          refine g_bipush (v := nI 7) dX10_soIn_276 (by decide +kernel) ?_
          refine g_icmp_ne_n (tgt := 306) dX10_soIn_278 (by decide) (by decide) (by decide) (fun _ => ?_) (fun h => absurd h (by decide))
          refine g_aload_n 0 dX10_soIn_306 rfl rfl ?_
          refine m_get_xs dX10_soIn_307 ?_
          refine g_iload dX10_soIn_310 rfl ?_
          refine m_ld_xs dX10_soIn_312 (by omega) ?_
          refine g_aload_n 0 dX10_soIn_313 rfl rfl ?_
          refine m_get_ys dX10_soIn_314 ?_
          refine g_iload dX10_soIn_317 rfl ?_
          refine m_ld_ys dX10_soIn_319 (by omega) ?_
          refine g_iadd_n dX10_soIn_320 ?_
          refine g_iload dX10_soIn_321 rfl ?_
          refine g_icmp_le_n (tgt := 330) dX10_soIn_323 (by decide) (by have := (hE.1.2 w c233).1; have := (hE.1.2 w c233).2.1; omega) (by omega) (fun c323 => ?_) (fun c323 => ?_)
          · skip
            refine g_iconst (v := nI 0) dX10_soIn_330 (by decide +kernel) ?_
            refine m_cVv (ct_puts _ _ false (by omega) (by omega)) hvX10_puts hyX10_puts rfl ⟨by dsimp only; omega, by dsimp only; omega⟩ ⟨Nat.zero_le _, Nat.zero_le _⟩ rfl (Nat.le_of_ble_eq_true rfl) dX10_soIn_331 m_rec (fun rows3 hp => ?_)
            refine g_iinc_n (b := 1) (L' := [(0, _), (1, _), (2, _), (3, _), (4, _), (5, _), (6, _), (7, _), (8, _)]) dX10_soIn_334 rfl rfl (by decide) rfl rfl ?_
            refine g_goto (tgt := 227) dX10_soIn_337 (by decide) ?_
            have hXY := hE.2.2.1 w c233
            refine ih227 (w + 1) rows3 (by omega) (by omega) (rowsUp_step hi hp ?_)
            show _ = decide (a < E.2.1 w + E.2.2.1 w)
            rw [hXY.1, hXY.2]
            first | exact (decide_eq_true c323).symm | exact (decide_eq_false (by omega)).symm
          · skip
            refine g_iconst (v := nI 1) dX10_soIn_326 (by decide +kernel) ?_
            refine g_goto (tgt := 331) dX10_soIn_327 (by decide) ?_
            refine m_cVv (ct_puts _ _ true (by omega) (by omega)) hvX10_puts hyX10_puts rfl ⟨by dsimp only; omega, by dsimp only; omega⟩ ⟨Nat.zero_le _, Nat.zero_le _⟩ rfl (Nat.le_of_ble_eq_true rfl) dX10_soIn_331 m_rec (fun rows3 hp => ?_)
            refine g_iinc_n (b := 1) (L' := [(0, _), (1, _), (2, _), (3, _), (4, _), (5, _), (6, _), (7, _), (8, _)]) dX10_soIn_334 rfl rfl (by decide) rfl rfl ?_
            refine g_goto (tgt := 227) dX10_soIn_337 (by decide) ?_
            have hXY := hE.2.2.1 w c233
            refine ih227 (w + 1) rows3 (by omega) (by omega) (rowsUp_step hi hp ?_)
            show _ = decide (a < E.2.1 w + E.2.2.1 w)
            rw [hXY.1, hXY.2]
            first | exact (decide_eq_true c323).symm | exact (decide_eq_false (by omega)).symm
    exact loop227 (pairs + 1) 0 rows (by omega) (by omega) rowsUp_0
  · skip
    refine g_aload_n 0 dX10_soIn_0 rfl rfl ?_
    refine g_iload_n 1 dX10_soIn_1 rfl rfl ?_
    refine g_iconst (v := nI 0) dX10_soIn_2 (by decide +kernel) ?_
    refine m_cVi (ct_markOf _ _ (by omega)) hvX10_markOf hyX10_markOf rfl ⟨by dsimp only; omega, by dsimp only; omega⟩ ⟨Nat.zero_le _, Nat.zero_le _⟩ rfl (Nat.le_of_ble_eq_true rfl) dX10_soIn_3 m_rec (fun r u hp => ?_)
    obtain rfl := hp
    refine GG.topi hk ?_
    refine g_istore_n (L' := [(0, _), (1, _), (2, _), (3, _)]) 3 dX10_soIn_6 rfl (by decide) rfl rfl ?_
    refine g_aload_n 0 dX10_soIn_7 rfl rfl ?_
    refine g_iload_n 1 dX10_soIn_8 rfl rfl ?_
    refine g_iconst (v := nI 1) dX10_soIn_9 (by decide +kernel) ?_
    refine m_cVi (ct_markOf _ _ (by omega)) hvX10_markOf hyX10_markOf rfl ⟨by dsimp only; omega, by dsimp only; omega⟩ ⟨Nat.zero_le _, Nat.zero_le _⟩ rfl (Nat.le_of_ble_eq_true rfl) dX10_soIn_10 m_rec (fun r u hp => ?_)
    obtain rfl := hp
    refine GG.topi hn ?_
    refine g_istore (L' := [(0, _), (1, _), (2, _), (3, _), (4, _)]) dX10_soIn_13 (by decide) rfl rfl ?_
    refine g_aload_n 0 dX10_soIn_15 rfl rfl ?_
    refine g_iload_n 1 dX10_soIn_16 rfl rfl ?_
    refine g_iconst (v := nI 2) dX10_soIn_17 (by decide +kernel) ?_
    refine m_cVi (ct_markOf _ _ (by omega)) hvX10_markOf hyX10_markOf rfl ⟨by dsimp only; omega, by dsimp only; omega⟩ ⟨Nat.zero_le _, Nat.zero_le _⟩ rfl (Nat.le_of_ble_eq_true rfl) dX10_soIn_18 m_rec (fun r u hp => ?_)
    obtain rfl := hp
    refine g_istore (L' := [(0, _), (1, _), (2, _), (3, _), (4, _), (5, _)]) dX10_soIn_21 (by decide) rfl rfl ?_
    refine g_iload_n 3 dX10_soIn_23 rfl rfl ?_
    refine g_iconst (v := nI 5) dX10_soIn_24 (by decide +kernel) ?_
    refine g_icmp_ne_n (tgt := 41) dX10_soIn_25 (by decide) (by decide) (by decide) (fun _ => ?_) (fun h => absurd h (by decide))
    refine g_iload_n 3 dX10_soIn_41 rfl rfl ?_
    refine g_iconst (v := nI 3) dX10_soIn_42 (by decide +kernel) ?_
    refine g_icmp_eq_n (tgt := 51) dX10_soIn_43 (by decide) (by decide) (by decide) (fun _ => ?_) (fun h => absurd h (by decide))
    have join67 : ∀ (b9 : Nat), (b9 = eT E s t0) → GG l D cl tys cX10_soIn 9 (some .int) RX10 ({ frames := 4 + 2 * (d + 1), cells := 0, slots := 0, locals := 94 + 60 * (d + 1) } : Room) (AM ma) MT (QM (Qi (fun (v : Int32) (u : (Nat → Nat) × (Nat → Int64)) => v = nI top ∧ soDone rows u.2 top pairs (f E t0)) (fun (u : (Nat → Nat) × (Nat → Int64)) => HM D cl tys mi cI cJ cZ ma known fresh_ saved images isImage thrown tape taped size_ at_ begin_ token value open_ bad badPlace faultKind faultPlace xs ys pairs u.2 (top + 1) u.1 endsBehind path order firstOrder ordersMany tSort tMany numbers) (AM ma)) 0 0 (AM ma)) (HM D cl tys mi cI cJ cZ ma known fresh_ saved images isImage thrown tape taped size_ at_ begin_ token value open_ bad badPlace faultKind faultPlace xs ys pairs rows top heaps endsBehind path order firstOrder ordersMany tSort tMany numbers) 0 0 67 [(0, .ref (ma 0)), (1, .int (nI m0)), (2, .int (nI t0)), (3, .int (nI 3)), (4, .int (nI s)), (5, .int (known (66 + 4 * m0 + 2)))] [.int (nI b9)] := by
      intro b9 hb9
      refine g_istore (L' := [(0, _), (1, _), (2, _), (3, _), (4, _), (5, _), (6, _)]) dX10_soIn_67 (by decide) rfl rfl ?_
      refine g_iload_n 3 dX10_soIn_69 rfl rfl ?_
      refine g_iconst (v := nI 2) dX10_soIn_70 (by decide +kernel) ?_
      refine g_icmp_eq_n (tgt := 79) dX10_soIn_71 (by decide) (by decide) (by decide) (fun h => absurd h (by decide)) (fun _ => ?_)
      refine g_iload_n 3 dX10_soIn_74 rfl rfl ?_
      refine g_iconst (v := nI 4) dX10_soIn_75 (by decide +kernel) ?_
      refine g_icmp_ne_n (tgt := 90) dX10_soIn_76 (by decide) (by decide) (by decide) (fun _ => ?_) (fun h => absurd h (by decide))
      refine g_aload_n 0 dX10_soIn_90 rfl rfl ?_
      refine m_cVi (ct_pushes) hvX10_pushes hyX10_pushes rfl ⟨by dsimp only; omega, by dsimp only; omega⟩ ⟨Nat.zero_le _, Nat.zero_le _⟩ rfl (Nat.le_of_ble_eq_true rfl) dX10_soIn_91 m_rec (fun r u hp => ?_)
      obtain rfl := hp
      refine g_istore (L' := [(0, _), (1, _), (2, _), (3, _), (4, _), (5, _), (6, _), (7, _)]) dX10_soIn_94 (by decide) rfl rfl ?_
      refine g_iload_n 3 dX10_soIn_96 rfl rfl ?_
      refine g_table_n (a := 3) (tgt := 198) dX10_soIn_97 (by decide) (by decide) (by decide) rfl (by decide) ?_
      refine g_aload_n 0 dX10_soIn_198 rfl rfl ?_
      refine g_iload dX10_soIn_199 rfl ?_
      refine g_iload dX10_soIn_201 rfl ?_
      refine g_iload dX10_soIn_203 rfl ?_
      refine m_cVv (ct_laysKnowing s _ _ (E.2.2.2.1 s) (by omega) (hE.2.2.2.2.1 s hsn).1 (hE.2.2.2.2.1 s hsn).2.1 (by have := eT_le E s t0; omega) (by omega) (by have := eT_le E s t0; omega) hE.1) hvX10_laysKnowing hyX10_laysKnowing rfl ⟨by dsimp only; omega, by dsimp only; omega⟩ ⟨Nat.zero_le _, Nat.zero_le _⟩ rfl (Nat.le_of_ble_eq_true rfl) dX10_soIn_205 m_rec (fun u3 hk3 => ?_)
      obtain ⟨heapsR, rowsR⟩ := u3
      have hk3 : rowsUp rows rowsR top pairs _ := hk3
      refine g_goto (tgt := 340) dX10_soIn_208 (by decide) ?_
      refine g_iload dX10_soIn_340 rfl ?_
      exact g_iret (heapsR, rowsR) dX10_soIn_342 (Nat.le_refl _) (Nat.le_refl _) (by subst hf; exact ⟨rfl, fun w hw => by rw [rowsUp_in hk3 hP hw]; show _ = knowF E.1 _ _ w; rw [hE.2.1]; exact knowF_congr hw (fun v hv => (slW_congr (hE.2.2.1 v hv)).symm) (fun v hv => by rw [hb9]; exact hE.2.2.2.2.2.2 _ v (eT_le E s t0) hv), fun r' w' a b => rowsUp_ne hk3 (by omega) b⟩) (fun _ h => h)
    refine g_aload_n 0 dX10_soIn_51 rfl rfl ?_
    refine g_iload dX10_soIn_52 rfl ?_
    refine g_iconst (v := nI 2) dX10_soIn_54 (by decide +kernel) ?_
    refine m_cVi (ct_of _ _ (by omega)) hvX10_of hyX10_of rfl ⟨by dsimp only; omega, by dsimp only; omega⟩ ⟨Nat.zero_le _, Nat.zero_le _⟩ rfl (Nat.le_of_ble_eq_true rfl) dX10_soIn_55 m_rec (fun r u hp => ?_)
    obtain rfl := hp
    refine GG.topi (hE.2.2.2.2.1 s hsn).2.2 ?_
    refine g_iconst (v := nI 1) dX10_soIn_58 (by decide +kernel) ?_
    refine g_icmp_ne_b (b := true) (tgt := 66) dX10_soIn_59 (by decide) (fun c59 => ?_) (fun c59 => ?_)
    · skip
      refine g_iload_n 2 dX10_soIn_66 rfl rfl ?_
      exact join67 _ (by unfold eT; first | (rw [if_pos c59]) | (rw [if_neg c59]))
    · skip
      refine g_iconst (v := nI 0) dX10_soIn_62 (by decide +kernel) ?_
      refine g_goto (tgt := 67) dX10_soIn_63 (by decide) ?_
      exact join67 _ (by unfold eT; first | (rw [if_pos c59]) | (rw [if_neg c59]))
  · skip
    refine g_aload_n 0 dX10_soIn_0 rfl rfl ?_
    refine g_iload_n 1 dX10_soIn_1 rfl rfl ?_
    refine g_iconst (v := nI 0) dX10_soIn_2 (by decide +kernel) ?_
    refine m_cVi (ct_markOf _ _ (by omega)) hvX10_markOf hyX10_markOf rfl ⟨by dsimp only; omega, by dsimp only; omega⟩ ⟨Nat.zero_le _, Nat.zero_le _⟩ rfl (Nat.le_of_ble_eq_true rfl) dX10_soIn_3 m_rec (fun r u hp => ?_)
    obtain rfl := hp
    refine GG.topi hk ?_
    refine g_istore_n (L' := [(0, _), (1, _), (2, _), (3, _)]) 3 dX10_soIn_6 rfl (by decide) rfl rfl ?_
    refine g_aload_n 0 dX10_soIn_7 rfl rfl ?_
    refine g_iload_n 1 dX10_soIn_8 rfl rfl ?_
    refine g_iconst (v := nI 1) dX10_soIn_9 (by decide +kernel) ?_
    refine m_cVi (ct_markOf _ _ (by omega)) hvX10_markOf hyX10_markOf rfl ⟨by dsimp only; omega, by dsimp only; omega⟩ ⟨Nat.zero_le _, Nat.zero_le _⟩ rfl (Nat.le_of_ble_eq_true rfl) dX10_soIn_10 m_rec (fun r u hp => ?_)
    obtain rfl := hp
    refine GG.topi hn ?_
    refine g_istore (L' := [(0, _), (1, _), (2, _), (3, _), (4, _)]) dX10_soIn_13 (by decide) rfl rfl ?_
    refine g_aload_n 0 dX10_soIn_15 rfl rfl ?_
    refine g_iload_n 1 dX10_soIn_16 rfl rfl ?_
    refine g_iconst (v := nI 2) dX10_soIn_17 (by decide +kernel) ?_
    refine m_cVi (ct_markOf _ _ (by omega)) hvX10_markOf hyX10_markOf rfl ⟨by dsimp only; omega, by dsimp only; omega⟩ ⟨Nat.zero_le _, Nat.zero_le _⟩ rfl (Nat.le_of_ble_eq_true rfl) dX10_soIn_18 m_rec (fun r u hp => ?_)
    obtain rfl := hp
    refine GG.topi hpp ?_
    refine g_istore (L' := [(0, _), (1, _), (2, _), (3, _), (4, _), (5, _)]) dX10_soIn_21 (by decide) rfl rfl ?_
    refine g_iload_n 3 dX10_soIn_23 rfl rfl ?_
    refine g_iconst (v := nI 5) dX10_soIn_24 (by decide +kernel) ?_
    refine g_icmp_ne_n (tgt := 41) dX10_soIn_25 (by decide) (by decide) (by decide) (fun _ => ?_) (fun h => absurd h (by decide))
    refine g_iload_n 3 dX10_soIn_41 rfl rfl ?_
    refine g_iconst (v := nI 3) dX10_soIn_42 (by decide +kernel) ?_
    refine g_icmp_eq_n (tgt := 51) dX10_soIn_43 (by decide) (by decide) (by decide) (fun h => absurd h (by decide)) (fun _ => ?_)
    refine g_iload_n 3 dX10_soIn_46 rfl rfl ?_
    refine g_iconst (v := nI 4) dX10_soIn_47 (by decide +kernel) ?_
    refine g_icmp_ne_n (tgt := 66) dX10_soIn_48 (by decide) (by decide) (by decide) (fun h => absurd h (by decide)) (fun _ => ?_)
    have join67 : ∀ (b9 : Nat), (b9 = eT E s t0) → GG l D cl tys cX10_soIn 9 (some .int) RX10 ({ frames := 4 + 2 * (d + 1), cells := 0, slots := 0, locals := 94 + 60 * (d + 1) } : Room) (AM ma) MT (QM (Qi (fun (v : Int32) (u : (Nat → Nat) × (Nat → Int64)) => v = nI top ∧ soDone rows u.2 top pairs (f E t0)) (fun (u : (Nat → Nat) × (Nat → Int64)) => HM D cl tys mi cI cJ cZ ma known fresh_ saved images isImage thrown tape taped size_ at_ begin_ token value open_ bad badPlace faultKind faultPlace xs ys pairs u.2 (top + 1) u.1 endsBehind path order firstOrder ordersMany tSort tMany numbers) (AM ma)) 0 0 (AM ma)) (HM D cl tys mi cI cJ cZ ma known fresh_ saved images isImage thrown tape taped size_ at_ begin_ token value open_ bad badPlace faultKind faultPlace xs ys pairs rows top heaps endsBehind path order firstOrder ordersMany tSort tMany numbers) 0 0 67 [(0, .ref (ma 0)), (1, .int (nI m0)), (2, .int (nI t0)), (3, .int (nI 4)), (4, .int (nI s)), (5, .int (nI p))] [.int (nI b9)] := by
      intro b9 hb9
      refine g_istore (L' := [(0, _), (1, _), (2, _), (3, _), (4, _), (5, _), (6, _)]) dX10_soIn_67 (by decide) rfl rfl ?_
      refine g_iload_n 3 dX10_soIn_69 rfl rfl ?_
      refine g_iconst (v := nI 2) dX10_soIn_70 (by decide +kernel) ?_
      refine g_icmp_eq_n (tgt := 79) dX10_soIn_71 (by decide) (by decide) (by decide) (fun h => absurd h (by decide)) (fun _ => ?_)
      refine g_iload_n 3 dX10_soIn_74 rfl rfl ?_
      refine g_iconst (v := nI 4) dX10_soIn_75 (by decide +kernel) ?_
      refine g_icmp_ne_n (tgt := 90) dX10_soIn_76 (by decide) (by decide) (by decide) (fun h => absurd h (by decide)) (fun _ => ?_)
      refine g_aload_n 0 dX10_soIn_79 rfl rfl ?_
      refine g_iload dX10_soIn_80 rfl ?_
      refine g_iload dX10_soIn_82 rfl ?_
      have hE2 : EnvM known xs ys pairs rows nS (rstE E b9) b9 := hE.rst (by rw [hb9]; exact eT_le E s t0)
      refine m_cVi (ih _ _ _ _ hsay hE2 (by omega) (by omega)) hvX10_soIn hyX10_soIn rfl ⟨by dsimp only; omega, by dsimp only; omega⟩ ⟨Nat.zero_le _, Nat.zero_le _⟩ rfl (Nat.le_of_ble_eq_true rfl) dX10_soIn_84 m_rec (fun r us hus => ?_)
      obtain ⟨heapsS, rowsS⟩ := us
      obtain ⟨hr9, hdone⟩ := hus
      subst hr9
      have hdone : soDone rows rowsS top pairs _ := hdone
      refine g_goto (tgt := 94) dX10_soIn_87 (by decide) ?_
      refine g_istore (L' := [(0, _), (1, _), (2, _), (3, _), (4, _), (5, _), (6, _), (7, _)]) dX10_soIn_94 (by decide) rfl rfl ?_
      refine g_iload_n 3 dX10_soIn_96 rfl rfl ?_
      refine g_table_n (a := 4) (tgt := 211) dX10_soIn_97 (by decide) (by decide) (by decide) rfl (by decide) ?_
      refine g_aload_n 0 dX10_soIn_211 rfl rfl ?_
      refine g_iload dX10_soIn_212 rfl ?_
      refine g_iload dX10_soIn_214 rfl ?_
      refine g_iload dX10_soIn_216 rfl ?_
      refine m_cVv (ct_laysSeeing s _ _ (E.2.2.2.1 s) (by omega) (hE.2.2.2.2.1 s hsn).1 (hE.2.2.2.2.1 s hsn).2.1 (by have := eT_le E s t0; omega) (by omega) (by have := eT_le E s t0; omega) hE.1) hvX10_laysSeeing hyX10_laysSeeing rfl ⟨by dsimp only; omega, by dsimp only; omega⟩ ⟨Nat.zero_le _, Nat.zero_le _⟩ rfl (Nat.le_of_ble_eq_true rfl) dX10_soIn_218 m_rec (fun u3 hk3 => ?_)
      obtain ⟨heapsR, rowsR⟩ := u3
      have hk3 : rowsUp rowsS rowsR top pairs _ := hk3
      refine g_goto (tgt := 340) dX10_soIn_221 (by decide) ?_
      refine g_iload dX10_soIn_340 rfl ?_
      exact g_iret (heapsR, rowsR) dX10_soIn_342 (Nat.le_refl _) (Nat.le_refl _) (by subst hf; exact ⟨rfl, fun w hw => by rw [rowsUp_in hk3 hP hw]; show _ = seeF E.1 _ _ _ w; rw [hE.2.1]; exact seeF_congr hw (fun v hv => (slW_congr (hE.2.2.1 v hv)).symm) (fun v hv => by rw [hdone.2 b9 v (by have := eT_le E s t0; omega) (by omega), hb9]; exact hE.2.2.2.2.2.2 _ v (eT_le E s t0) hv) (fun v hv => by rw [hdone.1 v hv, hb9]), fun r' w' a b => by rw [rowsUp_ne hk3 (by omega) b]; exact hdone.2 r' w' a b⟩) (fun _ h => h)
    refine g_aload_n 0 dX10_soIn_51 rfl rfl ?_
    refine g_iload dX10_soIn_52 rfl ?_
    refine g_iconst (v := nI 2) dX10_soIn_54 (by decide +kernel) ?_
    refine m_cVi (ct_of _ _ (by omega)) hvX10_of hyX10_of rfl ⟨by dsimp only; omega, by dsimp only; omega⟩ ⟨Nat.zero_le _, Nat.zero_le _⟩ rfl (Nat.le_of_ble_eq_true rfl) dX10_soIn_55 m_rec (fun r u hp => ?_)
    obtain rfl := hp
    refine GG.topi (hE.2.2.2.2.1 s hsn).2.2 ?_
    refine g_iconst (v := nI 1) dX10_soIn_58 (by decide +kernel) ?_
    refine g_icmp_ne_b (b := true) (tgt := 66) dX10_soIn_59 (by decide) (fun c59 => ?_) (fun c59 => ?_)
    · skip
      refine g_iload_n 2 dX10_soIn_66 rfl rfl ?_
      exact join67 _ (by unfold eT; first | (rw [if_pos c59]) | (rw [if_neg c59]))
    · skip
      refine g_iconst (v := nI 0) dX10_soIn_62 (by decide +kernel) ?_
      refine g_goto (tgt := 67) dX10_soIn_63 (by decide) ?_
      exact join67 _ (by unfold eT; first | (rw [if_pos c59]) | (rw [if_neg c59]))
  · skip
    refine g_aload_n 0 dX10_soIn_0 rfl rfl ?_
    refine g_iload_n 1 dX10_soIn_1 rfl rfl ?_
    refine g_iconst (v := nI 0) dX10_soIn_2 (by decide +kernel) ?_
    refine m_cVi (ct_markOf _ _ (by omega)) hvX10_markOf hyX10_markOf rfl ⟨by dsimp only; omega, by dsimp only; omega⟩ ⟨Nat.zero_le _, Nat.zero_le _⟩ rfl (Nat.le_of_ble_eq_true rfl) dX10_soIn_3 m_rec (fun r u hp => ?_)
    obtain rfl := hp
    refine GG.topi hk ?_
    refine g_istore_n (L' := [(0, _), (1, _), (2, _), (3, _)]) 3 dX10_soIn_6 rfl (by decide) rfl rfl ?_
    refine g_aload_n 0 dX10_soIn_7 rfl rfl ?_
    refine g_iload_n 1 dX10_soIn_8 rfl rfl ?_
    refine g_iconst (v := nI 1) dX10_soIn_9 (by decide +kernel) ?_
    refine m_cVi (ct_markOf _ _ (by omega)) hvX10_markOf hyX10_markOf rfl ⟨by dsimp only; omega, by dsimp only; omega⟩ ⟨Nat.zero_le _, Nat.zero_le _⟩ rfl (Nat.le_of_ble_eq_true rfl) dX10_soIn_10 m_rec (fun r u hp => ?_)
    obtain rfl := hp
    refine GG.topi hn ?_
    refine g_istore (L' := [(0, _), (1, _), (2, _), (3, _), (4, _)]) dX10_soIn_13 (by decide) rfl rfl ?_
    refine g_aload_n 0 dX10_soIn_15 rfl rfl ?_
    refine g_iload_n 1 dX10_soIn_16 rfl rfl ?_
    refine g_iconst (v := nI 2) dX10_soIn_17 (by decide +kernel) ?_
    refine m_cVi (ct_markOf _ _ (by omega)) hvX10_markOf hyX10_markOf rfl ⟨by dsimp only; omega, by dsimp only; omega⟩ ⟨Nat.zero_le _, Nat.zero_le _⟩ rfl (Nat.le_of_ble_eq_true rfl) dX10_soIn_18 m_rec (fun r u hp => ?_)
    obtain rfl := hp
    refine GG.topi hpp ?_
    refine g_istore (L' := [(0, _), (1, _), (2, _), (3, _), (4, _), (5, _)]) dX10_soIn_21 (by decide) rfl rfl ?_
    refine g_iload_n 3 dX10_soIn_23 rfl rfl ?_
    refine g_iconst (v := nI 5) dX10_soIn_24 (by decide +kernel) ?_
    refine g_icmp_ne_n (tgt := 41) dX10_soIn_25 (by decide) (by decide) (by decide) (fun h => absurd h (by decide)) (fun _ => ?_)
    refine g_aload_n 0 dX10_soIn_28 rfl rfl ?_
    refine g_iload dX10_soIn_29 rfl ?_
    refine g_iload dX10_soIn_31 rfl ?_
    refine g_iload_n 2 dX10_soIn_33 rfl rfl ?_
    refine g_mmin_n q2124 dX10_soIn_34 (by show 1 ≤ 4 + 2 * (d + 1); omega) (by show 2 + 13 ≤ 94 + 60 * (d + 1); omega) (Nat.zero_le _) (Nat.zero_le _) (by omega) (by have := hE.2.2.2.2.2.1; omega) ?_
    have hE2 : EnvM known xs ys pairs rows nS (rstE E (min a t0)) (min a t0) := hE.rst (Nat.min_le_right _ _)
    refine m_cVi (ih _ _ _ _ hsay hE2 (by omega) (by omega)) hvX10_soIn hyX10_soIn rfl ⟨by dsimp only; omega, by dsimp only; omega⟩ ⟨Nat.zero_le _, Nat.zero_le _⟩ rfl (Nat.le_of_ble_eq_true rfl) dX10_soIn_37 m_rec (fun r us hus => ?_)
    obtain ⟨heapsS, rowsS⟩ := us
    obtain ⟨hr9, hdone⟩ := hus
    subst hr9
    have hdone : soDone rows rowsS top pairs _ := hdone
    exact g_iret (heapsS, rowsS) dX10_soIn_40 (Nat.le_refl _) (Nat.le_refl _) (by subst hf; exact ⟨rfl, hdone⟩) (fun _ h => h)
  · skip
    refine g_aload_n 0 dX10_soIn_0 rfl rfl ?_
    refine g_iload_n 1 dX10_soIn_1 rfl rfl ?_
    refine g_iconst (v := nI 0) dX10_soIn_2 (by decide +kernel) ?_
    refine m_cVi (ct_markOf _ _ (by omega)) hvX10_markOf hyX10_markOf rfl ⟨by dsimp only; omega, by dsimp only; omega⟩ ⟨Nat.zero_le _, Nat.zero_le _⟩ rfl (Nat.le_of_ble_eq_true rfl) dX10_soIn_3 m_rec (fun r u hp => ?_)
    obtain rfl := hp
    refine GG.topi hk ?_
    refine g_istore_n (L' := [(0, _), (1, _), (2, _), (3, _)]) 3 dX10_soIn_6 rfl (by decide) rfl rfl ?_
    refine g_aload_n 0 dX10_soIn_7 rfl rfl ?_
    refine g_iload_n 1 dX10_soIn_8 rfl rfl ?_
    refine g_iconst (v := nI 1) dX10_soIn_9 (by decide +kernel) ?_
    refine m_cVi (ct_markOf _ _ (by omega)) hvX10_markOf hyX10_markOf rfl ⟨by dsimp only; omega, by dsimp only; omega⟩ ⟨Nat.zero_le _, Nat.zero_le _⟩ rfl (Nat.le_of_ble_eq_true rfl) dX10_soIn_10 m_rec (fun r u hp => ?_)
    obtain rfl := hp
    refine g_istore (L' := [(0, _), (1, _), (2, _), (3, _), (4, _)]) dX10_soIn_13 (by decide) rfl rfl ?_
    refine g_aload_n 0 dX10_soIn_15 rfl rfl ?_
    refine g_iload_n 1 dX10_soIn_16 rfl rfl ?_
    refine g_iconst (v := nI 2) dX10_soIn_17 (by decide +kernel) ?_
    refine m_cVi (ct_markOf _ _ (by omega)) hvX10_markOf hyX10_markOf rfl ⟨by dsimp only; omega, by dsimp only; omega⟩ ⟨Nat.zero_le _, Nat.zero_le _⟩ rfl (Nat.le_of_ble_eq_true rfl) dX10_soIn_18 m_rec (fun r u hp => ?_)
    obtain rfl := hp
    refine GG.topi hpp ?_
    refine g_istore (L' := [(0, _), (1, _), (2, _), (3, _), (4, _), (5, _)]) dX10_soIn_21 (by decide) rfl rfl ?_
    refine g_iload_n 3 dX10_soIn_23 rfl rfl ?_
    refine g_iconst (v := nI 5) dX10_soIn_24 (by decide +kernel) ?_
    refine g_icmp_ne_n (tgt := 41) dX10_soIn_25 (by decide) (by decide) (by decide) (fun _ => ?_) (fun h => absurd h (by decide))
    refine g_iload_n 3 dX10_soIn_41 rfl rfl ?_
    refine g_iconst (v := nI 3) dX10_soIn_42 (by decide +kernel) ?_
    refine g_icmp_eq_n (tgt := 51) dX10_soIn_43 (by decide) (by decide) (by decide) (fun h => absurd h (by decide)) (fun _ => ?_)
    refine g_iload_n 3 dX10_soIn_46 rfl rfl ?_
    refine g_iconst (v := nI 4) dX10_soIn_47 (by decide +kernel) ?_
    refine g_icmp_ne_n (tgt := 66) dX10_soIn_48 (by decide) (by decide) (by decide) (fun _ => ?_) (fun h => absurd h (by decide))
    refine g_iload_n 2 dX10_soIn_66 rfl rfl ?_
    refine g_istore (L' := [(0, _), (1, _), (2, _), (3, _), (4, _), (5, _), (6, _)]) dX10_soIn_67 (by decide) rfl rfl ?_
    refine g_iload_n 3 dX10_soIn_69 rfl rfl ?_
    refine g_iconst (v := nI 2) dX10_soIn_70 (by decide +kernel) ?_
    refine g_icmp_eq_n (tgt := 79) dX10_soIn_71 (by decide) (by decide) (by decide) (fun _ => ?_) (fun h => absurd h (by decide))
    refine g_aload_n 0 dX10_soIn_79 rfl rfl ?_
    refine g_iload dX10_soIn_80 rfl ?_
    refine g_iload dX10_soIn_82 rfl ?_
    have hE2 := hE
    refine m_cVi (ih _ _ _ _ hsay hE2 (by omega) (by omega)) hvX10_soIn hyX10_soIn rfl ⟨by dsimp only; omega, by dsimp only; omega⟩ ⟨Nat.zero_le _, Nat.zero_le _⟩ rfl (Nat.le_of_ble_eq_true rfl) dX10_soIn_84 m_rec (fun r us hus => ?_)
    obtain ⟨heapsS, rowsS⟩ := us
    obtain ⟨hr9, hdone⟩ := hus
    subst hr9
    have hdone : soDone rows rowsS top pairs _ := hdone
    refine g_goto (tgt := 94) dX10_soIn_87 (by decide) ?_
    refine g_istore (L' := [(0, _), (1, _), (2, _), (3, _), (4, _), (5, _), (6, _), (7, _)]) dX10_soIn_94 (by decide) rfl rfl ?_
    refine g_iload_n 3 dX10_soIn_96 rfl rfl ?_
    refine g_table_n (a := 2) (tgt := 153) dX10_soIn_97 (by decide) (by decide) (by decide) rfl (by decide) ?_
    refine g_iconst (v := nI 0) dX10_soIn_153 (by decide +kernel) ?_
    refine g_istore (L' := [(0, _), (1, _), (2, _), (3, _), (4, _), (5, _), (6, _), (7, _), (8, _)]) dX10_soIn_154 (by decide) rfl rfl ?_
    have loop156 : ∀ (q156 : Nat) (w : Nat) (rowsR : Nat → Int64), pairs - w < q156 → (w ≤ pairs) → (rowsUp rowsS rowsR top w (fun v => !rbt rowsS top v)) → GG l D cl tys cX10_soIn 9 (some .int) RX10 ({ frames := 4 + 2 * (d + 1), cells := 0, slots := 0, locals := 94 + 60 * (d + 1) } : Room) (AM ma) MT (QM (Qi (fun (v : Int32) (u : (Nat → Nat) × (Nat → Int64)) => v = nI top ∧ soDone rows u.2 top pairs (f E t0)) (fun (u : (Nat → Nat) × (Nat → Int64)) => HM D cl tys mi cI cJ cZ ma known fresh_ saved images isImage thrown tape taped size_ at_ begin_ token value open_ bad badPlace faultKind faultPlace xs ys pairs u.2 (top + 1) u.1 endsBehind path order firstOrder ordersMany tSort tMany numbers) (AM ma)) 0 0 (AM ma)) (HM D cl tys mi cI cJ cZ ma known fresh_ saved images isImage thrown tape taped size_ at_ begin_ token value open_ bad badPlace faultKind faultPlace xs ys pairs rowsR (top + 1) heapsS endsBehind path order firstOrder ordersMany tSort tMany numbers) 0 0 156 [(0, .ref (ma 0)), (1, .int (nI m0)), (2, .int (nI t0)), (3, .int (nI 2)), (4, .int (known (66 + 4 * m0 + 1))), (5, .int (nI p)), (6, .int (nI t0)), (7, .int (nI top)), (8, .int (nI w))] [] := by
      intro q156
      induction q156 with
      | zero => intro w rowsR hq156; exact absurd hq156 (Nat.not_lt_zero _)
      | succ q156 ih156 =>
        intro w rowsR hq156 hw hi
        refine g_iload dX10_soIn_156 rfl ?_
        refine g_aload_n 0 dX10_soIn_158 rfl rfl ?_
        refine m_get_pairs dX10_soIn_159 ?_
        refine g_icmp_ge_n (tgt := 195) dX10_soIn_162 (by decide) (by omega) (by omega) (fun c162 => ?_) (fun c162 => ?_)
        · skip
          have e7 : w = pairs := by omega
          rw [e7] at hi
          refine g_goto (tgt := 340) dX10_soIn_195 (by decide) ?_
          refine g_iload dX10_soIn_340 rfl ?_
          exact g_iret (heapsS, rowsR) dX10_soIn_342 (Nat.le_refl _) (Nat.le_refl _) (by subst hf; exact ⟨rfl, fun v hv => by rw [rowsUp_in hi hP (by omega), hdone.1 v hv]; rfl, fun r' w' a b => by rw [rowsUp_ne hi (by omega) b]; exact hdone.2 r' w' a b⟩) (fun _ h => h)
        · skip
          refine g_aload_n 0 dX10_soIn_165 rfl rfl ?_
          refine g_iload dX10_soIn_166 rfl ?_
          refine g_iload dX10_soIn_168 rfl ?_
          refine g_aload_n 0 dX10_soIn_170 rfl rfl ?_
          refine g_iload dX10_soIn_171 rfl ?_
          refine g_iload dX10_soIn_173 rfl ?_
          refine m_cVi (ct_has _ _ (by omega) (by omega)) hvX10_has hyX10_has rfl ⟨by dsimp only; omega, by dsimp only; omega⟩ ⟨Nat.zero_le _, Nat.zero_le _⟩ rfl (Nat.le_of_ble_eq_true rfl) dX10_soIn_175 m_rec (fun r u hp => ?_)
          obtain rfl := hp
          refine g_if_ne_b (tgt := 185) dX10_soIn_178 (by decide) (fun c178 => ?_) (fun c178 => ?_)
          · skip
            refine g_iconst (v := nI 0) dX10_soIn_185 (by decide +kernel) ?_
            refine m_cVv (ct_puts _ _ false (by omega) (by omega)) hvX10_puts hyX10_puts rfl ⟨by dsimp only; omega, by dsimp only; omega⟩ ⟨Nat.zero_le _, Nat.zero_le _⟩ rfl (Nat.le_of_ble_eq_true rfl) dX10_soIn_186 m_rec (fun rows3 hp => ?_)
            refine g_iinc_n (b := 1) (L' := [(0, _), (1, _), (2, _), (3, _), (4, _), (5, _), (6, _), (7, _), (8, _)]) dX10_soIn_189 rfl rfl (by decide) rfl rfl ?_
            refine g_goto (tgt := 156) dX10_soIn_192 (by decide) ?_
            have h8 : rbt rowsR top w = rbt rowsS top w := by rw [hi top w (by omega), if_neg (fun q => Nat.lt_irrefl _ q.2)]
            rw [h8] at c178
            exact ih156 (w + 1) rows3 (by omega) (by omega) (rowsUp_step hi hp (by rw [c178]; rfl))
          · skip
            refine g_iconst (v := nI 1) dX10_soIn_181 (by decide +kernel) ?_
            refine g_goto (tgt := 186) dX10_soIn_182 (by decide) ?_
            refine m_cVv (ct_puts _ _ true (by omega) (by omega)) hvX10_puts hyX10_puts rfl ⟨by dsimp only; omega, by dsimp only; omega⟩ ⟨Nat.zero_le _, Nat.zero_le _⟩ rfl (Nat.le_of_ble_eq_true rfl) dX10_soIn_186 m_rec (fun rows3 hp => ?_)
            refine g_iinc_n (b := 1) (L' := [(0, _), (1, _), (2, _), (3, _), (4, _), (5, _), (6, _), (7, _), (8, _)]) dX10_soIn_189 rfl rfl (by decide) rfl rfl ?_
            refine g_goto (tgt := 156) dX10_soIn_192 (by decide) ?_
            have h8 : rbt rowsR top w = rbt rowsS top w := by rw [hi top w (by omega), if_neg (fun q => Nat.lt_irrefl _ q.2)]
            rw [h8] at c178
            exact ih156 (w + 1) rows3 (by omega) (by omega) (rowsUp_step hi hp (by rw [c178]; rfl))
    exact loop156 (pairs + 1) 0 rowsS (by omega) (by omega) rowsUp_0
  · skip
    refine g_aload_n 0 dX10_soIn_0 rfl rfl ?_
    refine g_iload_n 1 dX10_soIn_1 rfl rfl ?_
    refine g_iconst (v := nI 0) dX10_soIn_2 (by decide +kernel) ?_
    refine m_cVi (ct_markOf _ _ (by omega)) hvX10_markOf hyX10_markOf rfl ⟨by dsimp only; omega, by dsimp only; omega⟩ ⟨Nat.zero_le _, Nat.zero_le _⟩ rfl (Nat.le_of_ble_eq_true rfl) dX10_soIn_3 m_rec (fun r u hp => ?_)
    obtain rfl := hp
    refine GG.topi hk ?_
    refine g_istore_n (L' := [(0, _), (1, _), (2, _), (3, _)]) 3 dX10_soIn_6 rfl (by decide) rfl rfl ?_
    refine g_aload_n 0 dX10_soIn_7 rfl rfl ?_
    refine g_iload_n 1 dX10_soIn_8 rfl rfl ?_
    refine g_iconst (v := nI 1) dX10_soIn_9 (by decide +kernel) ?_
    refine m_cVi (ct_markOf _ _ (by omega)) hvX10_markOf hyX10_markOf rfl ⟨by dsimp only; omega, by dsimp only; omega⟩ ⟨Nat.zero_le _, Nat.zero_le _⟩ rfl (Nat.le_of_ble_eq_true rfl) dX10_soIn_10 m_rec (fun r u hp => ?_)
    obtain rfl := hp
    refine g_istore (L' := [(0, _), (1, _), (2, _), (3, _), (4, _)]) dX10_soIn_13 (by decide) rfl rfl ?_
    refine g_aload_n 0 dX10_soIn_15 rfl rfl ?_
    refine g_iload_n 1 dX10_soIn_16 rfl rfl ?_
    refine g_iconst (v := nI 2) dX10_soIn_17 (by decide +kernel) ?_
    refine m_cVi (ct_markOf _ _ (by omega)) hvX10_markOf hyX10_markOf rfl ⟨by dsimp only; omega, by dsimp only; omega⟩ ⟨Nat.zero_le _, Nat.zero_le _⟩ rfl (Nat.le_of_ble_eq_true rfl) dX10_soIn_18 m_rec (fun r u hp => ?_)
    obtain rfl := hp
    refine g_istore (L' := [(0, _), (1, _), (2, _), (3, _), (4, _), (5, _)]) dX10_soIn_21 (by decide) rfl rfl ?_
    refine g_iload_n 3 dX10_soIn_23 rfl rfl ?_
    refine g_iconst (v := nI 5) dX10_soIn_24 (by decide +kernel) ?_
    refine g_icmp_ne_n (tgt := 41) dX10_soIn_25 (by decide) (by decide) (by decide) (fun _ => ?_) (fun h => absurd h (by decide))
    refine g_iload_n 3 dX10_soIn_41 rfl rfl ?_
    refine g_iconst (v := nI 3) dX10_soIn_42 (by decide +kernel) ?_
    refine g_icmp_eq_n (tgt := 51) dX10_soIn_43 (by decide) (by decide) (by decide) (fun h => absurd h (by decide)) (fun _ => ?_)
    refine g_iload_n 3 dX10_soIn_46 rfl rfl ?_
    refine g_iconst (v := nI 4) dX10_soIn_47 (by decide +kernel) ?_
    refine g_icmp_ne_n (tgt := 66) dX10_soIn_48 (by decide) (by decide) (by decide) (fun _ => ?_) (fun h => absurd h (by decide))
    refine g_iload_n 2 dX10_soIn_66 rfl rfl ?_
    refine g_istore (L' := [(0, _), (1, _), (2, _), (3, _), (4, _), (5, _), (6, _)]) dX10_soIn_67 (by decide) rfl rfl ?_
    refine g_iload_n 3 dX10_soIn_69 rfl rfl ?_
    refine g_iconst (v := nI 2) dX10_soIn_70 (by decide +kernel) ?_
    refine g_icmp_eq_n (tgt := 79) dX10_soIn_71 (by decide) (by decide) (by decide) (fun h => absurd h (by decide)) (fun _ => ?_)
    refine g_iload_n 3 dX10_soIn_74 rfl rfl ?_
    refine g_iconst (v := nI 4) dX10_soIn_75 (by decide +kernel) ?_
    refine g_icmp_ne_n (tgt := 90) dX10_soIn_76 (by decide) (by decide) (by decide) (fun _ => ?_) (fun h => absurd h (by decide))
    refine g_aload_n 0 dX10_soIn_90 rfl rfl ?_
    refine m_cVi (ct_pushes) hvX10_pushes hyX10_pushes rfl ⟨by dsimp only; omega, by dsimp only; omega⟩ ⟨Nat.zero_le _, Nat.zero_le _⟩ rfl (Nat.le_of_ble_eq_true rfl) dX10_soIn_91 m_rec (fun r u hp => ?_)
    obtain rfl := hp
    refine g_istore (L' := [(0, _), (1, _), (2, _), (3, _), (4, _), (5, _), (6, _), (7, _)]) dX10_soIn_94 (by decide) rfl rfl ?_
    refine g_iload_n 3 dX10_soIn_96 rfl rfl ?_
    refine g_table_n (a := 0) (tgt := 132) dX10_soIn_97 (by decide) (by decide) (by decide) rfl (by decide) ?_
    refine g_aload_n 0 dX10_soIn_132 rfl rfl ?_
    refine g_iload dX10_soIn_133 rfl ?_
    refine g_iload dX10_soIn_135 rfl ?_
    refine g_iload_n 2 dX10_soIn_137 rfl rfl ?_
    refine g_iload_n 3 dX10_soIn_138 rfl rfl ?_
    refine g_if_ne_n (tgt := 146) dX10_soIn_139 (by decide) (by decide) (fun h => absurd h (by decide)) (fun _ => ?_)
    refine g_iconst (v := nI 1) dX10_soIn_142 (by decide +kernel) ?_
    refine g_goto (tgt := 147) dX10_soIn_143 (by decide) ?_
    refine m_cVv (ct_joins d nS _ t0 _ true gs E ih hch hE (by omega) (by omega) (by omega)) hvX10_joins hyX10_joins rfl ⟨by dsimp only; omega, by dsimp only; omega⟩ ⟨Nat.zero_le _, Nat.zero_le _⟩ rfl (Nat.le_of_ble_eq_true rfl) dX10_soIn_147 m_rec (fun us hus => ?_)
    obtain ⟨heapsR, rowsR⟩ := us
    have hj : jDone rows rowsR top (top + 1) pairs _ := hus
    have hR : soDone rows rowsR top pairs _ := ⟨fun w hw => hj.1 w hw, fun r' w' a b => hj.2 r' w' (by omega) (by omega) b⟩
    refine g_goto (tgt := 340) dX10_soIn_150 (by decide) ?_
    refine g_iload dX10_soIn_340 rfl ?_
    exact g_iret (heapsR, rowsR) dX10_soIn_342 (Nat.le_refl _) (Nat.le_refl _) (by subst hf; exact ⟨rfl, hR⟩) (fun _ h => h)
  · skip
    refine g_aload_n 0 dX10_soIn_0 rfl rfl ?_
    refine g_iload_n 1 dX10_soIn_1 rfl rfl ?_
    refine g_iconst (v := nI 0) dX10_soIn_2 (by decide +kernel) ?_
    refine m_cVi (ct_markOf _ _ (by omega)) hvX10_markOf hyX10_markOf rfl ⟨by dsimp only; omega, by dsimp only; omega⟩ ⟨Nat.zero_le _, Nat.zero_le _⟩ rfl (Nat.le_of_ble_eq_true rfl) dX10_soIn_3 m_rec (fun r u hp => ?_)
    obtain rfl := hp
    refine GG.topi hk ?_
    refine g_istore_n (L' := [(0, _), (1, _), (2, _), (3, _)]) 3 dX10_soIn_6 rfl (by decide) rfl rfl ?_
    refine g_aload_n 0 dX10_soIn_7 rfl rfl ?_
    refine g_iload_n 1 dX10_soIn_8 rfl rfl ?_
    refine g_iconst (v := nI 1) dX10_soIn_9 (by decide +kernel) ?_
    refine m_cVi (ct_markOf _ _ (by omega)) hvX10_markOf hyX10_markOf rfl ⟨by dsimp only; omega, by dsimp only; omega⟩ ⟨Nat.zero_le _, Nat.zero_le _⟩ rfl (Nat.le_of_ble_eq_true rfl) dX10_soIn_10 m_rec (fun r u hp => ?_)
    obtain rfl := hp
    refine g_istore (L' := [(0, _), (1, _), (2, _), (3, _), (4, _)]) dX10_soIn_13 (by decide) rfl rfl ?_
    refine g_aload_n 0 dX10_soIn_15 rfl rfl ?_
    refine g_iload_n 1 dX10_soIn_16 rfl rfl ?_
    refine g_iconst (v := nI 2) dX10_soIn_17 (by decide +kernel) ?_
    refine m_cVi (ct_markOf _ _ (by omega)) hvX10_markOf hyX10_markOf rfl ⟨by dsimp only; omega, by dsimp only; omega⟩ ⟨Nat.zero_le _, Nat.zero_le _⟩ rfl (Nat.le_of_ble_eq_true rfl) dX10_soIn_18 m_rec (fun r u hp => ?_)
    obtain rfl := hp
    refine g_istore (L' := [(0, _), (1, _), (2, _), (3, _), (4, _), (5, _)]) dX10_soIn_21 (by decide) rfl rfl ?_
    refine g_iload_n 3 dX10_soIn_23 rfl rfl ?_
    refine g_iconst (v := nI 5) dX10_soIn_24 (by decide +kernel) ?_
    refine g_icmp_ne_n (tgt := 41) dX10_soIn_25 (by decide) (by decide) (by decide) (fun _ => ?_) (fun h => absurd h (by decide))
    refine g_iload_n 3 dX10_soIn_41 rfl rfl ?_
    refine g_iconst (v := nI 3) dX10_soIn_42 (by decide +kernel) ?_
    refine g_icmp_eq_n (tgt := 51) dX10_soIn_43 (by decide) (by decide) (by decide) (fun h => absurd h (by decide)) (fun _ => ?_)
    refine g_iload_n 3 dX10_soIn_46 rfl rfl ?_
    refine g_iconst (v := nI 4) dX10_soIn_47 (by decide +kernel) ?_
    refine g_icmp_ne_n (tgt := 66) dX10_soIn_48 (by decide) (by decide) (by decide) (fun _ => ?_) (fun h => absurd h (by decide))
    refine g_iload_n 2 dX10_soIn_66 rfl rfl ?_
    refine g_istore (L' := [(0, _), (1, _), (2, _), (3, _), (4, _), (5, _), (6, _)]) dX10_soIn_67 (by decide) rfl rfl ?_
    refine g_iload_n 3 dX10_soIn_69 rfl rfl ?_
    refine g_iconst (v := nI 2) dX10_soIn_70 (by decide +kernel) ?_
    refine g_icmp_eq_n (tgt := 79) dX10_soIn_71 (by decide) (by decide) (by decide) (fun h => absurd h (by decide)) (fun _ => ?_)
    refine g_iload_n 3 dX10_soIn_74 rfl rfl ?_
    refine g_iconst (v := nI 4) dX10_soIn_75 (by decide +kernel) ?_
    refine g_icmp_ne_n (tgt := 90) dX10_soIn_76 (by decide) (by decide) (by decide) (fun _ => ?_) (fun h => absurd h (by decide))
    refine g_aload_n 0 dX10_soIn_90 rfl rfl ?_
    refine m_cVi (ct_pushes) hvX10_pushes hyX10_pushes rfl ⟨by dsimp only; omega, by dsimp only; omega⟩ ⟨Nat.zero_le _, Nat.zero_le _⟩ rfl (Nat.le_of_ble_eq_true rfl) dX10_soIn_91 m_rec (fun r u hp => ?_)
    obtain rfl := hp
    refine g_istore (L' := [(0, _), (1, _), (2, _), (3, _), (4, _), (5, _), (6, _), (7, _)]) dX10_soIn_94 (by decide) rfl rfl ?_
    refine g_iload_n 3 dX10_soIn_96 rfl rfl ?_
    refine g_table_n (a := 1) (tgt := 132) dX10_soIn_97 (by decide) (by decide) (by decide) rfl (by decide) ?_
    refine g_aload_n 0 dX10_soIn_132 rfl rfl ?_
    refine g_iload dX10_soIn_133 rfl ?_
    refine g_iload dX10_soIn_135 rfl ?_
    refine g_iload_n 2 dX10_soIn_137 rfl rfl ?_
    refine g_iload_n 3 dX10_soIn_138 rfl rfl ?_
    refine g_if_ne_n (tgt := 146) dX10_soIn_139 (by decide) (by decide) (fun _ => ?_) (fun h => absurd h (by decide))
    refine g_iconst (v := nI 0) dX10_soIn_146 (by decide +kernel) ?_
    refine m_cVv (ct_joins d nS _ t0 _ false gs E ih hch hE (by omega) (by omega) (by omega)) hvX10_joins hyX10_joins rfl ⟨by dsimp only; omega, by dsimp only; omega⟩ ⟨Nat.zero_le _, Nat.zero_le _⟩ rfl (Nat.le_of_ble_eq_true rfl) dX10_soIn_147 m_rec (fun us hus => ?_)
    obtain ⟨heapsR, rowsR⟩ := us
    have hj : jDone rows rowsR top (top + 1) pairs _ := hus
    have hR : soDone rows rowsR top pairs _ := ⟨fun w hw => hj.1 w hw, fun r' w' a b => hj.2 r' w' (by omega) (by omega) b⟩
    refine g_goto (tgt := 340) dX10_soIn_150 (by decide) ?_
    refine g_iload dX10_soIn_340 rfl ?_
    exact g_iret (heapsR, rowsR) dX10_soIn_342 (Nat.le_refl _) (Nat.le_refl _) (by subst hf; exact ⟨rfl, hR⟩) (fun _ h => h)
theorem so_all (nS : Nat) : ∀ d : Nat, SoOK l D cl tys mi cI cJ cZ ma nS d
  | 0 => fun f m0 t0 E h => h.elim
  | d + 1 => fun f m0 t0 E h hE h1 h2 => ct_soInS d nS m0 t0 f E (so_all nS d) h hE h1 h2
end
