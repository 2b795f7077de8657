/-! THE MODEL, 17: the reader, words, numbers, marks -/
set_option maxRecDepth 100000
theorem isS_t {X : Txt} {p c a b t v : Nat} (h : RdP X p a b t v) (ht : t = 3) (hv : v = c) : nI 1 = bI (isS X c p) := by
  rw [isS_iff.mpr ⟨by rw [← h.2.2.1]; exact ht, by rw [← h.2.2.2.1 (Or.inr ht)]; exact hv⟩]; rfl
theorem isS_f {X : Txt} {p c a b t v : Nat} (h : RdP X p a b t v) (hn : ¬ t = 3 ∨ ¬ v = c) : nI 0 = bI (isS X c p) := by
  have : isS X c p = false := by
    cases q : isS X c p with
    | false => rfl
    | true =>
      obtain ⟨q1, q2⟩ := isS_iff.mp q
      rw [← h.2.2.1] at q1
      rw [← h.2.2.2.1 (Or.inr q1)] at q2
      exact hn.elim (fun z => absurd q1 z) (fun z => absurd q2 z)
  rw [this]; rfl
theorem num_ok {X : Txt} {p lo hi a b t v a1 b1 t1 v1 bp : Nat} (hR : RdP X p a b t v) (hr : RdP X (tkE X p) a1 b1 t1 v1) (hp : tkE X p ≤ X.2) (ht : t = 2) (hv : lo ≤ v ∧ v < hi) : RdR X (pNum X lo hi p) a1 b1 t1 v1 0 bp ∧ (∀ x z, pNum X lo hi p = PR.ok x z → nI v = nI x) ∧ (¬ 0 = 0 → nI v = nI lo) := by
  have e : pNum X lo hi p = PR.ok v (tkE X p) := by
    unfold pNum
    rw [if_pos (by rw [← hR.2.2.1]; exact ht), ← hR.2.2.2.1 (Or.inl ht), if_pos hv]
  exact ⟨RdR.ok e hr hp, fun x z q => by rw [e] at q; rw [(PR.inj q).1], fun q => absurd rfl q⟩
theorem num_3 {X : Txt} {p lo hi a b t v bd bp : Nat} (hR : RdP X p a b t v) (ht : t = 2) (hv : ¬ (lo ≤ v ∧ v < hi)) (h1 : bd = if t = 4 then 1 else 3) (h2 : bp = b) : RdR X (pNum X lo hi p) a b t v bd bp ∧ (∀ x z, pNum X lo hi p = PR.ok x z → nI lo = nI x) ∧ (¬ bd = 0 → nI lo = nI lo) := by
  have e : pNum X lo hi p = PR.no 3 (tkB X p) := by
    unfold pNum
    rw [if_pos (by rw [← hR.2.2.1]; exact ht), ← hR.2.2.2.1 (Or.inl ht), if_neg hv]
  rw [if_neg (by omega)] at h1
  exact ⟨RdR.no e hR.t4 hR.2.2.2.2 h1 (by rw [h2, hR.2.1]) (by omega), fun x z q => by rw [e] at q; exact (PR.ne q).elim, fun _ => rfl⟩
theorem num_w {X : Txt} {p lo hi a b t v bd bp : Nat} (hR : RdP X p a b t v) (ht : ¬ t = 2) (h1 : bd = if t = 4 then 1 else 2) (h2 : bp = b) : RdR X (pNum X lo hi p) a b t v bd bp ∧ (∀ x z, pNum X lo hi p = PR.ok x z → nI lo = nI x) ∧ (¬ bd = 0 → nI lo = nI lo) := by
  have e : pNum X lo hi p = pWrong X p := by
    unfold pNum
    rw [if_neg (by rw [← hR.2.2.1]; exact ht)]
  exact ⟨pWrong_R hR e h1 h2, fun x z q => by rw [e] at q; exact (PR.ne q).elim, fun _ => rfl⟩
/-- a mark made -/
def mkM (g : Nat → Int32) (M kd nb : Nat) (pt : Int32) : Nat → Int32 := up (up (up (up (up g (66 + 4 * M) (nI kd)) (66 + 4 * M + 1) (nI nb)) (66 + 4 * M + 2) pt) (66 + 4 * M + 3) (-1)) 7 (nI (M + 1))
section
variable {l : Launch} {D : va_G} {cl : List vw_C} {tys : List (ClassId × FieldType)} {mi : Nat} {cI cJ cZ : ClassId} {ma : Nat → Nat} {known fresh_ saved images : Nat → Int32} {isImage : Nat → Bool} {thrown : Nat} {tape : Nat → Nat} {taped size_ at_ begin_ token value open_ bad badPlace faultKind : Nat} {faultPlace : Int32} {xs ys : Nat → Nat} {pairs : Nat} {rows : Nat → Int64} {top : Nat} {heaps : Nat → Nat} {endsBehind : Nat → Int32} {path order firstOrder : Nat → Nat} {ordersMany : Nat} {tSort : Nat → Int32} {tMany : Nat → Nat} {numbers : Nat → Int64}
set_option maxHeartbeats 4000000 in
/-- the first fault -/
theorem ct_blames (kd : Nat) (ht4 : token ≤ 4) (hk : kd < 2 ^ 31) : CT l D cl tys yX10_blames cX10_blames 2 none ({ frames := 0, cells := 0, slots := 0, locals := 0 } : Room) [.ref (ma 0), .int (nI kd)] (HM D cl tys mi cI cJ cZ ma known fresh_ saved images isImage thrown tape taped size_ at_ begin_ token value open_ 0 badPlace faultKind faultPlace xs ys pairs rows top heaps endsBehind path order firstOrder ordersMany tSort tMany numbers) (Qv (fun (u : Nat × Nat) => u.1 = (if token = 4 then 1 else kd) ∧ u.2 = begin_) (fun (u : Nat × Nat) => HM D cl tys mi cI cJ cZ ma known fresh_ saved images isImage thrown tape taped size_ at_ begin_ token value open_ u.1 u.2 faultKind faultPlace xs ys pairs rows top heaps endsBehind path order firstOrder ordersMany tSort tMany numbers) (AM ma)) (AM ma) := by
  refine CT.of (L := [(0, .ref (ma 0)), (1, .int (nI kd))]) rfl (by decide +kernel) rfl (Nat.le_of_ble_eq_true rfl) ?_
  refine g_aload_n 0 dX10_blames_0 rfl rfl ?_
  refine m_get_bad dX10_blames_1 ?_
  refine g_if_eq_n (tgt := 8) dX10_blames_4 (by decide) (by decide) (fun _ => ?_) (fun h => absurd h (by decide))
  refine g_aload_n 0 dX10_blames_8 rfl rfl ?_
  refine g_aload_n 0 dX10_blames_9 rfl rfl ?_
  refine m_get_token dX10_blames_10 ?_
  refine g_iconst (v := nI 4) dX10_blames_13 (by decide +kernel) ?_
  refine g_icmp_ne_n (tgt := 21) dX10_blames_14 (by decide) (by omega) (by omega) (fun c14 => ?_) (fun c14 => ?_)
  · skip
    refine g_iload_n 1 dX10_blames_21 rfl rfl ?_
    refine m_put_bad dX10_blames_22 ?_
    refine g_aload_n 0 dX10_blames_25 rfl rfl ?_
    refine g_aload_n 0 dX10_blames_26 rfl rfl ?_
    refine m_get_begin dX10_blames_27 ?_
    refine m_put_badPlace dX10_blames_30 ?_
    exact g_vret (_, _) dX10_blames_33 (Nat.le_refl _) (Nat.le_refl _) (by refine ⟨?_, rfl⟩; first | rw [if_pos c14] | rw [if_neg c14]) (fun _ h => h)
  · skip
    refine g_iconst (v := nI 1) dX10_blames_17 (by decide +kernel) ?_
    refine g_goto (tgt := 22) dX10_blames_18 (by decide) ?_
    refine m_put_bad dX10_blames_22 ?_
    refine g_aload_n 0 dX10_blames_25 rfl rfl ?_
    refine g_aload_n 0 dX10_blames_26 rfl rfl ?_
    refine m_get_begin dX10_blames_27 ?_
    refine m_put_badPlace dX10_blames_30 ?_
    exact g_vret (_, _) dX10_blames_33 (Nat.le_refl _) (Nat.le_refl _) (by refine ⟨?_, rfl⟩; first | rw [if_pos c14] | rw [if_neg c14]) (fun _ h => h)
set_option maxHeartbeats 4000000 in
/-- no other one -/
theorem ct_blames_bad (kd : Nat) (hbd : 0 < bad ∧ bad < 10) : CT l D cl tys yX10_blames cX10_blames 2 none ({ frames := 0, cells := 0, slots := 0, locals := 0 } : Room) [.ref (ma 0), .int (nI kd)] (HM D cl tys mi cI cJ cZ ma known fresh_ saved images isImage thrown tape taped size_ at_ begin_ token value open_ bad badPlace faultKind faultPlace xs ys pairs rows top heaps endsBehind path order firstOrder ordersMany tSort tMany numbers) (Qv (fun (u : Unit) => True) (fun (u : Unit) => HM D cl tys mi cI cJ cZ ma known fresh_ saved images isImage thrown tape taped size_ at_ begin_ token value open_ bad badPlace faultKind faultPlace xs ys pairs rows top heaps endsBehind path order firstOrder ordersMany tSort tMany numbers) (AM ma)) (AM ma) := by
  refine CT.of (L := [(0, .ref (ma 0)), (1, .int (nI kd))]) rfl (by decide +kernel) rfl (Nat.le_of_ble_eq_true rfl) ?_
  refine g_aload_n 0 dX10_blames_0 rfl rfl ?_
  refine m_get_bad dX10_blames_1 ?_
  refine g_if_eq_n (tgt := 8) dX10_blames_4 (by decide) (by omega) (fun c4 => ?_) (fun c4 => ?_)
  · skip
    exact absurd c4 (by omega)
  · skip
    exact g_vret () dX10_blames_7 (Nat.le_refl _) (Nat.le_refl _) (trivial) (fun _ h => h)
theorem kvX10_J7_length_109 : GoodIn lw_all (wsV RX10 109 yJ7_length.cls yJ7_length (ws_ yJ7_length cJ7_length 1 (some .int))) := lw_V q2014 q887 q888 q124 q889
theorem kyX10_J7_length_109 : yJ7_length.cls = yJ7_length.cls ∧ yJ7_length.cls ≠ "java/lang/invoke/MethodHandle" ∧ yJ7_length.cls ≠ "java/lang/invoke/VarHandle" ∧ (parseMethodDescriptor yJ7_length.desc).map (fun d => d.parameters.length) = some 0 := by decide +kernel
theorem kvX10_J7_charAt_115 : GoodIn lw_all (wsV RX10 115 yJ7_charAt.cls yJ7_charAt (ws_ yJ7_charAt cJ7_charAt 2 (some .char))) := lw_V q2015 q901 q902 q124 q903
theorem kyX10_J7_charAt_115 : yJ7_charAt.cls = yJ7_charAt.cls ∧ yJ7_charAt.cls ≠ "java/lang/invoke/MethodHandle" ∧ yJ7_charAt.cls ≠ "java/lang/invoke/VarHandle" ∧ (parseMethodDescriptor yJ7_charAt.desc).map (fun d => d.parameters.length) = some 1 := by decide +kernel
set_option maxHeartbeats 4000000 in
/-- a word stands there -/
theorem ct_isWord (p : Nat) (w : List Nat) {i : Nat} {q : String × Nat × String × Nat × List Int32} (hs : size_ ≤ 900) (hT : ∀ j, tape j < 256) (hR : RdP (tape, size_) p at_ begin_ token value) (hps : p ≤ size_) (hq : strT[i]? = some q) (hw : isWd q w) : CT l D cl tys yX10_isWord cX10_isWord 4 (some .boolean) ({ frames := 4, cells := 0, slots := 0, locals := 85 } : Room) [.ref (ma 0), .ref (D.2 1000 i)] (HM D cl tys mi cI cJ cZ ma known fresh_ saved images isImage thrown tape taped size_ at_ begin_ token value open_ 0 badPlace faultKind faultPlace xs ys pairs rows top heaps endsBehind path order firstOrder ordersMany tSort tMany numbers) (Qi (fun (v : Int32) (u : Unit) => v = bI (isW (tape, size_) w p)) (fun (u : Unit) => HM D cl tys mi cI cJ cZ ma known fresh_ saved images isImage thrown tape taped size_ at_ begin_ token value open_ 0 badPlace faultKind faultPlace xs ys pairs rows top heaps endsBehind path order firstOrder ordersMany tSort tMany numbers) (AM ma)) (AM ma) := by
  have hE := hR.le hps
  have hE2 : at_ ≤ size_ := hE.1
  have hwl := hw.2.1
  refine CT.of (L := [(0, .ref (ma 0)), (1, .ref (D.2 1000 i))]) rfl (by decide +kernel) rfl (Nat.le_of_ble_eq_true rfl) ?_
  refine g_aload_n 0 dX10_isWord_0 rfl rfl ?_
  refine m_get_bad dX10_isWord_1 ?_
  refine g_if_ne_n (tgt := 35) dX10_isWord_4 (by decide) (by decide) (fun h => absurd h (by decide)) (fun _ => ?_)
  have join36 : ∀ (bb : Bool), ((bb = true → token = 1 ∧ at_ - begin_ = w.length) ∧ (bb = false → isW (tape, size_) w p = false)) → GG l D cl tys cX10_isWord 4 (some .boolean) RX10 ({ frames := 4, cells := 0, slots := 0, locals := 85 } : Room) (AM ma) MT (QM (Qi (fun (v : Int32) (u : Unit) => v = bI (isW (tape, size_) w p)) (fun (u : Unit) => HM D cl tys mi cI cJ cZ ma known fresh_ saved images isImage thrown tape taped size_ at_ begin_ token value open_ 0 badPlace faultKind faultPlace xs ys pairs rows top heaps endsBehind path order firstOrder ordersMany tSort tMany numbers) (AM ma)) 0 0 (AM ma)) (HM D cl tys mi cI cJ cZ ma known fresh_ saved images isImage thrown tape taped size_ at_ begin_ token value open_ 0 badPlace faultKind faultPlace xs ys pairs rows top heaps endsBehind path order firstOrder ordersMany tSort tMany numbers) 0 0 36 [(0, .ref (ma 0)), (1, .ref (D.2 1000 i))] [.int (bI bb)] := by
    intro bb hb0
    refine g_istore_n (L' := [(0, _), (1, _), (2, _)]) 2 dX10_isWord_36 rfl (by decide) rfl rfl ?_
    refine g_iconst (v := nI 0) dX10_isWord_37 (by decide +kernel) ?_
    refine g_istore_n (L' := [(0, _), (1, _), (2, _), (3, _)]) 3 dX10_isWord_38 rfl (by decide) rfl rfl ?_
    have loop39 : ∀ (q39 : Nat) (k : Nat) (bb : Bool), w.length - k < q39 → ((bb = true → token = 1 ∧ k ≤ w.length ∧ (∀ j, j < k → tape (begin_ + j) = w.getD j 0) ∧ begin_ + w.length = at_) ∧ (bb = false → isW (tape, size_) w p = false)) → GG l D cl tys cX10_isWord 4 (some .boolean) RX10 ({ frames := 4, cells := 0, slots := 0, locals := 85 } : Room) (AM ma) MT (QM (Qi (fun (v : Int32) (u : Unit) => v = bI (isW (tape, size_) w p)) (fun (u : Unit) => HM D cl tys mi cI cJ cZ ma known fresh_ saved images isImage thrown tape taped size_ at_ begin_ token value open_ 0 badPlace faultKind faultPlace xs ys pairs rows top heaps endsBehind path order firstOrder ordersMany tSort tMany numbers) (AM ma)) 0 0 (AM ma)) (HM D cl tys mi cI cJ cZ ma known fresh_ saved images isImage thrown tape taped size_ at_ begin_ token value open_ 0 badPlace faultKind faultPlace xs ys pairs rows top heaps endsBehind path order firstOrder ordersMany tSort tMany numbers) 0 0 39 [(0, .ref (ma 0)), (1, .ref (D.2 1000 i)), (2, .int (bI bb)), (3, .int (nI k))] [] := by
      intro q39
      induction q39 with
      | zero => intro k bb hq39; exact absurd hq39 (Nat.not_lt_zero _)
      | succ q39 ih39 =>
        intro k bb hq39 hbb
        refine g_iload_n 2 dX10_isWord_39 rfl rfl ?_
        refine g_if_eq_b (tgt := 82) dX10_isWord_40 (by decide) (fun c40 => ?_) (fun c40 => ?_)
        · skip
          refine g_iload_n 2 dX10_isWord_82 rfl rfl ?_
          exact g_zret () dX10_isWord_83 (Nat.le_refl _) (Nat.le_refl _) (congrArg bI (by first | (rw [c40]; exact (hbb.2 c40).symm) | (rw [c40]; exact (isW_iff.mpr ⟨by rw [← hR.2.2.1]; exact (hbb.1 c40).1, by rw [← hR.1, ← hR.2.1]; have := (hbb.1 c40).2.2.2; omega, fun j hj => by rw [← hR.2.1]; exact (hbb.1 c40).2.2.1 j (by omega)⟩).symm))) (fun _ h => h)
        · skip
          refine g_iload_n 3 dX10_isWord_43 rfl rfl ?_
          refine g_aload_n 1 dX10_isWord_44 rfl rfl ?_
          refine g_cTi hq (ctJ7_length hq) rfl kvX10_J7_length_109 kyX10_J7_length_109 rfl ⟨Nat.le_of_ble_eq_true rfl, Nat.le_of_ble_eq_true rfl⟩ ⟨Nat.zero_le _, Nat.zero_le _⟩ rfl (Nat.le_of_ble_eq_true rfl) dX10_isWord_45 (fun r hr => ?_)
          obtain rfl := hr
          refine GG.topi (congrArg nI hw.1) ?_
          refine g_icmp_ge_n (tgt := 82) dX10_isWord_48 (by decide) (by have := (hbb.1 c40).2.1; omega) (by omega) (fun c48 => ?_) (fun c48 => ?_)
          · skip
            refine g_iload_n 2 dX10_isWord_82 rfl rfl ?_
            exact g_zret () dX10_isWord_83 (Nat.le_refl _) (Nat.le_refl _) (congrArg bI (by first | (rw [c40]; exact (hbb.2 c40).symm) | (rw [c40]; exact (isW_iff.mpr ⟨by rw [← hR.2.2.1]; exact (hbb.1 c40).1, by rw [← hR.1, ← hR.2.1]; have := (hbb.1 c40).2.2.2; omega, fun j hj => by rw [← hR.2.1]; exact (hbb.1 c40).2.2.1 j (by omega)⟩).symm))) (fun _ h => h)
          · skip
            refine g_aload_n 0 dX10_isWord_51 rfl rfl ?_
            refine m_get_tape dX10_isWord_52 ?_
            refine g_aload_n 0 dX10_isWord_55 rfl rfl ?_
            refine m_get_begin dX10_isWord_56 ?_
            refine g_iload_n 3 dX10_isWord_59 rfl rfl ?_
            refine g_iadd_n dX10_isWord_60 ?_
            refine m_ld_tape dX10_isWord_61 (by have : begin_ + w.length = at_ := (hbb.1 c40).2.2.2; omega) ?_
            refine g_aload_n 1 dX10_isWord_62 rfl rfl ?_
            refine g_iload_n 3 dX10_isWord_63 rfl rfl ?_
            refine g_cTi hq (ctJ7_charAt hq (j := k) (by rw [hw.1]; omega)) rfl kvX10_J7_charAt_115 kyX10_J7_charAt_115 rfl ⟨Nat.le_of_ble_eq_true rfl, Nat.le_of_ble_eq_true rfl⟩ ⟨Nat.zero_le _, Nat.zero_le _⟩ rfl (Nat.le_of_ble_eq_true rfl) dX10_isWord_64 (fun r hr => ?_)
            obtain rfl := hr
            refine GG.topi (hw.2.2 k (by omega)).1 ?_
            refine g_icmp_ne_n (tgt := 74) dX10_isWord_67 (by decide) (by have := hT (begin_ + k); omega) (by have := (hw.2.2 k (by omega)).2; omega) (fun c67 => ?_) (fun c67 => ?_)
            · skip
              refine g_iconst (v := nI 0) dX10_isWord_74 (by decide +kernel) ?_
              refine g_istore_n (L' := [(0, _), (1, _), (2, _), (3, _)]) 2 dX10_isWord_75 rfl (by decide) rfl rfl ?_
              refine g_iinc_n (b := 1) (L' := [(0, _), (1, _), (2, _), (3, _)]) dX10_isWord_76 rfl rfl (by decide) rfl rfl ?_
              refine g_goto (tgt := 39) dX10_isWord_79 (by decide) ?_
              have hk9 := hbb.1 c40
              first
                | exact ih39 (k + 1) true (by omega) ⟨fun _ => ⟨hk9.1, by omega, fun j hj => (Nat.lt_succ_iff_lt_or_eq.mp hj).elim (fun q => hk9.2.2.1 j q) (fun q => by rw [q]; exact c67), hk9.2.2.2⟩, (fun h => Bool.noConfusion h)⟩
                | exact ih39 (k + 1) false (by omega) ⟨(fun h => Bool.noConfusion h), fun _ => isW_f3 (k := k) (by omega) (by rw [← hR.2.1]; exact c67)⟩
            · skip
              refine g_iconst (v := nI 1) dX10_isWord_70 (by decide +kernel) ?_
              refine g_goto (tgt := 75) dX10_isWord_71 (by decide) ?_
              refine g_istore_n (L' := [(0, _), (1, _), (2, _), (3, _)]) 2 dX10_isWord_75 rfl (by decide) rfl rfl ?_
              refine g_iinc_n (b := 1) (L' := [(0, _), (1, _), (2, _), (3, _)]) dX10_isWord_76 rfl rfl (by decide) rfl rfl ?_
              refine g_goto (tgt := 39) dX10_isWord_79 (by decide) ?_
              have hk9 := hbb.1 c40
              first
                | exact ih39 (k + 1) true (by omega) ⟨fun _ => ⟨hk9.1, by omega, fun j hj => (Nat.lt_succ_iff_lt_or_eq.mp hj).elim (fun q => hk9.2.2.1 j q) (fun q => by rw [q]; exact c67), hk9.2.2.2⟩, (fun h => Bool.noConfusion h)⟩
                | exact ih39 (k + 1) false (by omega) ⟨(fun h => Bool.noConfusion h), fun _ => isW_f3 (k := k) (by omega) (by rw [← hR.2.1]; exact c67)⟩
    exact loop39 (w.length + 1) 0 bb (by omega) ⟨fun h => ⟨(hb0.1 h).1, Nat.zero_le _, fun j hj => absurd hj (Nat.not_lt_zero _), by have := (hb0.1 h).2; omega⟩, hb0.2⟩
  refine g_aload_n 0 dX10_isWord_7 rfl rfl ?_
  refine m_get_token dX10_isWord_8 ?_
  refine g_iconst (v := nI 1) dX10_isWord_11 (by decide +kernel) ?_
  refine g_icmp_ne_n (tgt := 35) dX10_isWord_12 (by decide) (by have := hR.t4; omega) (by omega) (fun c12 => ?_) (fun c12 => ?_)
  · skip
    refine g_iconst (v := nI 0) dX10_isWord_35 (by decide +kernel) ?_
    first
      | exact join36 true ⟨fun _ => ⟨c12, c28⟩, (fun h => Bool.noConfusion h)⟩
      | exact join36 false ⟨(fun h => Bool.noConfusion h), fun _ => isW_f1 (by rw [← hR.2.2.1]; exact c12)⟩
      | exact join36 false ⟨(fun h => Bool.noConfusion h), fun _ => isW_f2 (by rw [← hR.1, ← hR.2.1]; exact c28)⟩
  · skip
    refine g_aload_n 0 dX10_isWord_15 rfl rfl ?_
    refine m_get_at dX10_isWord_16 ?_
    refine g_aload_n 0 dX10_isWord_19 rfl rfl ?_
    refine m_get_begin dX10_isWord_20 ?_
    refine g_isub_n dX10_isWord_23 (by omega) ?_
    refine g_aload_n 1 dX10_isWord_24 rfl rfl ?_
    refine g_cTi hq (ctJ7_length hq) rfl kvX10_J7_length_109 kyX10_J7_length_109 rfl ⟨Nat.le_of_ble_eq_true rfl, Nat.le_of_ble_eq_true rfl⟩ ⟨Nat.zero_le _, Nat.zero_le _⟩ rfl (Nat.le_of_ble_eq_true rfl) dX10_isWord_25 (fun r hr => ?_)
    obtain rfl := hr
    refine GG.topi (congrArg nI hw.1) ?_
    refine g_icmp_ne_n (tgt := 35) dX10_isWord_28 (by decide) (by omega) (by omega) (fun c28 => ?_) (fun c28 => ?_)
    · skip
      refine g_iconst (v := nI 0) dX10_isWord_35 (by decide +kernel) ?_
      first
        | exact join36 true ⟨fun _ => ⟨c12, c28⟩, (fun h => Bool.noConfusion h)⟩
        | exact join36 false ⟨(fun h => Bool.noConfusion h), fun _ => isW_f1 (by rw [← hR.2.2.1]; exact c12)⟩
        | exact join36 false ⟨(fun h => Bool.noConfusion h), fun _ => isW_f2 (by rw [← hR.1, ← hR.2.1]; exact c28)⟩
    · skip
      refine g_iconst (v := nI 1) dX10_isWord_31 (by decide +kernel) ?_
      refine g_goto (tgt := 36) dX10_isWord_32 (by decide) ?_
      first
        | exact join36 true ⟨fun _ => ⟨c12, c28⟩, (fun h => Bool.noConfusion h)⟩
        | exact join36 false ⟨(fun h => Bool.noConfusion h), fun _ => isW_f1 (by rw [← hR.2.2.1]; exact c12)⟩
        | exact join36 false ⟨(fun h => Bool.noConfusion h), fun _ => isW_f2 (by rw [← hR.1, ← hR.2.1]; exact c28)⟩
set_option maxHeartbeats 4000000 in
/-- no word behind a fault -/
theorem ct_isWord_bad {i : Nat} {q : String × Nat × String × Nat × List Int32} (hbd : 0 < bad ∧ bad < 10) (hq : strT[i]? = some q) : CT l D cl tys yX10_isWord cX10_isWord 4 (some .boolean) ({ frames := 4, cells := 0, slots := 0, locals := 85 } : Room) [.ref (ma 0), .ref (D.2 1000 i)] (HM D cl tys mi cI cJ cZ ma known fresh_ saved images isImage thrown tape taped size_ at_ begin_ token value open_ bad badPlace faultKind faultPlace xs ys pairs rows top heaps endsBehind path order firstOrder ordersMany tSort tMany numbers) (Qi (fun (v : Int32) (u : Unit) => v = bI false) (fun (u : Unit) => HM D cl tys mi cI cJ cZ ma known fresh_ saved images isImage thrown tape taped size_ at_ begin_ token value open_ bad badPlace faultKind faultPlace xs ys pairs rows top heaps endsBehind path order firstOrder ordersMany tSort tMany numbers) (AM ma)) (AM ma) := by
  refine CT.of (L := [(0, .ref (ma 0)), (1, .ref (D.2 1000 i))]) rfl (by decide +kernel) rfl (Nat.le_of_ble_eq_true rfl) ?_
  refine g_aload_n 0 dX10_isWord_0 rfl rfl ?_
  refine m_get_bad dX10_isWord_1 ?_
  refine g_if_ne_n (tgt := 35) dX10_isWord_4 (by decide) (by omega) (fun c4 => ?_) (fun c4 => ?_)
  · skip
    refine g_iconst (v := nI 0) dX10_isWord_35 (by decide +kernel) ?_
    refine g_istore_n (L' := [(0, _), (1, _), (2, _)]) 2 dX10_isWord_36 rfl (by decide) rfl rfl ?_
    refine g_iconst (v := nI 0) dX10_isWord_37 (by decide +kernel) ?_
    refine g_istore_n (L' := [(0, _), (1, _), (2, _), (3, _)]) 3 dX10_isWord_38 rfl (by decide) rfl rfl ?_
    refine g_iload_n 2 dX10_isWord_39 rfl rfl ?_
    refine g_if_eq_n (tgt := 82) dX10_isWord_40 (by decide) (by decide) (fun _ => ?_) (fun h => absurd h (by decide))
    refine g_iload_n 2 dX10_isWord_82 rfl rfl ?_
    exact g_zret (b := false) () dX10_isWord_83 (Nat.le_refl _) (Nat.le_refl _) (rfl) (fun _ h => h)
  · skip
    exact absurd c4 (by omega)
set_option maxHeartbeats 4000000 in
/-- takes a word -/
theorem ct_took (p : Nat) (w : List Nat) {i : Nat} {q : String × Nat × String × Nat × List Int32} (hs : size_ ≤ 900) (hT : ∀ j, tape j < 256) (hR : RdP (tape, size_) p at_ begin_ token value) (hps : p ≤ size_) (hq : strT[i]? = some q) (hw : isWd q w) : CT l D cl tys yX10_took cX10_took 3 (some .boolean) ({ frames := 5, cells := 0, slots := 0, locals := 108 } : Room) [.ref (ma 0), .ref (D.2 1000 i)] (HM D cl tys mi cI cJ cZ ma known fresh_ saved images isImage thrown tape taped size_ at_ begin_ token value open_ 0 badPlace faultKind faultPlace xs ys pairs rows top heaps endsBehind path order firstOrder ordersMany tSort tMany numbers) (Qi (fun (v : Int32) (u : Nat × Nat × Nat × Nat) => v = bI (isW (tape, size_) w p) ∧ RdP (tape, size_) (opt (tape, size_) w p) u.1 u.2.1 u.2.2.1 u.2.2.2) (fun (u : Nat × Nat × Nat × Nat) => HM D cl tys mi cI cJ cZ ma known fresh_ saved images isImage thrown tape taped size_ u.1 u.2.1 u.2.2.1 u.2.2.2 open_ 0 badPlace faultKind faultPlace xs ys pairs rows top heaps endsBehind path order firstOrder ordersMany tSort tMany numbers) (AM ma)) (AM ma) := by
  refine CT.of (L := [(0, .ref (ma 0)), (1, .ref (D.2 1000 i))]) rfl (by decide +kernel) rfl (Nat.le_of_ble_eq_true rfl) ?_
  refine g_aload_n 0 dX10_took_0 rfl rfl ?_
  refine g_aload_n 1 dX10_took_1 rfl rfl ?_
  refine m_cVi (ct_isWord p w hs hT hR hps hq hw) hvX10_isWord hyX10_isWord rfl ⟨Nat.le_of_ble_eq_true rfl, Nat.le_of_ble_eq_true rfl⟩ ⟨Nat.zero_le _, Nat.zero_le _⟩ rfl (Nat.le_of_ble_eq_true rfl) dX10_took_2 m_rec (fun r u9 hp => ?_)
  obtain rfl := hp
  refine g_istore_n (L' := [(0, _), (1, _), (2, _)]) 2 dX10_took_5 rfl (by decide) rfl rfl ?_
  refine g_iload_n 2 dX10_took_6 rfl rfl ?_
  refine g_if_eq_b (tgt := 14) dX10_took_7 (by decide) (fun c7 => ?_) (fun c7 => ?_)
  · skip
    refine g_iload_n 2 dX10_took_14 rfl rfl ?_
    exact g_zret (_, _, _, _) dX10_took_15 (Nat.le_refl _) (Nat.le_refl _) (by refine ⟨rfl, ?_⟩; unfold opt; first | (rw [if_pos c7]; exact hrd) | (rw [if_neg (by rw [c7]; decide)]; exact hR)) (fun _ h => h)
  · skip
    refine g_aload_n 0 dX10_took_10 rfl rfl ?_
    refine m_cVv (ct_reads hs (hR.le hps).1 hR.2.2.2.2 hT) hvX10_reads hyX10_reads rfl ⟨Nat.le_of_ble_eq_true rfl, Nat.le_of_ble_eq_true rfl⟩ ⟨Nat.zero_le _, Nat.zero_le _⟩ rfl (Nat.le_of_ble_eq_true rfl) dX10_took_11 m_rec (fun ur hrd => ?_)
    obtain ⟨a1, b1, t1, v1⟩ := ur
    have hrd : RdP (tape, size_) (tkE (tape, size_) p) a1 b1 t1 v1 := by rw [← hR.1]; exact hrd
    have hps1 : tkE (tape, size_) p ≤ size_ := tkE_le (X := (tape, size_)) hps
    refine g_iload_n 2 dX10_took_14 rfl rfl ?_
    exact g_zret (_, _, _, _) dX10_took_15 (Nat.le_refl _) (Nat.le_refl _) (by refine ⟨rfl, ?_⟩; unfold opt; first | (rw [if_pos c7]; exact hrd) | (rw [if_neg (by rw [c7]; decide)]; exact hR)) (fun _ h => h)
set_option maxHeartbeats 4000000 in
/-- takes no word behind a fault -/
theorem ct_took_bad {i : Nat} {q : String × Nat × String × Nat × List Int32} (hbd : 0 < bad ∧ bad < 10) (hq : strT[i]? = some q) : CT l D cl tys yX10_took cX10_took 3 (some .boolean) ({ frames := 5, cells := 0, slots := 0, locals := 108 } : Room) [.ref (ma 0), .ref (D.2 1000 i)] (HM D cl tys mi cI cJ cZ ma known fresh_ saved images isImage thrown tape taped size_ at_ begin_ token value open_ bad badPlace faultKind faultPlace xs ys pairs rows top heaps endsBehind path order firstOrder ordersMany tSort tMany numbers) (Qi (fun (v : Int32) (u : Unit) => v = bI false) (fun (u : Unit) => HM D cl tys mi cI cJ cZ ma known fresh_ saved images isImage thrown tape taped size_ at_ begin_ token value open_ bad badPlace faultKind faultPlace xs ys pairs rows top heaps endsBehind path order firstOrder ordersMany tSort tMany numbers) (AM ma)) (AM ma) := by
  refine CT.of (L := [(0, .ref (ma 0)), (1, .ref (D.2 1000 i))]) rfl (by decide +kernel) rfl (Nat.le_of_ble_eq_true rfl) ?_
  refine g_aload_n 0 dX10_took_0 rfl rfl ?_
  refine g_aload_n 1 dX10_took_1 rfl rfl ?_
  refine m_cVi (ct_isWord_bad hbd hq) hvX10_isWord hyX10_isWord rfl ⟨Nat.le_of_ble_eq_true rfl, Nat.le_of_ble_eq_true rfl⟩ ⟨Nat.zero_le _, Nat.zero_le _⟩ rfl (Nat.le_of_ble_eq_true rfl) dX10_took_2 m_rec (fun r u9 hp => ?_)
  obtain rfl := hp
  refine g_istore_n (L' := [(0, _), (1, _), (2, _)]) 2 dX10_took_5 rfl (by decide) rfl rfl ?_
  refine g_iload_n 2 dX10_took_6 rfl rfl ?_
  refine g_if_eq_b (tgt := 14) dX10_took_7 (by decide) (fun c7 => ?_) (fun c7 => ?_)
  · skip
    refine g_iload_n 2 dX10_took_14 rfl rfl ?_
    exact g_zret () dX10_took_15 (Nat.le_refl _) (Nat.le_refl _) (rfl) (fun _ h => h)
  · skip
    exact absurd c7 (by decide)
set_option maxHeartbeats 4000000 in
/-- a sign stands there -/
theorem ct_isSign (p c : Nat) (hs : size_ ≤ 900) (hT : ∀ j, tape j < 256) (hR : RdP (tape, size_) p at_ begin_ token value) (hps : p ≤ size_) (hc : c < 2 ^ 31) : CT l D cl tys yX10_isSign cX10_isSign 2 (some .boolean) ({ frames := 0, cells := 0, slots := 0, locals := 0 } : Room) [.ref (ma 0), .int (nI c)] (HM D cl tys mi cI cJ cZ ma known fresh_ saved images isImage thrown tape taped size_ at_ begin_ token value open_ 0 badPlace faultKind faultPlace xs ys pairs rows top heaps endsBehind path order firstOrder ordersMany tSort tMany numbers) (Qi (fun (v : Int32) (u : Unit) => v = bI (isS (tape, size_) c p)) (fun (u : Unit) => HM D cl tys mi cI cJ cZ ma known fresh_ saved images isImage thrown tape taped size_ at_ begin_ token value open_ 0 badPlace faultKind faultPlace xs ys pairs rows top heaps endsBehind path order firstOrder ordersMany tSort tMany numbers) (AM ma)) (AM ma) := by
  refine CT.of (L := [(0, .ref (ma 0)), (1, .int (nI c))]) rfl (by decide +kernel) rfl (Nat.le_of_ble_eq_true rfl) ?_
  refine g_aload_n 0 dX10_isSign_0 rfl rfl ?_
  refine m_get_bad dX10_isSign_1 ?_
  refine g_if_ne_n (tgt := 27) dX10_isSign_4 (by decide) (by decide) (fun h => absurd h (by decide)) (fun _ => ?_)
  refine g_aload_n 0 dX10_isSign_7 rfl rfl ?_
  refine m_get_token dX10_isSign_8 ?_
  refine g_iconst (v := nI 3) dX10_isSign_11 (by decide +kernel) ?_
  refine g_icmp_ne_n (tgt := 27) dX10_isSign_12 (by decide) (by have := hR.t4; omega) (by omega) (fun c12 => ?_) (fun c12 => ?_)
  · skip
    refine g_iconst (v := nI 0) dX10_isSign_27 (by decide +kernel) ?_
    refine GG.topi (y := bI (isS (tape, size_) c p)) (by first | exact isS_t hR c12 c20 | exact isS_f hR (Or.inl c12) | exact isS_f hR (Or.inr c20)) ?_
    exact g_zret () dX10_isSign_28 (Nat.le_refl _) (Nat.le_refl _) (rfl) (fun _ h => h)
  · skip
    refine g_aload_n 0 dX10_isSign_15 rfl rfl ?_
    refine m_get_value dX10_isSign_16 ?_
    refine g_iload_n 1 dX10_isSign_19 rfl rfl ?_
    refine g_icmp_ne_n (tgt := 27) dX10_isSign_20 (by decide) (by have := hR.2.2.2.2; omega) (by omega) (fun c20 => ?_) (fun c20 => ?_)
    · skip
      refine g_iconst (v := nI 0) dX10_isSign_27 (by decide +kernel) ?_
      refine GG.topi (y := bI (isS (tape, size_) c p)) (by first | exact isS_t hR c12 c20 | exact isS_f hR (Or.inl c12) | exact isS_f hR (Or.inr c20)) ?_
      exact g_zret () dX10_isSign_28 (Nat.le_refl _) (Nat.le_refl _) (rfl) (fun _ h => h)
    · skip
      refine g_iconst (v := nI 1) dX10_isSign_23 (by decide +kernel) ?_
      refine g_goto (tgt := 28) dX10_isSign_24 (by decide) ?_
      refine GG.topi (y := bI (isS (tape, size_) c p)) (by first | exact isS_t hR c12 c20 | exact isS_f hR (Or.inl c12) | exact isS_f hR (Or.inr c20)) ?_
      exact g_zret () dX10_isSign_28 (Nat.le_refl _) (Nat.le_refl _) (rfl) (fun _ h => h)
set_option maxHeartbeats 4000000 in
/-- no sign behind a fault -/
theorem ct_isSign_bad (c : Nat) (hbd : 0 < bad ∧ bad < 10) : CT l D cl tys yX10_isSign cX10_isSign 2 (some .boolean) ({ frames := 0, cells := 0, slots := 0, locals := 0 } : Room) [.ref (ma 0), .int (nI c)] (HM D cl tys mi cI cJ cZ ma known fresh_ saved images isImage thrown tape taped size_ at_ begin_ token value open_ bad badPlace faultKind faultPlace xs ys pairs rows top heaps endsBehind path order firstOrder ordersMany tSort tMany numbers) (Qi (fun (v : Int32) (u : Unit) => v = bI false) (fun (u : Unit) => HM D cl tys mi cI cJ cZ ma known fresh_ saved images isImage thrown tape taped size_ at_ begin_ token value open_ bad badPlace faultKind faultPlace xs ys pairs rows top heaps endsBehind path order firstOrder ordersMany tSort tMany numbers) (AM ma)) (AM ma) := by
  refine CT.of (L := [(0, .ref (ma 0)), (1, .int (nI c))]) rfl (by decide +kernel) rfl (Nat.le_of_ble_eq_true rfl) ?_
  refine g_aload_n 0 dX10_isSign_0 rfl rfl ?_
  refine m_get_bad dX10_isSign_1 ?_
  refine g_if_ne_n (tgt := 27) dX10_isSign_4 (by decide) (by omega) (fun c4 => ?_) (fun c4 => ?_)
  · skip
    refine g_iconst (v := nI 0) dX10_isSign_27 (by decide +kernel) ?_
    exact g_zret (b := false) () dX10_isSign_28 (Nat.le_refl _) (Nat.le_refl _) (rfl) (fun _ h => h)
  · skip
    exact absurd c4 (by omega)
set_option maxHeartbeats 4000000 in
/-- takes a sign -/
theorem ct_sign (p c : Nat) (hs : size_ ≤ 900) (hT : ∀ j, tape j < 256) (hR : RdP (tape, size_) p at_ begin_ token value) (hps : p ≤ size_) (hc : c < 2 ^ 31) : CT l D cl tys yX10_sign cX10_sign 2 none ({ frames := 2, cells := 0, slots := 0, locals := 42 } : Room) [.ref (ma 0), .int (nI c)] (HM D cl tys mi cI cJ cZ ma known fresh_ saved images isImage thrown tape taped size_ at_ begin_ token value open_ 0 badPlace faultKind faultPlace xs ys pairs rows top heaps endsBehind path order firstOrder ordersMany tSort tMany numbers) (Qv (fun (u : Nat × Nat × Nat × Nat × Nat × Nat) => RdR (tape, size_) (pSgn (tape, size_) c p) u.1 u.2.1 u.2.2.1 u.2.2.2.1 u.2.2.2.2.1 u.2.2.2.2.2) (fun (u : Nat × Nat × Nat × Nat × Nat × Nat) => HM D cl tys mi cI cJ cZ ma known fresh_ saved images isImage thrown tape taped size_ u.1 u.2.1 u.2.2.1 u.2.2.2.1 open_ u.2.2.2.2.1 u.2.2.2.2.2 faultKind faultPlace xs ys pairs rows top heaps endsBehind path order firstOrder ordersMany tSort tMany numbers) (AM ma)) (AM ma) := by
  refine CT.of (L := [(0, .ref (ma 0)), (1, .int (nI c))]) rfl (by decide +kernel) rfl (Nat.le_of_ble_eq_true rfl) ?_
  refine g_aload_n 0 dX10_sign_0 rfl rfl ?_
  refine g_iload_n 1 dX10_sign_1 rfl rfl ?_
  refine m_cVi (ct_isSign p _ hs hT hR hps (by omega)) hvX10_isSign hyX10_isSign rfl ⟨Nat.le_of_ble_eq_true rfl, Nat.le_of_ble_eq_true rfl⟩ ⟨Nat.zero_le _, Nat.zero_le _⟩ rfl (Nat.le_of_ble_eq_true rfl) dX10_sign_2 m_rec (fun r u9 hp => ?_)
  obtain rfl := hp
  refine g_if_ne_b (tgt := 13) dX10_sign_5 (by decide) (fun c5 => ?_) (fun c5 => ?_)
  · skip
    refine g_aload_n 0 dX10_sign_13 rfl rfl ?_
    refine m_get_bad dX10_sign_14 ?_
    refine g_if_ne_n (tgt := 24) dX10_sign_17 (by decide) (by decide) (fun h => absurd h (by decide)) (fun _ => ?_)
    refine g_aload_n 0 dX10_sign_20 rfl rfl ?_
    refine m_cVv (ct_reads hs (hR.le hps).1 hR.2.2.2.2 hT) hvX10_reads hyX10_reads rfl ⟨Nat.le_of_ble_eq_true rfl, Nat.le_of_ble_eq_true rfl⟩ ⟨Nat.zero_le _, Nat.zero_le _⟩ rfl (Nat.le_of_ble_eq_true rfl) dX10_sign_21 m_rec (fun ur hrd => ?_)
    obtain ⟨a1, b1, t1, v1⟩ := ur
    have hrd : RdP (tape, size_) (tkE (tape, size_) p) a1 b1 t1 v1 := by rw [← hR.1]; exact hrd
    have hps1 : tkE (tape, size_) p ≤ size_ := tkE_le (X := (tape, size_)) hps
    exact g_vret (_, _, _, _, _, _) dX10_sign_24 (Nat.le_refl _) (Nat.le_refl _) (by first | exact RdR.ok (by unfold pSgn; rw [if_pos c5]) hrd hps1 | exact pWrong_R hR (by unfold pSgn; rw [if_neg (by rw [c5]; decide)]) hb1 hb2) (fun _ h => h)
  · skip
    refine g_aload_n 0 dX10_sign_8 rfl rfl ?_
    refine g_iconst (v := nI 2) dX10_sign_9 (by decide +kernel) ?_
    refine m_cVv (ct_blames _ hR.t4 (by omega)) hvX10_blames hyX10_blames rfl ⟨Nat.le_of_ble_eq_true rfl, Nat.le_of_ble_eq_true rfl⟩ ⟨Nat.zero_le _, Nat.zero_le _⟩ rfl (Nat.le_of_ble_eq_true rfl) dX10_sign_10 m_rec (fun ub hbl => ?_)
    obtain ⟨bd, bp⟩ := ub
    obtain ⟨hb1, hb2⟩ := hbl
    have hb1 : bd = _ := hb1
    have hb2 : bp = begin_ := hb2
    have hb3 : 0 < bd ∧ bd < 10 := by rw [hb1]; split <;> omega
    refine g_aload_n 0 dX10_sign_13 rfl rfl ?_
    refine m_get_bad dX10_sign_14 ?_
    refine g_if_ne_n (tgt := 24) dX10_sign_17 (by decide) (by omega) (fun c17 => ?_) (fun c17 => ?_)
    · skip
      exact g_vret (_, _, _, _, _, _) dX10_sign_24 (Nat.le_refl _) (Nat.le_refl _) (by first | exact RdR.ok (by unfold pSgn; rw [if_pos c5]) hrd hps1 | exact pWrong_R hR (by unfold pSgn; rw [if_neg (by rw [c5]; decide)]) hb1 hb2) (fun _ h => h)
    · skip
      exact absurd c17 (by omega)
set_option maxHeartbeats 4000000 in
/-- no sign behind a fault -/
theorem ct_sign_bad (c : Nat) (hbd : 0 < bad ∧ bad < 10) : CT l D cl tys yX10_sign cX10_sign 2 none ({ frames := 2, cells := 0, slots := 0, locals := 42 } : Room) [.ref (ma 0), .int (nI c)] (HM D cl tys mi cI cJ cZ ma known fresh_ saved images isImage thrown tape taped size_ at_ begin_ token value open_ bad badPlace faultKind faultPlace xs ys pairs rows top heaps endsBehind path order firstOrder ordersMany tSort tMany numbers) (Qv (fun (u : Unit) => True) (fun (u : Unit) => HM D cl tys mi cI cJ cZ ma known fresh_ saved images isImage thrown tape taped size_ at_ begin_ token value open_ bad badPlace faultKind faultPlace xs ys pairs rows top heaps endsBehind path order firstOrder ordersMany tSort tMany numbers) (AM ma)) (AM ma) := by
  refine CT.of (L := [(0, .ref (ma 0)), (1, .int (nI c))]) rfl (by decide +kernel) rfl (Nat.le_of_ble_eq_true rfl) ?_
  refine g_aload_n 0 dX10_sign_0 rfl rfl ?_
  refine g_iload_n 1 dX10_sign_1 rfl rfl ?_
  refine m_cVi (ct_isSign_bad _ hbd) hvX10_isSign hyX10_isSign rfl ⟨Nat.le_of_ble_eq_true rfl, Nat.le_of_ble_eq_true rfl⟩ ⟨Nat.zero_le _, Nat.zero_le _⟩ rfl (Nat.le_of_ble_eq_true rfl) dX10_sign_2 m_rec (fun r u9 hp => ?_)
  obtain rfl := hp
  refine g_if_ne_b (tgt := 13) dX10_sign_5 (by decide) (fun c5 => ?_) (fun c5 => ?_)
  · skip
    exact absurd c5 (by decide)
  · skip
    refine g_aload_n 0 dX10_sign_8 rfl rfl ?_
    refine g_iconst (v := nI 2) dX10_sign_9 (by decide +kernel) ?_
    refine m_cVv (ct_blames_bad _ hbd) hvX10_blames hyX10_blames rfl ⟨Nat.le_of_ble_eq_true rfl, Nat.le_of_ble_eq_true rfl⟩ ⟨Nat.zero_le _, Nat.zero_le _⟩ rfl (Nat.le_of_ble_eq_true rfl) dX10_sign_10 m_rec (fun u9 h9 => ?_)
    refine g_aload_n 0 dX10_sign_13 rfl rfl ?_
    refine m_get_bad dX10_sign_14 ?_
    refine g_if_ne_n (tgt := 24) dX10_sign_17 (by decide) (by omega) (fun c17 => ?_) (fun c17 => ?_)
    · skip
      exact g_vret () dX10_sign_24 (Nat.le_refl _) (Nat.le_refl _) (trivial) (fun _ h => h)
    · skip
      exact absurd c17 (by omega)
set_option maxHeartbeats 4000000 in
/-- takes a number -/
theorem ct_number (p lo hi : Nat) (h0 : Int32) (hs : size_ ≤ 900) (hT : ∀ j, tape j < 256) (hR : RdP (tape, size_) p at_ begin_ token value) (hps : p ≤ size_) (hh : h0 = nI hi - nI 1) (hlo : lo < 2 ^ 31) (hhi : hi < 2 ^ 31) : CT l D cl tys yX10_number cX10_number 4 (some .int) ({ frames := 2, cells := 0, slots := 0, locals := 42 } : Room) [.ref (ma 0), .int (nI lo), .int h0] (HM D cl tys mi cI cJ cZ ma known fresh_ saved images isImage thrown tape taped size_ at_ begin_ token value open_ 0 badPlace faultKind faultPlace xs ys pairs rows top heaps endsBehind path order firstOrder ordersMany tSort tMany numbers) (Qi (fun (v : Int32) (u : Nat × Nat × Nat × Nat × Nat × Nat) => RdR (tape, size_) (pNum (tape, size_) lo hi p) u.1 u.2.1 u.2.2.1 u.2.2.2.1 u.2.2.2.2.1 u.2.2.2.2.2 ∧ (∀ x z, (pNum (tape, size_) lo hi p) = PR.ok x z → v = nI x) ∧ (¬ u.2.2.2.2.1 = 0 → v = nI lo)) (fun (u : Nat × Nat × Nat × Nat × Nat × Nat) => HM D cl tys mi cI cJ cZ ma known fresh_ saved images isImage thrown tape taped size_ u.1 u.2.1 u.2.2.1 u.2.2.2.1 open_ u.2.2.2.2.1 u.2.2.2.2.2 faultKind faultPlace xs ys pairs rows top heaps endsBehind path order firstOrder ordersMany tSort tMany numbers) (AM ma)) (AM ma) := by
  refine CT.of (L := [(0, .ref (ma 0)), (1, .int (nI lo)), (2, .int h0)]) rfl (by decide +kernel) rfl (Nat.le_of_ble_eq_true rfl) ?_
  refine g_aload_n 0 dX10_number_0 rfl rfl ?_
  refine m_get_token dX10_number_1 ?_
  refine g_iconst (v := nI 2) dX10_number_4 (by decide +kernel) ?_
  refine g_icmp_eq_n (tgt := 16) dX10_number_5 (by decide) (by have := hR.t4; omega) (by omega) (fun c5 => ?_) (fun c5 => ?_)
  · skip
    refine g_aload_n 0 dX10_number_16 rfl rfl ?_
    refine m_get_value dX10_number_17 ?_
    refine g_i2l_n dX10_number_20 (by have := hR.2.2.2.2; omega) ?_
    refine g_iload_n 1 dX10_number_21 rfl rfl ?_
    refine g_i2l_n dX10_number_22 (by omega) ?_
    refine g_iload_n 2 dX10_number_23 rfl rfl ?_
    refine g_i2l dX10_number_24 rfl ?_
    refine m_cSi (ct_within _ _ _) hsX10_within hyX10_within rfl ⟨Nat.le_of_ble_eq_true rfl, Nat.le_of_ble_eq_true rfl⟩ ⟨Nat.zero_le _, Nat.zero_le _⟩ rfl (Nat.le_of_ble_eq_true rfl) dX10_number_25 (fun r u9 hp => ?_)
    obtain rfl := hp
    refine GG.topi (y := bI (decide (lo ≤ value ∧ value < hi))) (congrArg bI (by rw [hh]; exact wIn_num (by have := hR.2.2.2.2; omega) (by omega) (by omega))) ?_
    refine g_if_ne_b (tgt := 36) dX10_number_28 (by decide) (fun c28 => ?_) (fun c28 => ?_)
    · skip
      refine g_aload_n 0 dX10_number_36 rfl rfl ?_
      refine m_get_value dX10_number_37 ?_
      refine g_istore_n (L' := [(0, _), (1, _), (2, _), (3, _)]) 3 dX10_number_40 rfl (by decide) rfl rfl ?_
      refine g_aload_n 0 dX10_number_41 rfl rfl ?_
      refine m_get_bad dX10_number_42 ?_
      refine g_if_ne_n (tgt := 52) dX10_number_45 (by decide) (by decide) (fun h => absurd h (by decide)) (fun _ => ?_)
      refine g_aload_n 0 dX10_number_48 rfl rfl ?_
      refine m_cVv (ct_reads hs (hR.le hps).1 hR.2.2.2.2 hT) hvX10_reads hyX10_reads rfl ⟨Nat.le_of_ble_eq_true rfl, Nat.le_of_ble_eq_true rfl⟩ ⟨Nat.zero_le _, Nat.zero_le _⟩ rfl (Nat.le_of_ble_eq_true rfl) dX10_number_49 m_rec (fun ur hrd => ?_)
      obtain ⟨a1, b1, t1, v1⟩ := ur
      have hrd : RdP (tape, size_) (tkE (tape, size_) p) a1 b1 t1 v1 := by rw [← hR.1]; exact hrd
      have hps1 : tkE (tape, size_) p ≤ size_ := tkE_le (X := (tape, size_)) hps
      refine g_aload_n 0 dX10_number_52 rfl rfl ?_
      refine m_get_bad dX10_number_53 ?_
      refine g_if_ne_n (tgt := 63) dX10_number_56 (by decide) (by decide) (fun h => absurd h (by decide)) (fun _ => ?_)
      refine g_iload_n 3 dX10_number_59 rfl rfl ?_
      refine g_goto (tgt := 64) dX10_number_60 (by decide) ?_
      exact g_iret (_, _, _, _, _, _) dX10_number_64 (Nat.le_refl _) (Nat.le_refl _) (by first | exact num_ok hR hrd hps1 c5 (of_decide_eq_true c28) | exact num_3 hR c5 (of_decide_eq_false c28) hb1 hb2 | exact num_w hR c5 hb1 hb2) (fun _ h => h)
    · skip
      refine g_aload_n 0 dX10_number_31 rfl rfl ?_
      refine g_iconst (v := nI 3) dX10_number_32 (by decide +kernel) ?_
      refine m_cVv (ct_blames _ hR.t4 (by omega)) hvX10_blames hyX10_blames rfl ⟨Nat.le_of_ble_eq_true rfl, Nat.le_of_ble_eq_true rfl⟩ ⟨Nat.zero_le _, Nat.zero_le _⟩ rfl (Nat.le_of_ble_eq_true rfl) dX10_number_33 m_rec (fun ub hbl => ?_)
      obtain ⟨bd, bp⟩ := ub
      obtain ⟨hb1, hb2⟩ := hbl
      have hb1 : bd = _ := hb1
      have hb2 : bp = begin_ := hb2
      have hb3 : 0 < bd ∧ bd < 10 := by rw [hb1]; split <;> omega
      refine g_aload_n 0 dX10_number_36 rfl rfl ?_
      refine m_get_value dX10_number_37 ?_
      refine g_istore_n (L' := [(0, _), (1, _), (2, _), (3, _)]) 3 dX10_number_40 rfl (by decide) rfl rfl ?_
      refine g_aload_n 0 dX10_number_41 rfl rfl ?_
      refine m_get_bad dX10_number_42 ?_
      refine g_if_ne_n (tgt := 52) dX10_number_45 (by decide) (by omega) (fun c45 => ?_) (fun c45 => ?_)
      · skip
        refine g_aload_n 0 dX10_number_52 rfl rfl ?_
        refine m_get_bad dX10_number_53 ?_
        refine g_if_ne_n (tgt := 63) dX10_number_56 (by decide) (by omega) (fun c56 => ?_) (fun c56 => ?_)
        · skip
          refine g_iload_n 1 dX10_number_63 rfl rfl ?_
          exact g_iret (_, _, _, _, _, _) dX10_number_64 (Nat.le_refl _) (Nat.le_refl _) (by first | exact num_ok hR hrd hps1 c5 (of_decide_eq_true c28) | exact num_3 hR c5 (of_decide_eq_false c28) hb1 hb2 | exact num_w hR c5 hb1 hb2) (fun _ h => h)
        · skip
          exact absurd c56 (by omega)
      · skip
        exact absurd c45 (by omega)
  · skip
    refine g_aload_n 0 dX10_number_8 rfl rfl ?_
    refine g_iconst (v := nI 2) dX10_number_9 (by decide +kernel) ?_
    refine m_cVv (ct_blames _ hR.t4 (by omega)) hvX10_blames hyX10_blames rfl ⟨Nat.le_of_ble_eq_true rfl, Nat.le_of_ble_eq_true rfl⟩ ⟨Nat.zero_le _, Nat.zero_le _⟩ rfl (Nat.le_of_ble_eq_true rfl) dX10_number_10 m_rec (fun ub hbl => ?_)
    obtain ⟨bd, bp⟩ := ub
    obtain ⟨hb1, hb2⟩ := hbl
    have hb1 : bd = _ := hb1
    have hb2 : bp = begin_ := hb2
    have hb3 : 0 < bd ∧ bd < 10 := by rw [hb1]; split <;> omega
    refine g_goto (tgt := 36) dX10_number_13 (by decide) ?_
    refine g_aload_n 0 dX10_number_36 rfl rfl ?_
    refine m_get_value dX10_number_37 ?_
    refine g_istore_n (L' := [(0, _), (1, _), (2, _), (3, _)]) 3 dX10_number_40 rfl (by decide) rfl rfl ?_
    refine g_aload_n 0 dX10_number_41 rfl rfl ?_
    refine m_get_bad dX10_number_42 ?_
    refine g_if_ne_n (tgt := 52) dX10_number_45 (by decide) (by omega) (fun c45 => ?_) (fun c45 => ?_)
    · skip
      refine g_aload_n 0 dX10_number_52 rfl rfl ?_
      refine m_get_bad dX10_number_53 ?_
      refine g_if_ne_n (tgt := 63) dX10_number_56 (by decide) (by omega) (fun c56 => ?_) (fun c56 => ?_)
      · skip
        refine g_iload_n 1 dX10_number_63 rfl rfl ?_
        exact g_iret (_, _, _, _, _, _) dX10_number_64 (Nat.le_refl _) (Nat.le_refl _) (by first | exact num_ok hR hrd hps1 c5 (of_decide_eq_true c28) | exact num_3 hR c5 (of_decide_eq_false c28) hb1 hb2 | exact num_w hR c5 hb1 hb2) (fun _ h => h)
      · skip
        exact absurd c56 (by omega)
    · skip
      exact absurd c45 (by omega)
set_option maxHeartbeats 4000000 in
/-- no number behind a fault -/
theorem ct_number_bad (lo : Nat) (h0 : Int32) (hbd : 0 < bad ∧ bad < 10) (ht4 : token ≤ 4) (hv9 : value < 1000) (hlo : lo < 2 ^ 31) : CT l D cl tys yX10_number cX10_number 4 (some .int) ({ frames := 2, cells := 0, slots := 0, locals := 42 } : Room) [.ref (ma 0), .int (nI lo), .int h0] (HM D cl tys mi cI cJ cZ ma known fresh_ saved images isImage thrown tape taped size_ at_ begin_ token value open_ bad badPlace faultKind faultPlace xs ys pairs rows top heaps endsBehind path order firstOrder ordersMany tSort tMany numbers) (Qi (fun (v : Int32) (u : Unit) => v = nI lo) (fun (u : Unit) => HM D cl tys mi cI cJ cZ ma known fresh_ saved images isImage thrown tape taped size_ at_ begin_ token value open_ bad badPlace faultKind faultPlace xs ys pairs rows top heaps endsBehind path order firstOrder ordersMany tSort tMany numbers) (AM ma)) (AM ma) := by
  refine CT.of (L := [(0, .ref (ma 0)), (1, .int (nI lo)), (2, .int h0)]) rfl (by decide +kernel) rfl (Nat.le_of_ble_eq_true rfl) ?_
  refine g_aload_n 0 dX10_number_0 rfl rfl ?_
  refine m_get_token dX10_number_1 ?_
  refine g_iconst (v := nI 2) dX10_number_4 (by decide +kernel) ?_
  refine g_icmp_eq_n (tgt := 16) dX10_number_5 (by decide) (by omega) (by omega) (fun c5 => ?_) (fun c5 => ?_)
  · skip
    refine g_aload_n 0 dX10_number_16 rfl rfl ?_
    refine m_get_value dX10_number_17 ?_
    refine g_i2l_n dX10_number_20 (by omega) ?_
    refine g_iload_n 1 dX10_number_21 rfl rfl ?_
    refine g_i2l_n dX10_number_22 (by omega) ?_
    refine g_iload_n 2 dX10_number_23 rfl rfl ?_
    refine g_i2l dX10_number_24 rfl ?_
    refine m_cSi (ct_within _ _ _) hsX10_within hyX10_within rfl ⟨Nat.le_of_ble_eq_true rfl, Nat.le_of_ble_eq_true rfl⟩ ⟨Nat.zero_le _, Nat.zero_le _⟩ rfl (Nat.le_of_ble_eq_true rfl) dX10_number_25 (fun r u9 hp => ?_)
    obtain rfl := hp
    refine g_if_ne_b (tgt := 36) dX10_number_28 (by decide) (fun c28 => ?_) (fun c28 => ?_)
    · skip
      refine g_aload_n 0 dX10_number_36 rfl rfl ?_
      refine m_get_value dX10_number_37 ?_
      refine g_istore_n (L' := [(0, _), (1, _), (2, _), (3, _)]) 3 dX10_number_40 rfl (by decide) rfl rfl ?_
      refine g_aload_n 0 dX10_number_41 rfl rfl ?_
      refine m_get_bad dX10_number_42 ?_
      refine g_if_ne_n (tgt := 52) dX10_number_45 (by decide) (by omega) (fun c45 => ?_) (fun c45 => ?_)
      · skip
        refine g_aload_n 0 dX10_number_52 rfl rfl ?_
        refine m_get_bad dX10_number_53 ?_
        refine g_if_ne_n (tgt := 63) dX10_number_56 (by decide) (by omega) (fun c56 => ?_) (fun c56 => ?_)
        · skip
          refine g_iload_n 1 dX10_number_63 rfl rfl ?_
          exact g_iret () dX10_number_64 (Nat.le_refl _) (Nat.le_refl _) (rfl) (fun _ h => h)
        · skip
          exact absurd c56 (by omega)
      · skip
        exact absurd c45 (by omega)
    · skip
      refine g_aload_n 0 dX10_number_31 rfl rfl ?_
      refine g_iconst (v := nI 3) dX10_number_32 (by decide +kernel) ?_
      refine m_cVv (ct_blames_bad _ hbd) hvX10_blames hyX10_blames rfl ⟨Nat.le_of_ble_eq_true rfl, Nat.le_of_ble_eq_true rfl⟩ ⟨Nat.zero_le _, Nat.zero_le _⟩ rfl (Nat.le_of_ble_eq_true rfl) dX10_number_33 m_rec (fun u9 h9 => ?_)
      refine g_aload_n 0 dX10_number_36 rfl rfl ?_
      refine m_get_value dX10_number_37 ?_
      refine g_istore_n (L' := [(0, _), (1, _), (2, _), (3, _)]) 3 dX10_number_40 rfl (by decide) rfl rfl ?_
      refine g_aload_n 0 dX10_number_41 rfl rfl ?_
      refine m_get_bad dX10_number_42 ?_
      refine g_if_ne_n (tgt := 52) dX10_number_45 (by decide) (by omega) (fun c45 => ?_) (fun c45 => ?_)
      · skip
        refine g_aload_n 0 dX10_number_52 rfl rfl ?_
        refine m_get_bad dX10_number_53 ?_
        refine g_if_ne_n (tgt := 63) dX10_number_56 (by decide) (by omega) (fun c56 => ?_) (fun c56 => ?_)
        · skip
          refine g_iload_n 1 dX10_number_63 rfl rfl ?_
          exact g_iret () dX10_number_64 (Nat.le_refl _) (Nat.le_refl _) (rfl) (fun _ h => h)
        · skip
          exact absurd c56 (by omega)
      · skip
        exact absurd c45 (by omega)
  · skip
    refine g_aload_n 0 dX10_number_8 rfl rfl ?_
    refine g_iconst (v := nI 2) dX10_number_9 (by decide +kernel) ?_
    refine m_cVv (ct_blames_bad _ hbd) hvX10_blames hyX10_blames rfl ⟨Nat.le_of_ble_eq_true rfl, Nat.le_of_ble_eq_true rfl⟩ ⟨Nat.zero_le _, Nat.zero_le _⟩ rfl (Nat.le_of_ble_eq_true rfl) dX10_number_10 m_rec (fun u9 h9 => ?_)
    refine g_goto (tgt := 36) dX10_number_13 (by decide) ?_
    refine g_aload_n 0 dX10_number_36 rfl rfl ?_
    refine m_get_value dX10_number_37 ?_
    refine g_istore_n (L' := [(0, _), (1, _), (2, _), (3, _)]) 3 dX10_number_40 rfl (by decide) rfl rfl ?_
    refine g_aload_n 0 dX10_number_41 rfl rfl ?_
    refine m_get_bad dX10_number_42 ?_
    refine g_if_ne_n (tgt := 52) dX10_number_45 (by decide) (by omega) (fun c45 => ?_) (fun c45 => ?_)
    · skip
      refine g_aload_n 0 dX10_number_52 rfl rfl ?_
      refine m_get_bad dX10_number_53 ?_
      refine g_if_ne_n (tgt := 63) dX10_number_56 (by decide) (by omega) (fun c56 => ?_) (fun c56 => ?_)
      · skip
        refine g_iload_n 1 dX10_number_63 rfl rfl ?_
        exact g_iret () dX10_number_64 (Nat.le_refl _) (Nat.le_refl _) (rfl) (fun _ h => h)
      · skip
        exact absurd c56 (by omega)
    · skip
      exact absurd c45 (by omega)
set_option maxHeartbeats 4000000 in
/-- makes a mark -/
theorem ct_mark (M kd nb : Nat) (pt : Int32) (hM : fresh_ 7 = nI M) (hM2 : M < 450) : CT l D cl tys yX10_mark cX10_mark 5 (some .int) ({ frames := 0, cells := 0, slots := 0, locals := 0 } : Room) [.ref (ma 0), .int (nI kd), .int (nI nb), .int pt] (HM D cl tys mi cI cJ cZ ma known fresh_ saved images isImage thrown tape taped size_ at_ begin_ token value open_ 0 badPlace faultKind faultPlace xs ys pairs rows top heaps endsBehind path order firstOrder ordersMany tSort tMany numbers) (Qi (fun (v : Int32) (u : Nat → Int32) => v = nI M ∧ u = mkM fresh_ M kd nb pt) (fun (u : Nat → Int32) => HM D cl tys mi cI cJ cZ ma known u saved images isImage thrown tape taped size_ at_ begin_ token value open_ 0 badPlace faultKind faultPlace xs ys pairs rows top heaps endsBehind path order firstOrder ordersMany tSort tMany numbers) (AM ma)) (AM ma) := by
  refine CT.of (L := [(0, .ref (ma 0)), (1, .int (nI kd)), (2, .int (nI nb)), (3, .int pt)]) rfl (by decide +kernel) rfl (Nat.le_of_ble_eq_true rfl) ?_
  refine g_aload_n 0 dX10_mark_0 rfl rfl ?_
  refine m_get_bad dX10_mark_1 ?_
  refine g_if_ne_n (tgt := 20) dX10_mark_4 (by decide) (by decide) (fun h => absurd h (by decide)) (fun _ => ?_)
  refine g_aload_n 0 dX10_mark_7 rfl rfl ?_
  refine m_get_fresh dX10_mark_8 ?_
  refine g_bipush (v := nI 7) dX10_mark_11 (by decide +kernel) ?_
  refine m_ld_fresh dX10_mark_13 (by omega) ?_
  refine GG.topi hM ?_
  refine g_sipush (v := nI 450) dX10_mark_14 (by decide +kernel) ?_
  refine g_icmp_ne_n (tgt := 22) dX10_mark_17 (by decide) (by omega) (by omega) (fun c17 => ?_) (fun c17 => ?_)
  · skip
    refine g_bipush (v := nI 66) dX10_mark_22 (by decide +kernel) ?_
    refine g_iconst (v := nI 4) dX10_mark_24 (by decide +kernel) ?_
    refine g_aload_n 0 dX10_mark_25 rfl rfl ?_
    refine m_get_fresh dX10_mark_26 ?_
    refine g_bipush (v := nI 7) dX10_mark_29 (by decide +kernel) ?_
    refine m_ld_fresh dX10_mark_31 (by omega) ?_
    refine GG.topi hM ?_
    refine g_imul_n dX10_mark_32 ?_
    refine g_iadd_n dX10_mark_33 ?_
    refine g_istore (L' := [(0, _), (1, _), (2, _), (3, _), (4, _)]) dX10_mark_34 (by decide) rfl rfl ?_
    refine g_aload_n 0 dX10_mark_36 rfl rfl ?_
    refine m_get_fresh dX10_mark_37 ?_
    refine g_iload dX10_mark_40 rfl ?_
    refine g_iload_n 1 dX10_mark_42 rfl rfl ?_
    refine m_st_fresh dX10_mark_43 (by omega) ?_
    refine g_aload_n 0 dX10_mark_44 rfl rfl ?_
    refine m_get_fresh dX10_mark_45 ?_
    refine g_iload dX10_mark_48 rfl ?_
    refine g_iconst (v := nI 1) dX10_mark_50 (by decide +kernel) ?_
    refine g_iadd_n dX10_mark_51 ?_
    refine g_iload_n 2 dX10_mark_52 rfl rfl ?_
    refine m_st_fresh dX10_mark_53 (by omega) ?_
    refine g_aload_n 0 dX10_mark_54 rfl rfl ?_
    refine m_get_fresh dX10_mark_55 ?_
    refine g_iload dX10_mark_58 rfl ?_
    refine g_iconst (v := nI 2) dX10_mark_60 (by decide +kernel) ?_
    refine g_iadd_n dX10_mark_61 ?_
    refine g_iload_n 3 dX10_mark_62 rfl rfl ?_
    refine m_st_fresh dX10_mark_63 (by omega) ?_
    refine g_aload_n 0 dX10_mark_64 rfl rfl ?_
    refine m_get_fresh dX10_mark_65 ?_
    refine g_iload dX10_mark_68 rfl ?_
    refine g_iconst (v := nI 3) dX10_mark_70 (by decide +kernel) ?_
    refine g_iadd_n dX10_mark_71 ?_
    refine g_iconst (v := -1) dX10_mark_72 (by decide +kernel) ?_
    refine m_st_fresh dX10_mark_73 (by omega) ?_
    refine g_aload_n 0 dX10_mark_74 rfl rfl ?_
    refine m_get_fresh dX10_mark_75 ?_
    refine g_bipush (v := nI 7) dX10_mark_78 (by decide +kernel) ?_
    refine g_dup2_11 dX10_mark_80 rfl rfl ?_
    refine m_ld_fresh dX10_mark_81 (by omega) ?_
    refine GG.topi (y := nI M) (by rw [up_n (by omega), up_n (by omega), up_n (by omega), up_n (by omega)]; exact hM) ?_
    refine g_iconst (v := nI 1) dX10_mark_82 (by decide +kernel) ?_
    refine g_iadd_n dX10_mark_83 ?_
    refine m_st_fresh dX10_mark_84 (by omega) ?_
    refine g_aload_n 0 dX10_mark_85 rfl rfl ?_
    refine m_get_fresh dX10_mark_86 ?_
    refine g_bipush (v := nI 7) dX10_mark_89 (by decide +kernel) ?_
    refine m_ld_fresh dX10_mark_91 (by omega) ?_
    refine GG.topi (up_s _ _ _) ?_
    refine g_iconst (v := nI 1) dX10_mark_92 (by decide +kernel) ?_
    refine g_isub_n dX10_mark_93 (by omega) ?_
    exact g_iret _ dX10_mark_94 (Nat.le_refl _) (Nat.le_refl _) (by exact ⟨congrArg nI (by omega), rfl⟩) (fun _ h => h)
  · skip
    exact absurd c17 (by omega)
set_option maxHeartbeats 4000000 in
/-- no mark behind a fault -/
theorem ct_mark_bad (kd nb : Int32) (pt : Int32) (hbd : 0 < bad ∧ bad < 10) : CT l D cl tys yX10_mark cX10_mark 5 (some .int) ({ frames := 0, cells := 0, slots := 0, locals := 0 } : Room) [.ref (ma 0), .int kd, .int nb, .int pt] (HM D cl tys mi cI cJ cZ ma known fresh_ saved images isImage thrown tape taped size_ at_ begin_ token value open_ bad badPlace faultKind faultPlace xs ys pairs rows top heaps endsBehind path order firstOrder ordersMany tSort tMany numbers) (Qi (fun (v : Int32) (u : Unit) => v = nI 0) (fun (u : Unit) => HM D cl tys mi cI cJ cZ ma known fresh_ saved images isImage thrown tape taped size_ at_ begin_ token value open_ bad badPlace faultKind faultPlace xs ys pairs rows top heaps endsBehind path order firstOrder ordersMany tSort tMany numbers) (AM ma)) (AM ma) := by
  refine CT.of (L := [(0, .ref (ma 0)), (1, .int kd), (2, .int nb), (3, .int pt)]) rfl (by decide +kernel) rfl (Nat.le_of_ble_eq_true rfl) ?_
  refine g_aload_n 0 dX10_mark_0 rfl rfl ?_
  refine m_get_bad dX10_mark_1 ?_
  refine g_if_ne_n (tgt := 20) dX10_mark_4 (by decide) (by omega) (fun c4 => ?_) (fun c4 => ?_)
  · skip
    refine g_iconst (v := nI 0) dX10_mark_20 (by decide +kernel) ?_
    exact g_iret () dX10_mark_21 (Nat.le_refl _) (Nat.le_refl _) (rfl) (fun _ h => h)
  · skip
    exact absurd c4 (by omega)
set_option maxHeartbeats 4000000 in
/-- one beside another one -/
theorem ct_beside (a0 b0 : Nat) (ha : a0 < 450) : CT l D cl tys yX10_beside cX10_beside 3 none ({ frames := 0, cells := 0, slots := 0, locals := 0 } : Room) [.ref (ma 0), .int (nI a0), .int (nI b0)] (HM D cl tys mi cI cJ cZ ma known fresh_ saved images isImage thrown tape taped size_ at_ begin_ token value open_ 0 badPlace faultKind faultPlace xs ys pairs rows top heaps endsBehind path order firstOrder ordersMany tSort tMany numbers) (Qv (fun (u : Nat → Int32) => u = up fresh_ (66 + 4 * a0 + 3) (nI b0)) (fun (u : Nat → Int32) => HM D cl tys mi cI cJ cZ ma known u saved images isImage thrown tape taped size_ at_ begin_ token value open_ 0 badPlace faultKind faultPlace xs ys pairs rows top heaps endsBehind path order firstOrder ordersMany tSort tMany numbers) (AM ma)) (AM ma) := by
  refine CT.of (L := [(0, .ref (ma 0)), (1, .int (nI a0)), (2, .int (nI b0))]) rfl (by decide +kernel) rfl (Nat.le_of_ble_eq_true rfl) ?_
  refine g_aload_n 0 dX10_beside_0 rfl rfl ?_
  refine m_get_bad dX10_beside_1 ?_
  refine g_if_ne_n (tgt := 21) dX10_beside_4 (by decide) (by decide) (fun h => absurd h (by decide)) (fun _ => ?_)
  refine g_aload_n 0 dX10_beside_7 rfl rfl ?_
  refine m_get_fresh dX10_beside_8 ?_
  refine g_bipush (v := nI 66) dX10_beside_11 (by decide +kernel) ?_
  refine g_iconst (v := nI 4) dX10_beside_13 (by decide +kernel) ?_
  refine g_iload_n 1 dX10_beside_14 rfl rfl ?_
  refine g_imul_n dX10_beside_15 ?_
  refine g_iadd_n dX10_beside_16 ?_
  refine g_iconst (v := nI 3) dX10_beside_17 (by decide +kernel) ?_
  refine g_iadd_n dX10_beside_18 ?_
  refine g_iload_n 2 dX10_beside_19 rfl rfl ?_
  refine m_st_fresh dX10_beside_20 (by omega) ?_
  exact g_vret _ dX10_beside_21 (Nat.le_refl _) (Nat.le_refl _) (by rfl) (fun _ h => h)
set_option maxHeartbeats 4000000 in
/-- none behind a fault -/
theorem ct_beside_bad (a0 b0 : Int32) (hbd : 0 < bad ∧ bad < 10) : CT l D cl tys yX10_beside cX10_beside 3 none ({ frames := 0, cells := 0, slots := 0, locals := 0 } : Room) [.ref (ma 0), .int a0, .int b0] (HM D cl tys mi cI cJ cZ ma known fresh_ saved images isImage thrown tape taped size_ at_ begin_ token value open_ bad badPlace faultKind faultPlace xs ys pairs rows top heaps endsBehind path order firstOrder ordersMany tSort tMany numbers) (Qv (fun (u : Unit) => True) (fun (u : Unit) => HM D cl tys mi cI cJ cZ ma known fresh_ saved images isImage thrown tape taped size_ at_ begin_ token value open_ bad badPlace faultKind faultPlace xs ys pairs rows top heaps endsBehind path order firstOrder ordersMany tSort tMany numbers) (AM ma)) (AM ma) := by
  refine CT.of (L := [(0, .ref (ma 0)), (1, .int a0), (2, .int b0)]) rfl (by decide +kernel) rfl (Nat.le_of_ble_eq_true rfl) ?_
  refine g_aload_n 0 dX10_beside_0 rfl rfl ?_
  refine m_get_bad dX10_beside_1 ?_
  refine g_if_ne_n (tgt := 21) dX10_beside_4 (by decide) (by omega) (fun c4 => ?_) (fun c4 => ?_)
  · skip
    exact g_vret () dX10_beside_21 (Nat.le_refl _) (Nat.le_refl _) (trivial) (fun _ h => h)
  · skip
    exact absurd c4 (by omega)
set_option maxHeartbeats 4000000 in
/-- takes a speaker -/
theorem ct_speakerTold (p ns : Nat) (hs : size_ ≤ 900) (hT : ∀ j, tape j < 256) (hR : RdP (tape, size_) p at_ begin_ token value) (hps : p ≤ size_) (hns : fresh_ 5 = nI ns) (hn6 : ns ≤ 6) : CT l D cl tys yX10_speakerTold cX10_speakerTold 1 (some .int) ({ frames := 3, cells := 0, slots := 0, locals := 65 } : Room) [.ref (ma 0)] (HM D cl tys mi cI cJ cZ ma known fresh_ saved images isImage thrown tape taped size_ at_ begin_ token value open_ 0 badPlace faultKind faultPlace xs ys pairs rows top heaps endsBehind path order firstOrder ordersMany tSort tMany numbers) (Qi (fun (v : Int32) (u : Nat × Nat × Nat × Nat × Nat × Nat) => RdR (tape, size_) (pNum (tape, size_) 0 ns p) u.1 u.2.1 u.2.2.1 u.2.2.2.1 u.2.2.2.2.1 u.2.2.2.2.2 ∧ (∀ x z, (pNum (tape, size_) 0 ns p) = PR.ok x z → v = nI x) ∧ (¬ u.2.2.2.2.1 = 0 → v = nI 0)) (fun (u : Nat × Nat × Nat × Nat × Nat × Nat) => HM D cl tys mi cI cJ cZ ma known fresh_ saved images isImage thrown tape taped size_ u.1 u.2.1 u.2.2.1 u.2.2.2.1 open_ u.2.2.2.2.1 u.2.2.2.2.2 faultKind faultPlace xs ys pairs rows top heaps endsBehind path order firstOrder ordersMany tSort tMany numbers) (AM ma)) (AM ma) := by
  refine CT.of (L := [(0, .ref (ma 0))]) rfl (by decide +kernel) rfl (Nat.le_of_ble_eq_true rfl) ?_
  refine g_aload_n 0 dX10_speakerTold_0 rfl rfl ?_
  refine g_iconst (v := nI 0) dX10_speakerTold_1 (by decide +kernel) ?_
  refine g_aload_n 0 dX10_speakerTold_2 rfl rfl ?_
  refine m_get_fresh dX10_speakerTold_3 ?_
  refine g_iconst (v := nI 5) dX10_speakerTold_6 (by decide +kernel) ?_
  refine m_ld_fresh dX10_speakerTold_7 (by omega) ?_
  refine GG.topi hns ?_
  refine g_iconst (v := nI 1) dX10_speakerTold_8 (by decide +kernel) ?_
  refine g_isub dX10_speakerTold_9 ?_
  refine m_cVi (ct_number p 0 ns _ hs hT hR hps rfl (by decide) (by omega)) hvX10_number hyX10_number rfl ⟨Nat.le_of_ble_eq_true rfl, Nat.le_of_ble_eq_true rfl⟩ ⟨Nat.zero_le _, Nat.zero_le _⟩ rfl (Nat.le_of_ble_eq_true rfl) dX10_speakerTold_10 m_rec (fun r u9 hp => ?_)
  exact g_iret u9 dX10_speakerTold_13 (Nat.le_refl _) (Nat.le_refl _) (by exact hp) (fun _ h => h)
set_option maxHeartbeats 4000000 in
/-- no speaker behind a fault -/
theorem ct_speakerTold_bad  (hbd : 0 < bad ∧ bad < 10) (ht4 : token ≤ 4) (hv9 : value < 1000) : CT l D cl tys yX10_speakerTold cX10_speakerTold 1 (some .int) ({ frames := 3, cells := 0, slots := 0, locals := 65 } : Room) [.ref (ma 0)] (HM D cl tys mi cI cJ cZ ma known fresh_ saved images isImage thrown tape taped size_ at_ begin_ token value open_ bad badPlace faultKind faultPlace xs ys pairs rows top heaps endsBehind path order firstOrder ordersMany tSort tMany numbers) (Qi (fun (v : Int32) (u : Unit) => v = nI 0) (fun (u : Unit) => HM D cl tys mi cI cJ cZ ma known fresh_ saved images isImage thrown tape taped size_ at_ begin_ token value open_ bad badPlace faultKind faultPlace xs ys pairs rows top heaps endsBehind path order firstOrder ordersMany tSort tMany numbers) (AM ma)) (AM ma) := by
  refine CT.of (L := [(0, .ref (ma 0))]) rfl (by decide +kernel) rfl (Nat.le_of_ble_eq_true rfl) ?_
  refine g_aload_n 0 dX10_speakerTold_0 rfl rfl ?_
  refine g_iconst (v := nI 0) dX10_speakerTold_1 (by decide +kernel) ?_
  refine g_aload_n 0 dX10_speakerTold_2 rfl rfl ?_
  refine m_get_fresh dX10_speakerTold_3 ?_
  refine g_iconst (v := nI 5) dX10_speakerTold_6 (by decide +kernel) ?_
  refine m_ld_fresh dX10_speakerTold_7 (by omega) ?_
  refine g_iconst (v := nI 1) dX10_speakerTold_8 (by decide +kernel) ?_
  refine g_isub dX10_speakerTold_9 ?_
  refine m_cVi (ct_number_bad 0 _ hbd ht4 hv9 (by decide)) hvX10_number hyX10_number rfl ⟨Nat.le_of_ble_eq_true rfl, Nat.le_of_ble_eq_true rfl⟩ ⟨Nat.zero_le _, Nat.zero_le _⟩ rfl (Nat.le_of_ble_eq_true rfl) dX10_speakerTold_10 m_rec (fun r u9 hp => ?_)
  obtain rfl := hp
  exact g_iret () dX10_speakerTold_13 (Nat.le_refl _) (Nat.le_refl _) (rfl) (fun _ h => h)
set_option maxHeartbeats 4000000 in
/-- opens one more -/
theorem ct_opens (p : Nat) (hs : size_ ≤ 900) (hT : ∀ j, tape j < 256) (hR : RdP (tape, size_) p at_ begin_ token value) (hps : p ≤ size_) (ho : open_ < 8) : CT l D cl tys yX10_opens cX10_opens 1 none ({ frames := 2, cells := 0, slots := 0, locals := 42 } : Room) [.ref (ma 0)] (HM D cl tys mi cI cJ cZ ma known fresh_ saved images isImage thrown tape taped size_ at_ begin_ token value open_ 0 badPlace faultKind faultPlace xs ys pairs rows top heaps endsBehind path order firstOrder ordersMany tSort tMany numbers) (Qv (fun (u : Nat × Nat × Nat × Nat) => RdP (tape, size_) (tkE (tape, size_) p) u.1 u.2.1 u.2.2.1 u.2.2.2) (fun (u : Nat × Nat × Nat × Nat) => HM D cl tys mi cI cJ cZ ma known fresh_ saved images isImage thrown tape taped size_ u.1 u.2.1 u.2.2.1 u.2.2.2 (open_ + 1) 0 badPlace faultKind faultPlace xs ys pairs rows top heaps endsBehind path order firstOrder ordersMany tSort tMany numbers) (AM ma)) (AM ma) := by
  refine CT.of (L := [(0, .ref (ma 0))]) rfl (by decide +kernel) rfl (Nat.le_of_ble_eq_true rfl) ?_
  refine g_aload_n 0 dX10_opens_0 rfl rfl ?_
  refine m_get_open dX10_opens_1 ?_
  refine g_bipush (v := nI 8) dX10_opens_4 (by decide +kernel) ?_
  refine g_icmp_ne_n (tgt := 14) dX10_opens_6 (by decide) (by omega) (by omega) (fun c6 => ?_) (fun c6 => ?_)
  · skip
    refine g_aload_n 0 dX10_opens_14 rfl rfl ?_
    refine g_dup dX10_opens_15 rfl ?_
    refine m_get_open dX10_opens_16 ?_
    refine g_iconst (v := nI 1) dX10_opens_19 (by decide +kernel) ?_
    refine g_iadd_n dX10_opens_20 ?_
    refine m_put_open dX10_opens_21 ?_
    refine g_aload_n 0 dX10_opens_24 rfl rfl ?_
    refine m_get_bad dX10_opens_25 ?_
    refine g_if_ne_n (tgt := 35) dX10_opens_28 (by decide) (by decide) (fun h => absurd h (by decide)) (fun _ => ?_)
    refine g_aload_n 0 dX10_opens_31 rfl rfl ?_
    refine m_cVv (ct_reads hs (hR.le hps).1 hR.2.2.2.2 hT) hvX10_reads hyX10_reads rfl ⟨Nat.le_of_ble_eq_true rfl, Nat.le_of_ble_eq_true rfl⟩ ⟨Nat.zero_le _, Nat.zero_le _⟩ rfl (Nat.le_of_ble_eq_true rfl) dX10_opens_32 m_rec (fun ur hrd => ?_)
    obtain ⟨a1, b1, t1, v1⟩ := ur
    have hrd : RdP (tape, size_) (tkE (tape, size_) p) a1 b1 t1 v1 := by rw [← hR.1]; exact hrd
    have hps1 : tkE (tape, size_) p ≤ size_ := tkE_le (X := (tape, size_)) hps
    exact g_vret (_, _, _, _) dX10_opens_35 (Nat.le_refl _) (Nat.le_refl _) (by exact hrd) (fun _ h => h)
  · skip
    exact absurd c6 (by omega)
set_option maxHeartbeats 4000000 in
/-- too many are open -/
theorem ct_opens_over (p : Nat) (hs : size_ ≤ 900) (hT : ∀ j, tape j < 256) (hR : RdP (tape, size_) p at_ begin_ token value) (hps : p ≤ size_) (ho : open_ = 8) (ht : ¬ token = 4) : CT l D cl tys yX10_opens cX10_opens 1 none ({ frames := 2, cells := 0, slots := 0, locals := 42 } : Room) [.ref (ma 0)] (HM D cl tys mi cI cJ cZ ma known fresh_ saved images isImage thrown tape taped size_ at_ begin_ token value open_ 0 badPlace faultKind faultPlace xs ys pairs rows top heaps endsBehind path order firstOrder ordersMany tSort tMany numbers) (Qv (fun (u : Nat × Nat) => u.1 = 5 ∧ u.2 = begin_) (fun (u : Nat × Nat) => HM D cl tys mi cI cJ cZ ma known fresh_ saved images isImage thrown tape taped size_ at_ begin_ token value (open_ + 1) u.1 u.2 faultKind faultPlace xs ys pairs rows top heaps endsBehind path order firstOrder ordersMany tSort tMany numbers) (AM ma)) (AM ma) := by
  refine CT.of (L := [(0, .ref (ma 0))]) rfl (by decide +kernel) rfl (Nat.le_of_ble_eq_true rfl) ?_
  refine g_aload_n 0 dX10_opens_0 rfl rfl ?_
  refine m_get_open dX10_opens_1 ?_
  refine g_bipush (v := nI 8) dX10_opens_4 (by decide +kernel) ?_
  refine g_icmp_ne_n (tgt := 14) dX10_opens_6 (by decide) (by omega) (by omega) (fun c6 => ?_) (fun c6 => ?_)
  · skip
    exact absurd ho c6
  · skip
    refine g_aload_n 0 dX10_opens_9 rfl rfl ?_
    refine g_iconst (v := nI 5) dX10_opens_10 (by decide +kernel) ?_
    refine m_cVv (ct_blames _ hR.t4 (by omega)) hvX10_blames hyX10_blames rfl ⟨Nat.le_of_ble_eq_true rfl, Nat.le_of_ble_eq_true rfl⟩ ⟨Nat.zero_le _, Nat.zero_le _⟩ rfl (Nat.le_of_ble_eq_true rfl) dX10_opens_11 m_rec (fun ub hbl => ?_)
    obtain ⟨bd, bp⟩ := ub
    obtain ⟨hb1, hb2⟩ := hbl
    have hb1 : bd = _ := hb1
    have hb2 : bp = begin_ := hb2
    have hb3 : 0 < bd ∧ bd < 10 := by rw [hb1]; split <;> omega
    refine g_aload_n 0 dX10_opens_14 rfl rfl ?_
    refine g_dup dX10_opens_15 rfl ?_
    refine m_get_open dX10_opens_16 ?_
    refine g_iconst (v := nI 1) dX10_opens_19 (by decide +kernel) ?_
    refine g_iadd_n dX10_opens_20 ?_
    refine m_put_open dX10_opens_21 ?_
    refine g_aload_n 0 dX10_opens_24 rfl rfl ?_
    refine m_get_bad dX10_opens_25 ?_
    refine g_if_ne_n (tgt := 35) dX10_opens_28 (by decide) (by omega) (fun c28 => ?_) (fun c28 => ?_)
    · skip
      exact g_vret (_, _) dX10_opens_35 (Nat.le_refl _) (Nat.le_refl _) (by refine ⟨?_, hb2⟩; rw [if_neg ht] at hb1; exact hb1) (fun _ h => h)
    · skip
      exact absurd c28 (by omega)
set_option maxHeartbeats 4000000 in
/-- opens one more behind a fault -/
theorem ct_opens_bad  (hbd : 0 < bad ∧ bad < 10) (ho : open_ < 20) : CT l D cl tys yX10_opens cX10_opens 1 none ({ frames := 2, cells := 0, slots := 0, locals := 42 } : Room) [.ref (ma 0)] (HM D cl tys mi cI cJ cZ ma known fresh_ saved images isImage thrown tape taped size_ at_ begin_ token value open_ bad badPlace faultKind faultPlace xs ys pairs rows top heaps endsBehind path order firstOrder ordersMany tSort tMany numbers) (Qv (fun (u : Unit) => True) (fun (u : Unit) => HM D cl tys mi cI cJ cZ ma known fresh_ saved images isImage thrown tape taped size_ at_ begin_ token value (open_ + 1) bad badPlace faultKind faultPlace xs ys pairs rows top heaps endsBehind path order firstOrder ordersMany tSort tMany numbers) (AM ma)) (AM ma) := by
  refine CT.of (L := [(0, .ref (ma 0))]) rfl (by decide +kernel) rfl (Nat.le_of_ble_eq_true rfl) ?_
  refine g_aload_n 0 dX10_opens_0 rfl rfl ?_
  refine m_get_open dX10_opens_1 ?_
  refine g_bipush (v := nI 8) dX10_opens_4 (by decide +kernel) ?_
  refine g_icmp_ne_n (tgt := 14) dX10_opens_6 (by decide) (by omega) (by omega) (fun c6 => ?_) (fun c6 => ?_)
  · skip
    refine g_aload_n 0 dX10_opens_14 rfl rfl ?_
    refine g_dup dX10_opens_15 rfl ?_
    refine m_get_open dX10_opens_16 ?_
    refine g_iconst (v := nI 1) dX10_opens_19 (by decide +kernel) ?_
    refine g_iadd_n dX10_opens_20 ?_
    refine m_put_open dX10_opens_21 ?_
    refine g_aload_n 0 dX10_opens_24 rfl rfl ?_
    refine m_get_bad dX10_opens_25 ?_
    refine g_if_ne_n (tgt := 35) dX10_opens_28 (by decide) (by omega) (fun c28 => ?_) (fun c28 => ?_)
    · skip
      exact g_vret () dX10_opens_35 (Nat.le_refl _) (Nat.le_refl _) (trivial) (fun _ h => h)
    · skip
      exact absurd c28 (by omega)
  · skip
    refine g_aload_n 0 dX10_opens_9 rfl rfl ?_
    refine g_iconst (v := nI 5) dX10_opens_10 (by decide +kernel) ?_
    refine m_cVv (ct_blames_bad _ hbd) hvX10_blames hyX10_blames rfl ⟨Nat.le_of_ble_eq_true rfl, Nat.le_of_ble_eq_true rfl⟩ ⟨Nat.zero_le _, Nat.zero_le _⟩ rfl (Nat.le_of_ble_eq_true rfl) dX10_opens_11 m_rec (fun u9 h9 => ?_)
    refine g_aload_n 0 dX10_opens_14 rfl rfl ?_
    refine g_dup dX10_opens_15 rfl ?_
    refine m_get_open dX10_opens_16 ?_
    refine g_iconst (v := nI 1) dX10_opens_19 (by decide +kernel) ?_
    refine g_iadd_n dX10_opens_20 ?_
    refine m_put_open dX10_opens_21 ?_
    refine g_aload_n 0 dX10_opens_24 rfl rfl ?_
    refine m_get_bad dX10_opens_25 ?_
    refine g_if_ne_n (tgt := 35) dX10_opens_28 (by decide) (by omega) (fun c28 => ?_) (fun c28 => ?_)
    · skip
      exact g_vret () dX10_opens_35 (Nat.le_refl _) (Nat.le_refl _) (trivial) (fun _ h => h)
    · skip
      exact absurd c28 (by omega)
end
