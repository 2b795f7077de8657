/-! THE COMPONENT, 3: talks and sayings as cells; lists; sights; the course's small methods -/
set_option maxRecDepth 100000
/-- the object of a sight -/
def sgE (k : Nat) : va_E := match k with
  | 0 => .inr (15, [])
  | 1 => .inr (16, [])
  | 2 => .inr (18, [])
  | 3 => .inr (17, [])
  | 4 => .inr (19, [])
  | 5 => .inr (20, [])
  | 6 => .inr (21, [.int (nI 2)])
  | 7 => .inr (21, [.int (nI 10)])
  | _ => .inr (21, [.int (nI 1)])
def sPair (bo : Bool) (g h : Sem) : Sem := fun E t w => if bo = true then (g E t w && h E t w) else (g E t w || h E t w)
/-- the object at a says f; k: its height, d: how many rows it takes -/
def SayL (nS : Nat) (W : va_W) : Nat → Nat → Sem → Nat → Prop
  | 0, _, _, _ => False
  | k + 1, d, f, a => ((a, .inr (29, [])) ∈ W ∧ f = sEven) ∨ ((a, .inr (30, [])) ∈ W ∧ f = sSame) ∨
    (∃ n : Nat, (a, .inr (31, [.int (nI n)])) ∈ W ∧ n ≤ 120 ∧ f = sAbove n) ∨
    (∃ s : Nat, (a, .inr (25, [.int (nI s)])) ∈ W ∧ s < nS ∧ f = sKnows s) ∨
    (∃ (s p d2 : Nat) (g : Sem), (a, .inr (26, [.int (nI s), .ref p])) ∈ W ∧ s < nS ∧ d = d2 + 1 ∧ SayL nS W k d2 g p ∧ f = sSees s g) ∨
    (∃ (n p : Nat) (g : Sem), (a, .inr (27, [.int (nI n), .ref p])) ∈ W ∧ n ≤ 20 ∧ SayL nS W k d g p ∧ f = sWas n g) ∨
    (∃ (p : Nat) (g : Sem), (a, .inr (24, [.ref p])) ∈ W ∧ SayL nS W k d g p ∧ f = sNot g) ∨
    (∃ (bo : Bool) (x y d2 : Nat) (g h : Sem), (a, .inr (32, [.int (bI bo), .ref x, .ref y])) ∈ W ∧ d = d2 + 1 ∧ SayL nS W k d g x ∧ SayL nS W k d2 h y ∧ f = sPair bo g h)
theorem SayL.up {nS nS2 : Nat} {W W2 : va_W} (hn : nS ≤ nS2) (hW : ∀ q, q ∈ W → q ∈ W2) : ∀ (k k2 d d2 : Nat) (f : Sem) (a : Nat), k ≤ k2 → d ≤ d2 → SayL nS W k d f a → SayL nS2 W2 k2 d2 f a
  | 0, _, _, _, _, _, _, _, h => h.elim
  | k + 1, 0, _, _, _, _, hk, _, _ => absurd hk (Nat.not_succ_le_zero k)
  | k + 1, k2 + 1, d, d2, f, a, hk, hd, h => by
    have ih := SayL.up (nS := nS) (nS2 := nS2) (W := W) (W2 := W2) hn hW k k2
    have hk' : k ≤ k2 := by omega
    rcases h with h | h | ⟨n, b1, b2, b3⟩ | ⟨s, b1, b2, b3⟩ | ⟨s, p, e, g, b1, b2, b3, b4, b5⟩ | ⟨n, p, g, b1, b2, b3, b4⟩ | ⟨p, g, b1, b2, b3⟩ | ⟨bo, x, y, e, g, h, b1, b2, b3, b4, b5⟩
    · exact Or.inl ⟨hW _ h.1, h.2⟩
    · exact Or.inr (Or.inl ⟨hW _ h.1, h.2⟩)
    · exact Or.inr (Or.inr (Or.inl ⟨n, hW _ b1, b2, b3⟩))
    · exact Or.inr (Or.inr (Or.inr (Or.inl ⟨s, hW _ b1, by omega, b3⟩)))
    · exact Or.inr (Or.inr (Or.inr (Or.inr (Or.inl ⟨s, p, d2 - 1, g, hW _ b1, by omega, by omega, ih _ _ _ _ hk' (by omega) b4, b5⟩))))
    · exact Or.inr (Or.inr (Or.inr (Or.inr (Or.inr (Or.inl ⟨n, p, g, hW _ b1, b2, ih _ _ _ _ hk' hd b3, b4⟩)))))
    · exact Or.inr (Or.inr (Or.inr (Or.inr (Or.inr (Or.inr (Or.inl ⟨p, g, hW _ b1, ih _ _ _ _ hk' hd b2, b3⟩))))))
    · exact Or.inr (Or.inr (Or.inr (Or.inr (Or.inr (Or.inr (Or.inr ⟨bo, x, y, d2 - 1, g, h, hW _ b1, by omega, ih _ _ _ _ hk' hd b3, ih _ _ _ _ hk' (by omega) b4, b5⟩))))))
/-- a list of n objects: the list object la, its array ea, what is in it -/
def LstL (Y : Nat → ClassId) (la ea na : Nat) (mc : Int32) (n : Nat) (f : Nat → Nat) (W : va_W) : Prop :=
  (la, .inr (33, [.int mc, .ref ea, .int (nI n)])) ∈ W ∧ (0 < n → ∃ g : Nat → Option Nat, (ea, rfC (Y 9) na g) ∈ W ∧ n ≤ na ∧ na < 2 ^ 31 ∧ ∀ i, i < n → g i = some (f i))
/-- the objects of a talk: ta 0 the talk, ta 1, ta 2 its lists, ta 10 .. its speakers, ta 20 .. their sights, ta 30 .. its turns, ta 60 .. what is said -/
def TalkL (Y : Nat → ClassId) (T : Talk) (ta : Nat → Nat) (W : va_W) : Prop :=
  (ta 0, .inr (2, [.ref (ta 1), .ref (ta 2), .int (nI (tLow T)), .int (nI (tHigh T)), .int (nI (tMost T)), .int (nI (tLines T)), .int (nI (tUn T))])) ∈ W ∧
  (∃ (ea na : Nat) (mc : Int32), LstL Y (ta 1) ea na mc (tNS T) (fun s => ta (10 + s)) W) ∧ (∃ (ea na : Nat) (mc : Int32), LstL Y (ta 2) ea na mc (tNT T) (fun t => ta (30 + t)) W) ∧
  (∀ s, s < tNS T → (ta (10 + s), .inr (13, [.int (nI (tKind T s)), .ref (ta (20 + s)), .int (bI (tLiar T s)), .int (bI (tDeaf T s))])) ∈ W ∧ (ta (20 + s), sgE (tKind T s)) ∈ W) ∧
  ∀ t, t < tNT T → (ta (30 + t), .inr (22, [.int (nI (tWho T t)), .ref (ta (60 + t))])) ∈ W ∧ SayL (tNS T) W 900 40 (tSem T t) (ta (60 + t))
theorem LstL.up {Y : Nat → ClassId} {la ea na n : Nat} {mc : Int32} {f : Nat → Nat} {W W2 : va_W} (hW : ∀ q, q ∈ W → q ∈ W2) (h : LstL Y la ea na mc n f W) : LstL Y la ea na mc n f W2 :=
  ⟨hW _ h.1, fun h0 => (h.2 h0).elim fun g hg => ⟨g, hW _ hg.1, hg.2⟩⟩
theorem TalkL.up {Y : Nat → ClassId} {T : Talk} {ta : Nat → Nat} {W W2 : va_W} (hW : ∀ q, q ∈ W → q ∈ W2) (h : TalkL Y T ta W) : TalkL Y T ta W2 :=
  ⟨hW _ h.1, h.2.1.elim fun a h => h.elim fun b h => h.elim fun c h => ⟨a, b, c, h.up hW⟩, h.2.2.1.elim fun a h => h.elim fun b h => h.elim fun c h => ⟨a, b, c, h.up hW⟩, fun s hs => ⟨hW _ (h.2.2.2.1 s hs).1, hW _ (h.2.2.2.1 s hs).2⟩, fun t ht => ⟨hW _ (h.2.2.2.2 t ht).1, SayL.up (Nat.le_refl _) hW _ _ _ _ _ _ (Nat.le_refl _) (Nat.le_refl _) (h.2.2.2.2 t ht).2⟩⟩
/-- what one knows of the cells of a heap -/
abbrev HasW (D : va_G) (HP : Heap → Prop) (W : va_W) : Prop := ∀ q, q ∈ W → ∀ H, HP H → va_P D clX [q] H
theorem co_has {D : va_G} {A : Nat → Prop} {Y : Nat → ClassId} {ca ra : Nat → Nat} {b : Nat} {tk : Option Nat} {many used : Nat} {liar : Int32} {xs ys heaps : Nat → Nat} {slips : Nat → Nat → Nat} {rows : Nat → Nat → Int64} {W : va_W} : HasW D (HW D clX A (CoL Y ca ra b tk many used liar xs ys heaps slips rows W)) W := fun q hq H h => hw_mem (co_tl hq) H h

theorem hy_J9_checkIndex : yJ9_checkIndex.cls ≠ "java/lang/invoke/MethodHandle" ∧ yJ9_checkIndex.cls ≠ "java/lang/invoke/VarHandle" ∧ (parseMethodDescriptor yJ9_checkIndex.desc).map (fun d => d.parameters.length) = some 3 := by decide +kernel
theorem hy_J15_checkIndex : yJ15_checkIndex.cls ≠ "java/lang/invoke/MethodHandle" ∧ yJ15_checkIndex.cls ≠ "java/lang/invoke/VarHandle" ∧ (parseMethodDescriptor yJ15_checkIndex.desc).map (fun d => d.parameters.length) = some 2 := by decide +kernel
theorem hy_J2_elementData : yJ2_elementData.cls ≠ "java/lang/invoke/MethodHandle" ∧ yJ2_elementData.cls ≠ "java/lang/invoke/VarHandle" ∧ (parseMethodDescriptor yJ2_elementData.desc).map (fun d => d.parameters.length) = some 1 := by decide +kernel
theorem hy_J2_get : yJ2_get.cls ≠ "java/lang/invoke/MethodHandle" ∧ yJ2_get.cls ≠ "java/lang/invoke/VarHandle" ∧ (parseMethodDescriptor yJ2_get.desc).map (fun d => d.parameters.length) = some 1 := by decide +kernel
section
variable {l : Launch} {D : va_G} {Y : Nat → ClassId} {A : Nat → Prop}
set_option maxHeartbeats 4000000 in
/-- size of a list -/
theorem ctJ2_size {HP : Heap → Prop} {la ea n0 : Nat} {mc : Int32}  (hc : ∀ H, HP H → va_P D clX [(la, .inr (33, [.int mc, .ref ea, .int (nI n0)]))] H) : CT l D clX (tyX Y) yJ2_size cJ2_size 1 (some .int) ({ frames := 0, cells := 0, slots := 0, locals := 0 } : Room) [.ref la] (HP) (Qi (fun (v : Int32) (u : Unit) => v = nI n0) (fun (u : Unit) => HP) A) A := by
  refine CT.of (L := [(0, .ref la)]) rfl (by decide +kernel) rfl (Nat.le_of_ble_eq_true rfl) ?_
  refine g_aload_n 0 dJ2_size_0 rfl rfl ?_
  refine g_getf (C := RJ2) (T := TJ2) (N := 3) 2 in_J2 rfl (by decide) q191 rfl dJ2_size_1 (hc) rfl ?_
  exact g_iret () dJ2_size_4 (Nat.le_refl _) (Nat.le_refl _) (rfl) (fun _ h => h)
set_option maxHeartbeats 4000000 in
/-- an index that is in -/
theorem ctJ9_chk2 {HP : Heap → Prop} (i n0 : Nat) (hi : i < n0) (hn : n0 < 2 ^ 31) : CT l D clX (tyX Y) yJ9_checkIndex cJ9_checkIndex 3 (some .int) ({ frames := 0, cells := 0, slots := 0, locals := 0 } : Room) [.int (nI i), .int (nI n0), .null] (HP) (Qi (fun (v : Int32) (u : Unit) => v = nI i) (fun (u : Unit) => HP) A) A := by
  refine CT.of (L := [(0, .int (nI i)), (1, .int (nI n0)), (2, .null)]) rfl (by decide +kernel) rfl (Nat.le_of_ble_eq_true rfl) ?_
  refine g_iload_n 0 dJ9_checkIndex_0 rfl rfl ?_
  refine g_if_lt_n (tgt := 9) dJ9_checkIndex_1 (by decide) (by omega) ?_
  refine g_iload_n 0 dJ9_checkIndex_4 rfl rfl ?_
  refine g_iload_n 1 dJ9_checkIndex_5 rfl rfl ?_
  refine g_icmp_lt_n (tgt := 16) dJ9_checkIndex_6 (by decide) (by omega) (by omega) (fun c6 => ?_) (fun c6 => ?_)
  · skip
    refine g_iload_n 0 dJ9_checkIndex_16 rfl rfl ?_
    exact g_iret () dJ9_checkIndex_17 (Nat.le_refl _) (Nat.le_refl _) (rfl) (fun _ h => h)
  · skip
    exact absurd hi (by omega)
set_option maxHeartbeats 4000000 in
/-- an index that is in -/
theorem ctJ15_checkIndex {HP : Heap → Prop} (i n0 : Nat) (hi : i < n0) (hn : n0 < 2 ^ 31) : CT l D clX (tyX Y) yJ15_checkIndex cJ15_checkIndex 2 (some .int) ({ frames := 1, cells := 0, slots := 0, locals := 22 } : Room) [.int (nI i), .int (nI n0)] (HP) (Qi (fun (v : Int32) (u : Unit) => v = nI i) (fun (u : Unit) => HP) A) A := by
  refine CT.of (L := [(0, .int (nI i)), (1, .int (nI n0))]) rfl (by decide +kernel) rfl (Nat.le_of_ble_eq_true rfl) ?_
  refine g_iload_n 0 dJ15_checkIndex_0 rfl rfl ?_
  refine g_iload_n 1 dJ15_checkIndex_1 rfl rfl ?_
  refine g_null dJ15_checkIndex_2 ?_
  refine h_cSi (ctJ9_chk2 _ _ hi hn) (lw_S q536 q537 q126 q538) hy_J9_checkIndex rfl ⟨Nat.le_of_ble_eq_true rfl, Nat.le_of_ble_eq_true rfl⟩ ⟨Nat.le_of_ble_eq_true rfl, Nat.le_of_ble_eq_true rfl⟩ rfl (Nat.le_of_ble_eq_true rfl) dJ15_checkIndex_3 (fun r u hp => ?_)
  obtain rfl := hp
  exact g_iret () dJ15_checkIndex_6 (Nat.le_refl _) (Nat.le_refl _) (rfl) (fun _ h => h)
set_option maxHeartbeats 4000000 in
/-- an element -/
theorem ctJ2_elementData {HP : Heap → Prop} {la ea na n0 : Nat} {mc : Int32} {g : Nat → Option Nat} (i o : Nat) (hc : ∀ H, HP H → va_P D clX [(la, .inr (33, [.int mc, .ref ea, .int (nI n0)]))] H) (he : ∀ H, HP H → va_P D clX [(ea, rfC (Y 9) na g)] H) (hna : na < 2 ^ 31) (hn : n0 ≤ na) (hi : i < n0) (hg : va_rf (g i) = .ref o) : CT l D clX (tyX Y) yJ2_elementData cJ2_elementData 2 (Option.some (Jvm.ClassFile.FieldType.object "java/lang/Object")) ({ frames := 0, cells := 0, slots := 0, locals := 0 } : Room) [.ref la, .int (nI i)] (HP) (Qo (fun (u : Unit) => True) (fun (u : Unit) => HP) (fun (u : Unit) => o) A) A := by
  refine CT.of (L := [(0, .ref la), (1, .int (nI i))]) rfl (by decide +kernel) rfl (Nat.le_of_ble_eq_true rfl) ?_
  refine g_aload_n 0 dJ2_elementData_0 rfl rfl ?_
  refine g_getf (C := RJ2) (T := TJ2) (N := 3) 1 in_J2 rfl (by decide) q190 rfl dJ2_elementData_1 (hc) rfl ?_
  refine g_iload_n 1 dJ2_elementData_4 rfl rfl ?_
  refine g_ldr (cA := Y 9) 9 rfl rfl (by omega) hna dJ2_elementData_5 he hg ?_
  exact g_areto () dJ2_elementData_6 (Or.inl ⟨_, rfl⟩) (Nat.le_refl _) (Nat.le_refl _) (trivial) rfl (fun _ h => h)
set_option maxHeartbeats 4000000 in
/-- an element -/
theorem ctJ2_get {HP : Heap → Prop} {la ea na n0 : Nat} {mc : Int32} {g : Nat → Option Nat} (i o : Nat) (hc : ∀ H, HP H → va_P D clX [(la, .inr (33, [.int mc, .ref ea, .int (nI n0)]))] H) (he : ∀ H, HP H → va_P D clX [(ea, rfC (Y 9) na g)] H) (hna : na < 2 ^ 31) (hn : n0 ≤ na) (hi : i < n0) (hg : va_rf (g i) = .ref o) : CT l D clX (tyX Y) yJ2_get cJ2_get 2 (Option.some (Jvm.ClassFile.FieldType.object "java/lang/Object")) ({ frames := 2, cells := 0, slots := 0, locals := 43 } : Room) [.ref la, .int (nI i)] (HP) (Qo (fun (u : Unit) => True) (fun (u : Unit) => HP) (fun (u : Unit) => o) A) A := by
  refine CT.of (L := [(0, .ref la), (1, .int (nI i))]) rfl (by decide +kernel) rfl (Nat.le_of_ble_eq_true rfl) ?_
  refine g_iload_n 1 dJ2_get_0 rfl rfl ?_
  refine g_aload_n 0 dJ2_get_1 rfl rfl ?_
  refine g_getf (C := RJ2) (T := TJ2) (N := 3) 2 in_J2 rfl (by decide) q191 rfl dJ2_get_2 (hc) rfl ?_
  refine h_cSi (ctJ15_checkIndex _ _ hi (by omega)) (lw_S q533 q534 q154 q535) hy_J15_checkIndex rfl ⟨Nat.le_of_ble_eq_true rfl, Nat.le_of_ble_eq_true rfl⟩ ⟨Nat.le_of_ble_eq_true rfl, Nat.le_of_ble_eq_true rfl⟩ rfl (Nat.le_of_ble_eq_true rfl) dJ2_get_5 (fun r u hp => ?_)
  obtain rfl := hp
  refine g_pop dJ2_get_8 rfl ?_
  refine g_aload_n 0 dJ2_get_9 rfl rfl ?_
  refine g_iload_n 1 dJ2_get_10 rfl rfl ?_
  refine h_cVo (ctJ2_elementData _ o hc he hna hn hi hg) (lw_V q539 q540 q541 q110 q542) ⟨rfl, hy_J2_elementData⟩ rfl ⟨Nat.le_of_ble_eq_true rfl, Nat.le_of_ble_eq_true rfl⟩ ⟨Nat.le_of_ble_eq_true rfl, Nat.le_of_ble_eq_true rfl⟩ rfl (Nat.le_of_ble_eq_true rfl) dJ2_get_11 (fun s H hK hP => va_recv hK (hc H hP) (ci := 33) rfl (q0 := 0) rfl) (fun u hp => ?_)
  exact g_areto () dJ2_get_14 (Or.inl ⟨_, rfl⟩) (Nat.le_refl _) (Nat.le_refl _) (trivial) rfl (fun _ h => h)
set_option maxHeartbeats 4000000 in
/-- a speaker of a talk -/
theorem ctX2_speaker {HP : Heap → Prop} {T : Talk} {ta : Nat → Nat} {W : va_W} (s0 : Nat) (hT : TalkL Y T ta W) (hW : HasW D HP W) (hs : s0 < tNS T) : CT l D clX (tyX Y) yX2_speaker cX2_speaker 2 (Option.some (Jvm.ClassFile.FieldType.object "TwoSlips$Speaker")) ({ frames := 3, cells := 0, slots := 0, locals := 64 } : Room) [.ref (ta 0), .int (nI s0)] (HP) (Qo (fun (u : Unit) => True) (fun (u : Unit) => HP) (fun (u : Unit) => ta (10 + s0)) A) A := by
  obtain ⟨ea, na, mc, hL1⟩ := hT.2.1
  obtain ⟨g, hg1, hg2, hg3, hg4⟩ := hL1.2 (by omega)
  refine CT.of (L := [(0, .ref (ta 0)), (1, .int (nI s0))]) rfl (by decide +kernel) rfl (Nat.le_of_ble_eq_true rfl) ?_
  refine g_aload_n 0 dX2_speaker_0 rfl rfl ?_
  refine g_getf (C := RX2) (T := TX2) (N := 7) 0 in_X2 rfl (by decide) q202 rfl dX2_speaker_1 (hW _ hT.1) rfl ?_
  refine g_iload_n 1 dX2_speaker_4 rfl rfl ?_
  refine h_cVo (ctJ2_get s0 _ (hW _ hL1.1) (hW _ hg1) hg3 hg2 hs (congrArg va_rf (hg4 _ hs))) (lw_V q529 q530 q531 q110 q532) ⟨rfl, hy_J2_get⟩ rfl ⟨Nat.le_of_ble_eq_true rfl, Nat.le_of_ble_eq_true rfl⟩ ⟨Nat.le_of_ble_eq_true rfl, Nat.le_of_ble_eq_true rfl⟩ rfl (Nat.le_of_ble_eq_true rfl) dX2_speaker_5 (fun s H hK hP => va_recv hK (hW _ hL1.1 H hP) (ci := 33) rfl (q0 := 0) rfl) (fun u hp => ?_)
  refine g_castS (r := (RX13, TX13, 4)) q543 rfl dX2_speaker_8 (hW _ (hT.2.2.2.1 s0 hs).1) ?_
  exact g_areto () dX2_speaker_11 (Or.inl ⟨_, rfl⟩) (Nat.le_refl _) (Nat.le_refl _) (trivial) rfl (fun _ h => h)
end
