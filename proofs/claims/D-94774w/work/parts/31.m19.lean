theorem st_X10_220 : strT[18]? = some (RX10, 220, "numbers", 7, [110, 117, 109, 98, 101, 114, 115]) := rfl
theorem wd_X10_220 : isWd (RX10, 220, "numbers", 7, [110, 117, 109, 98, 101, 114, 115]) wNumbers := ⟨rfl, by decide, by decide +kernel⟩
theorem st_X10_221 : strT[19]? = some (RX10, 221, "to", 2, [116, 111]) := rfl
theorem wd_X10_221 : isWd (RX10, 221, "to", 2, [116, 111]) wTo := ⟨rfl, by decide, by decide +kernel⟩
theorem st_X10_223 : strT[20]? = some (RX10, 223, "most", 4, [109, 111, 115, 116]) := rfl
theorem wd_X10_223 : isWd (RX10, 223, "most", 4, [109, 111, 115, 116]) wMost := ⟨rfl, by decide, by decide +kernel⟩
theorem st_X10_225 : strT[21]? = some (RX10, 225, "unlike", 6, [117, 110, 108, 105, 107, 101]) := rfl
theorem wd_X10_225 : isWd (RX10, 225, "unlike", 6, [117, 110, 108, 105, 107, 101]) wUnlike := ⟨rfl, by decide, by decide +kernel⟩
theorem st_X10_227 : strT[22]? = some (RX10, 227, "speaker", 7, [115, 112, 101, 97, 107, 101, 114]) := rfl
theorem wd_X10_227 : isWd (RX10, 227, "speaker", 7, [115, 112, 101, 97, 107, 101, 114]) wSpeaker := ⟨rfl, by decide, by decide +kernel⟩
theorem st_X10_195 : strT[23]? = some (RX10, 195, "sum", 3, [115, 117, 109]) := rfl
theorem wd_X10_195 : isWd (RX10, 195, "sum", 3, [115, 117, 109]) wSum := ⟨rfl, by decide, by decide +kernel⟩
theorem st_X10_197 : strT[24]? = some (RX10, 197, "product", 7, [112, 114, 111, 100, 117, 99, 116]) := rfl
theorem wd_X10_197 : isWd (RX10, 197, "product", 7, [112, 114, 111, 100, 117, 99, 116]) wProduct := ⟨rfl, by decide, by decide +kernel⟩
theorem st_X10_199 : strT[25]? = some (RX10, 199, "greater", 7, [103, 114, 101, 97, 116, 101, 114]) := rfl
theorem wd_X10_199 : isWd (RX10, 199, "greater", 7, [103, 114, 101, 97, 116, 101, 114]) wGreater := ⟨rfl, by decide, by decide +kernel⟩
theorem st_X10_201 : strT[26]? = some (RX10, 201, "less", 4, [108, 101, 115, 115]) := rfl
theorem wd_X10_201 : isWd (RX10, 201, "less", 4, [108, 101, 115, 115]) wLess := ⟨rfl, by decide, by decide +kernel⟩
theorem st_X10_203 : strT[27]? = some (RX10, 203, "difference", 10, [100, 105, 102, 102, 101, 114, 101, 110, 99, 101]) := rfl
theorem wd_X10_203 : isWd (RX10, 203, "difference", 10, [100, 105, 102, 102, 101, 114, 101, 110, 99, 101]) wDifference := ⟨rfl, by decide, by decide +kernel⟩
theorem st_X10_205 : strT[28]? = some (RX10, 205, "squares", 7, [115, 113, 117, 97, 114, 101, 115]) := rfl
theorem wd_X10_205 : isWd (RX10, 205, "squares", 7, [115, 113, 117, 97, 114, 101, 115]) wSquares := ⟨rfl, by decide, by decide +kernel⟩
theorem st_X10_207 : strT[29]? = some (RX10, 207, "odd", 3, [111, 100, 100]) := rfl
theorem wd_X10_207 : isWd (RX10, 207, "odd", 3, [111, 100, 100]) wOdd := ⟨rfl, by decide, by decide +kernel⟩
theorem st_X10_209 : strT[30]? = some (RX10, 209, "digit", 5, [100, 105, 103, 105, 116]) := rfl
theorem wd_X10_209 : isWd (RX10, 209, "digit", 5, [100, 105, 103, 105, 116]) wDigit := ⟨rfl, by decide, by decide +kernel⟩
theorem st_X10_211 : strT[31]? = some (RX10, 211, "nothing", 7, [110, 111, 116, 104, 105, 110, 103]) := rfl
theorem wd_X10_211 : isWd (RX10, 211, "nothing", 7, [110, 111, 116, 104, 105, 110, 103]) wNothing := ⟨rfl, by decide, by decide +kernel⟩
theorem st_X10_216 : strT[32]? = some (RX10, 216, "liar", 4, [108, 105, 97, 114]) := rfl
theorem wd_X10_216 : isWd (RX10, 216, "liar", 4, [108, 105, 97, 114]) wLiar := ⟨rfl, by decide, by decide +kernel⟩
theorem st_X10_218 : strT[33]? = some (RX10, 218, "deaf", 4, [100, 101, 97, 102]) := rfl
theorem wd_X10_218 : isWd (RX10, 218, "deaf", 4, [100, 101, 97, 102]) wDeaf := ⟨rfl, by decide, by decide +kernel⟩
theorem st_X10_232 : strT[34]? = some (RX10, 232, "say", 3, [115, 97, 121]) := rfl
theorem wd_X10_232 : isWd (RX10, 232, "say", 3, [115, 97, 121]) wSay := ⟨rfl, by decide, by decide +kernel⟩
theorem st_X10_153 : strT[35]? = some (RX10, 153, "not", 3, [110, 111, 116]) := rfl
theorem wd_X10_153 : isWd (RX10, 153, "not", 3, [110, 111, 116]) wNot := ⟨rfl, by decide, by decide +kernel⟩
theorem st_X10_165 : strT[36]? = some (RX10, 165, "knows", 5, [107, 110, 111, 119, 115]) := rfl
theorem wd_X10_165 : isWd (RX10, 165, "knows", 5, [107, 110, 111, 119, 115]) wKnows := ⟨rfl, by decide, by decide +kernel⟩
theorem st_X10_173 : strT[37]? = some (RX10, 173, "sees", 4, [115, 101, 101, 115]) := rfl
theorem wd_X10_173 : isWd (RX10, 173, "sees", 4, [115, 101, 101, 115]) wSees := ⟨rfl, by decide, by decide +kernel⟩
theorem st_X10_175 : strT[38]? = some (RX10, 175, "was", 3, [119, 97, 115]) := rfl
theorem wd_X10_175 : isWd (RX10, 175, "was", 3, [119, 97, 115]) wWas := ⟨rfl, by decide, by decide +kernel⟩
theorem st_X10_177 : strT[39]? = some (RX10, 177, "even", 4, [101, 118, 101, 110]) := rfl
theorem wd_X10_177 : isWd (RX10, 177, "even", 4, [101, 118, 101, 110]) wEven := ⟨rfl, by decide, by decide +kernel⟩
theorem st_X10_179 : strT[40]? = some (RX10, 179, "same", 4, [115, 97, 109, 101]) := rfl
theorem wd_X10_179 : isWd (RX10, 179, "same", 4, [115, 97, 109, 101]) wSame := ⟨rfl, by decide, by decide +kernel⟩
theorem st_X10_181 : strT[41]? = some (RX10, 181, "above", 5, [97, 98, 111, 118, 101]) := rfl
theorem wd_X10_181 : isWd (RX10, 181, "above", 5, [97, 98, 111, 118, 101]) wAbove := ⟨rfl, by decide, by decide +kernel⟩
theorem st_X10_187 : strT[42]? = some (RX10, 187, "or", 2, [111, 114]) := rfl
theorem wd_X10_187 : isWd (RX10, 187, "or", 2, [111, 114]) wOr := ⟨rfl, by decide, by decide +kernel⟩
theorem st_X10_189 : strT[43]? = some (RX10, 189, "and", 3, [97, 110, 100]) := rfl
theorem wd_X10_189 : isWd (RX10, 189, "and", 3, [97, 110, 100]) wAnd := ⟨rfl, by decide, by decide +kernel⟩
/-! THE MODEL, 18: the reader behind a fault -/
set_option maxRecDepth 100000
section
variable {l : Launch} {D : va_G} {cl : List vw_C} {tys : List (ClassId × FieldType)} {mi : Nat} {cI cJ cZ : ClassId} {ma : Nat → Nat} {known fresh_ saved images : Nat → Int32} {isImage : Nat → Bool} {thrown : Nat} {tape : Nat → Nat} {taped size_ at_ begin_ token value open_ bad badPlace faultKind : Nat} {faultPlace : Int32} {xs ys : Nat → Nat} {pairs : Nat} {rows : Nat → Int64} {top : Nat} {heaps : Nat → Nat} {endsBehind : Nat → Int32} {path order firstOrder : Nat → Nat} {ordersMany : Nat} {tSort : Nat → Int32} {tMany : Nat → Nat} {numbers : Nat → Int64}
set_option maxHeartbeats 4000000 in
/-- no fact behind a fault -/
theorem ct_readFact_bad  (hbd : 0 < bad ∧ bad < 10) : CT l D cl tys yX10_readFact cX10_readFact 2 (some .int) ({ frames := 6, cells := 0, slots := 0, locals := 130 } : Room) [.ref (ma 0)] (HM D cl tys mi cI cJ cZ ma known fresh_ saved images isImage thrown tape taped size_ at_ begin_ token value open_ bad badPlace faultKind faultPlace xs ys pairs rows top heaps endsBehind path order firstOrder ordersMany tSort tMany numbers) (Qi (fun (v : Int32) (u : Unit) => v = nI 0) (fun (u : Unit) => HM D cl tys mi cI cJ cZ ma known fresh_ saved images isImage thrown tape taped size_ at_ begin_ token value open_ bad badPlace faultKind faultPlace xs ys pairs rows top heaps endsBehind path order firstOrder ordersMany tSort tMany numbers) (AM ma)) (AM ma) := by
  refine CT.of (L := [(0, .ref (ma 0))]) rfl (by decide +kernel) rfl (Nat.le_of_ble_eq_true rfl) ?_
  refine g_aload_n 0 dX10_readFact_0 rfl rfl ?_
  refine g_ldcS st_X10_153 dX10_readFact_1 ?_
  refine m_cVi (ct_isWord_bad hbd st_X10_153) hvX10_isWord hyX10_isWord rfl ⟨Nat.le_of_ble_eq_true rfl, Nat.le_of_ble_eq_true rfl⟩ ⟨Nat.zero_le _, Nat.zero_le _⟩ rfl (Nat.le_of_ble_eq_true rfl) dX10_readFact_3 m_rec (fun r u9 hp => ?_)
  obtain rfl := hp
  refine GG.topi (y := nI 0) rfl ?_
  refine g_if_eq_n (tgt := 36) dX10_readFact_6 (by decide) (by decide) (fun _ => ?_) (fun h => absurd h (by decide))
  refine g_aload_n 0 dX10_readFact_36 rfl rfl ?_
  refine g_bipush (v := nI 40) dX10_readFact_37 (by decide +kernel) ?_
  refine m_cVi (ct_isSign_bad _ hbd) hvX10_isSign hyX10_isSign rfl ⟨Nat.le_of_ble_eq_true rfl, Nat.le_of_ble_eq_true rfl⟩ ⟨Nat.zero_le _, Nat.zero_le _⟩ rfl (Nat.le_of_ble_eq_true rfl) dX10_readFact_39 m_rec (fun r u9 hp => ?_)
  obtain rfl := hp
  refine GG.topi (y := nI 0) rfl ?_
  refine g_if_eq_n (tgt := 50) dX10_readFact_42 (by decide) (by decide) (fun _ => ?_) (fun h => absurd h (by decide))
  refine g_aload_n 0 dX10_readFact_50 rfl rfl ?_
  refine g_ldcS st_X10_165 dX10_readFact_51 ?_
  refine m_cVi (ct_took_bad hbd st_X10_165) hvX10_took hyX10_took rfl ⟨Nat.le_of_ble_eq_true rfl, Nat.le_of_ble_eq_true rfl⟩ ⟨Nat.zero_le _, Nat.zero_le _⟩ rfl (Nat.le_of_ble_eq_true rfl) dX10_readFact_53 m_rec (fun r u9 hp => ?_)
  obtain rfl := hp
  refine GG.topi (y := nI 0) rfl ?_
  refine g_if_eq_n (tgt := 70) dX10_readFact_56 (by decide) (by decide) (fun _ => ?_) (fun h => absurd h (by decide))
  refine g_aload_n 0 dX10_readFact_70 rfl rfl ?_
  refine g_ldcS st_X10_173 dX10_readFact_71 ?_
  refine m_cVi (ct_took_bad hbd st_X10_173) hvX10_took hyX10_took rfl ⟨Nat.le_of_ble_eq_true rfl, Nat.le_of_ble_eq_true rfl⟩ ⟨Nat.zero_le _, Nat.zero_le _⟩ rfl (Nat.le_of_ble_eq_true rfl) dX10_readFact_73 m_rec (fun r u9 hp => ?_)
  obtain rfl := hp
  refine GG.topi (y := nI 0) rfl ?_
  refine g_if_eq_n (tgt := 95) dX10_readFact_76 (by decide) (by decide) (fun _ => ?_) (fun h => absurd h (by decide))
  refine g_aload_n 0 dX10_readFact_95 rfl rfl ?_
  refine g_ldcS st_X10_175 dX10_readFact_96 ?_
  refine m_cVi (ct_took_bad hbd st_X10_175) hvX10_took hyX10_took rfl ⟨Nat.le_of_ble_eq_true rfl, Nat.le_of_ble_eq_true rfl⟩ ⟨Nat.zero_le _, Nat.zero_le _⟩ rfl (Nat.le_of_ble_eq_true rfl) dX10_readFact_98 m_rec (fun r u9 hp => ?_)
  obtain rfl := hp
  refine GG.topi (y := nI 0) rfl ?_
  refine g_if_eq_n (tgt := 123) dX10_readFact_101 (by decide) (by decide) (fun _ => ?_) (fun h => absurd h (by decide))
  refine g_aload_n 0 dX10_readFact_123 rfl rfl ?_
  refine g_ldcS st_X10_177 dX10_readFact_124 ?_
  refine m_cVi (ct_took_bad hbd st_X10_177) hvX10_took hyX10_took rfl ⟨Nat.le_of_ble_eq_true rfl, Nat.le_of_ble_eq_true rfl⟩ ⟨Nat.zero_le _, Nat.zero_le _⟩ rfl (Nat.le_of_ble_eq_true rfl) dX10_readFact_126 m_rec (fun r u9 hp => ?_)
  obtain rfl := hp
  refine GG.topi (y := nI 0) rfl ?_
  refine g_if_eq_n (tgt := 141) dX10_readFact_129 (by decide) (by decide) (fun _ => ?_) (fun h => absurd h (by decide))
  refine g_aload_n 0 dX10_readFact_141 rfl rfl ?_
  refine g_ldcS st_X10_179 dX10_readFact_142 ?_
  refine m_cVi (ct_took_bad hbd st_X10_179) hvX10_took hyX10_took rfl ⟨Nat.le_of_ble_eq_true rfl, Nat.le_of_ble_eq_true rfl⟩ ⟨Nat.zero_le _, Nat.zero_le _⟩ rfl (Nat.le_of_ble_eq_true rfl) dX10_readFact_144 m_rec (fun r u9 hp => ?_)
  obtain rfl := hp
  refine GG.topi (y := nI 0) rfl ?_
  refine g_if_eq_n (tgt := 159) dX10_readFact_147 (by decide) (by decide) (fun _ => ?_) (fun h => absurd h (by decide))
  refine g_aload_n 0 dX10_readFact_159 rfl rfl ?_
  refine g_ldcS st_X10_181 dX10_readFact_160 ?_
  refine m_cVi (ct_took_bad hbd st_X10_181) hvX10_took hyX10_took rfl ⟨Nat.le_of_ble_eq_true rfl, Nat.le_of_ble_eq_true rfl⟩ ⟨Nat.zero_le _, Nat.zero_le _⟩ rfl (Nat.le_of_ble_eq_true rfl) dX10_readFact_162 m_rec (fun r u9 hp => ?_)
  obtain rfl := hp
  refine GG.topi (y := nI 0) rfl ?_
  refine g_if_eq_n (tgt := 183) dX10_readFact_165 (by decide) (by decide) (fun _ => ?_) (fun h => absurd h (by decide))
  refine g_aload_n 0 dX10_readFact_183 rfl rfl ?_
  refine g_iconst (v := nI 2) dX10_readFact_184 (by decide +kernel) ?_
  refine m_cVv (ct_blames_bad _ hbd) hvX10_blames hyX10_blames rfl ⟨Nat.le_of_ble_eq_true rfl, Nat.le_of_ble_eq_true rfl⟩ ⟨Nat.zero_le _, Nat.zero_le _⟩ rfl (Nat.le_of_ble_eq_true rfl) dX10_readFact_185 m_rec (fun u9 h9 => ?_)
  refine g_iconst (v := nI 0) dX10_readFact_188 (by decide +kernel) ?_
  exact g_iret () dX10_readFact_189 (Nat.le_refl _) (Nat.le_refl _) (rfl) (fun _ h => h)
set_option maxHeartbeats 4000000 in
/-- no part behind a fault -/
theorem ct_readJoined0_bad  (hbd : 0 < bad ∧ bad < 10) : CT l D cl tys yX10_readJoined cX10_readJoined 6 (some .int) ({ frames := 7, cells := 0, slots := 0, locals := 151 } : Room) [.ref (ma 0), .int (nI 0)] (HM D cl tys mi cI cJ cZ ma known fresh_ saved images isImage thrown tape taped size_ at_ begin_ token value open_ bad badPlace faultKind faultPlace xs ys pairs rows top heaps endsBehind path order firstOrder ordersMany tSort tMany numbers) (Qi (fun (v : Int32) (u : Unit) => v = nI 0) (fun (u : Unit) => HM D cl tys mi cI cJ cZ ma known fresh_ saved images isImage thrown tape taped size_ at_ begin_ token value open_ bad badPlace faultKind faultPlace xs ys pairs rows top heaps endsBehind path order firstOrder ordersMany tSort tMany numbers) (AM ma)) (AM ma) := by
  refine CT.of (L := [(0, .ref (ma 0)), (1, .int (nI 0))]) rfl (by decide +kernel) rfl (Nat.le_of_ble_eq_true rfl) ?_
  refine g_iload_n 1 dX10_readJoined_0 rfl rfl ?_
  refine g_if_eq_n (tgt := 12) dX10_readJoined_1 (by decide) (by decide) (fun _ => ?_) (fun h => absurd h (by decide))
  refine g_aload_n 0 dX10_readJoined_12 rfl rfl ?_
  refine m_cVi (ct_readFact_bad hbd) hvX10_readFact hyX10_readFact rfl ⟨Nat.le_of_ble_eq_true rfl, Nat.le_of_ble_eq_true rfl⟩ ⟨Nat.zero_le _, Nat.zero_le _⟩ rfl (Nat.le_of_ble_eq_true rfl) dX10_readJoined_13 m_rec (fun r u9 hp => ?_)
  obtain rfl := hp
  refine GG.topi (y := nI 0) rfl ?_
  refine g_istore_n (L' := [(0, _), (1, _), (2, _)]) 2 dX10_readJoined_16 rfl (by decide) rfl rfl ?_
  refine g_iload_n 2 dX10_readJoined_17 rfl rfl ?_
  refine g_istore_n (L' := [(0, _), (1, _), (2, _), (3, _)]) 3 dX10_readJoined_18 rfl (by decide) rfl rfl ?_
  refine g_iconst (v := nI 0) dX10_readJoined_19 (by decide +kernel) ?_
  refine g_istore (L' := [(0, _), (1, _), (2, _), (3, _), (4, _)]) dX10_readJoined_20 (by decide) rfl rfl ?_
  refine g_aload_n 0 dX10_readJoined_22 rfl rfl ?_
  refine g_iload_n 1 dX10_readJoined_23 rfl rfl ?_
  refine g_if_eq_n (tgt := 32) dX10_readJoined_24 (by decide) (by decide) (fun _ => ?_) (fun h => absurd h (by decide))
  refine g_ldcS st_X10_189 dX10_readJoined_32 ?_
  refine m_cVi (ct_took_bad hbd st_X10_189) hvX10_took hyX10_took rfl ⟨Nat.le_of_ble_eq_true rfl, Nat.le_of_ble_eq_true rfl⟩ ⟨Nat.zero_le _, Nat.zero_le _⟩ rfl (Nat.le_of_ble_eq_true rfl) dX10_readJoined_34 m_rec (fun r u9 hp => ?_)
  obtain rfl := hp
  refine GG.topi (y := nI 0) rfl ?_
  refine g_if_eq_n (tgt := 97) dX10_readJoined_37 (by decide) (by decide) (fun _ => ?_) (fun h => absurd h (by decide))
  refine g_iload dX10_readJoined_97 rfl ?_
  refine g_if_eq_n (tgt := 120) dX10_readJoined_99 (by decide) (by decide) (fun _ => ?_) (fun h => absurd h (by decide))
  refine g_iload_n 2 dX10_readJoined_120 rfl rfl ?_
  exact g_iret () dX10_readJoined_121 (Nat.le_refl _) (Nat.le_refl _) (rfl) (fun _ h => h)
set_option maxHeartbeats 4000000 in
/-- no saying behind a fault -/
theorem ct_readJoined1_bad  (hbd : 0 < bad ∧ bad < 10) : CT l D cl tys yX10_readJoined cX10_readJoined 6 (some .int) ({ frames := 8, cells := 0, slots := 0, locals := 176 } : Room) [.ref (ma 0), .int (nI 1)] (HM D cl tys mi cI cJ cZ ma known fresh_ saved images isImage thrown tape taped size_ at_ begin_ token value open_ bad badPlace faultKind faultPlace xs ys pairs rows top heaps endsBehind path order firstOrder ordersMany tSort tMany numbers) (Qi (fun (v : Int32) (u : Unit) => v = nI 0) (fun (u : Unit) => HM D cl tys mi cI cJ cZ ma known fresh_ saved images isImage thrown tape taped size_ at_ begin_ token value open_ bad badPlace faultKind faultPlace xs ys pairs rows top heaps endsBehind path order firstOrder ordersMany tSort tMany numbers) (AM ma)) (AM ma) := by
  refine CT.of (L := [(0, .ref (ma 0)), (1, .int (nI 1))]) rfl (by decide +kernel) rfl (Nat.le_of_ble_eq_true rfl) ?_
  refine g_iload_n 1 dX10_readJoined_0 rfl rfl ?_
  refine g_if_eq_n (tgt := 12) dX10_readJoined_1 (by decide) (by decide) (fun h => absurd h (by decide)) (fun _ => ?_)
  refine g_aload_n 0 dX10_readJoined_4 rfl rfl ?_
  refine g_iconst (v := nI 0) dX10_readJoined_5 (by decide +kernel) ?_
  refine m_cVi (ct_readJoined0_bad hbd) hvX10_readJoined hyX10_readJoined rfl ⟨Nat.le_of_ble_eq_true rfl, Nat.le_of_ble_eq_true rfl⟩ ⟨Nat.zero_le _, Nat.zero_le _⟩ rfl (Nat.le_of_ble_eq_true rfl) dX10_readJoined_6 m_rec (fun r u9 hp => ?_)
  obtain rfl := hp
  refine GG.topi (y := nI 0) rfl ?_
  refine g_goto (tgt := 16) dX10_readJoined_9 (by decide) ?_
  refine g_istore_n (L' := [(0, _), (1, _), (2, _)]) 2 dX10_readJoined_16 rfl (by decide) rfl rfl ?_
  refine g_iload_n 2 dX10_readJoined_17 rfl rfl ?_
  refine g_istore_n (L' := [(0, _), (1, _), (2, _), (3, _)]) 3 dX10_readJoined_18 rfl (by decide) rfl rfl ?_
  refine g_iconst (v := nI 0) dX10_readJoined_19 (by decide +kernel) ?_
  refine g_istore (L' := [(0, _), (1, _), (2, _), (3, _), (4, _)]) dX10_readJoined_20 (by decide) rfl rfl ?_
  refine g_aload_n 0 dX10_readJoined_22 rfl rfl ?_
  refine g_iload_n 1 dX10_readJoined_23 rfl rfl ?_
  refine g_if_eq_n (tgt := 32) dX10_readJoined_24 (by decide) (by decide) (fun h => absurd h (by decide)) (fun _ => ?_)
  refine g_ldcS st_X10_187 dX10_readJoined_27 ?_
  refine g_goto (tgt := 34) dX10_readJoined_29 (by decide) ?_
  refine m_cVi (ct_took_bad hbd st_X10_187) hvX10_took hyX10_took rfl ⟨Nat.le_of_ble_eq_true rfl, Nat.le_of_ble_eq_true rfl⟩ ⟨Nat.zero_le _, Nat.zero_le _⟩ rfl (Nat.le_of_ble_eq_true rfl) dX10_readJoined_34 m_rec (fun r u9 hp => ?_)
  obtain rfl := hp
  refine GG.topi (y := nI 0) rfl ?_
  refine g_if_eq_n (tgt := 97) dX10_readJoined_37 (by decide) (by decide) (fun _ => ?_) (fun h => absurd h (by decide))
  refine g_iload dX10_readJoined_97 rfl ?_
  refine g_if_eq_n (tgt := 120) dX10_readJoined_99 (by decide) (by decide) (fun _ => ?_) (fun h => absurd h (by decide))
  refine g_iload_n 2 dX10_readJoined_120 rfl rfl ?_
  exact g_iret () dX10_readJoined_121 (Nat.le_refl _) (Nat.le_refl _) (rfl) (fun _ h => h)
set_option maxHeartbeats 4000000 in
/-- no saying behind a fault -/
theorem ct_readSaying_bad  (hbd : 0 < bad ∧ bad < 10) : CT l D cl tys yX10_readSaying cX10_readSaying 1 (some .int) ({ frames := 9, cells := 0, slots := 0, locals := 201 } : Room) [.ref (ma 0)] (HM D cl tys mi cI cJ cZ ma known fresh_ saved images isImage thrown tape taped size_ at_ begin_ token value open_ bad badPlace faultKind faultPlace xs ys pairs rows top heaps endsBehind path order firstOrder ordersMany tSort tMany numbers) (Qi (fun (v : Int32) (u : Unit) => v = nI 0) (fun (u : Unit) => HM D cl tys mi cI cJ cZ ma known fresh_ saved images isImage thrown tape taped size_ at_ begin_ token value open_ bad badPlace faultKind faultPlace xs ys pairs rows top heaps endsBehind path order firstOrder ordersMany tSort tMany numbers) (AM ma)) (AM ma) := by
  refine CT.of (L := [(0, .ref (ma 0))]) rfl (by decide +kernel) rfl (Nat.le_of_ble_eq_true rfl) ?_
  refine g_aload_n 0 dX10_readSaying_0 rfl rfl ?_
  refine g_iconst (v := nI 1) dX10_readSaying_1 (by decide +kernel) ?_
  refine m_cVi (ct_readJoined1_bad hbd) hvX10_readJoined hyX10_readJoined rfl ⟨Nat.le_of_ble_eq_true rfl, Nat.le_of_ble_eq_true rfl⟩ ⟨Nat.zero_le _, Nat.zero_le _⟩ rfl (Nat.le_of_ble_eq_true rfl) dX10_readSaying_2 m_rec (fun r u9 hp => ?_)
  obtain rfl := hp
  refine GG.topi (y := nI 0) rfl ?_
  exact g_iret () dX10_readSaying_5 (Nat.le_refl _) (Nat.le_refl _) (rfl) (fun _ h => h)
set_option maxHeartbeats 4000000 in
/-- none within behind a fault -/
theorem ct_readWithin_bad  (hbd : 0 < bad ∧ bad < 10) (ho : open_ < 20) : CT l D cl tys yX10_readWithin cX10_readWithin 2 (some .int) ({ frames := 10, cells := 0, slots := 0, locals := 221 } : Room) [.ref (ma 0)] (HM D cl tys mi cI cJ cZ ma known fresh_ saved images isImage thrown tape taped size_ at_ begin_ token value open_ bad badPlace faultKind faultPlace xs ys pairs rows top heaps endsBehind path order firstOrder ordersMany tSort tMany numbers) (Qi (fun (v : Int32) (u : Unit) => v = nI 0) (fun (u : Unit) => HM D cl tys mi cI cJ cZ ma known fresh_ saved images isImage thrown tape taped size_ at_ begin_ token value open_ bad badPlace faultKind faultPlace xs ys pairs rows top heaps endsBehind path order firstOrder ordersMany tSort tMany numbers) (AM ma)) (AM ma) := by
  refine CT.of (L := [(0, .ref (ma 0))]) rfl (by decide +kernel) rfl (Nat.le_of_ble_eq_true rfl) ?_
  refine g_aload_n 0 dX10_readWithin_0 rfl rfl ?_
  refine g_bipush (v := nI 40) dX10_readWithin_1 (by decide +kernel) ?_
  refine m_cVi (ct_isSign_bad _ hbd) hvX10_isSign hyX10_isSign rfl ⟨Nat.le_of_ble_eq_true rfl, Nat.le_of_ble_eq_true rfl⟩ ⟨Nat.zero_le _, Nat.zero_le _⟩ rfl (Nat.le_of_ble_eq_true rfl) dX10_readWithin_3 m_rec (fun r u9 hp => ?_)
  obtain rfl := hp
  refine GG.topi (y := nI 0) rfl ?_
  refine g_if_ne_n (tgt := 14) dX10_readWithin_6 (by decide) (by decide) (fun h => absurd h (by decide)) (fun _ => ?_)
  refine g_aload_n 0 dX10_readWithin_9 rfl rfl ?_
  refine g_iconst (v := nI 2) dX10_readWithin_10 (by decide +kernel) ?_
  refine m_cVv (ct_blames_bad _ hbd) hvX10_blames hyX10_blames rfl ⟨Nat.le_of_ble_eq_true rfl, Nat.le_of_ble_eq_true rfl⟩ ⟨Nat.zero_le _, Nat.zero_le _⟩ rfl (Nat.le_of_ble_eq_true rfl) dX10_readWithin_11 m_rec (fun u9 h9 => ?_)
  refine g_aload_n 0 dX10_readWithin_14 rfl rfl ?_
  refine m_cVv (ct_opens_bad hbd ho) hvX10_opens hyX10_opens rfl ⟨Nat.le_of_ble_eq_true rfl, Nat.le_of_ble_eq_true rfl⟩ ⟨Nat.zero_le _, Nat.zero_le _⟩ rfl (Nat.le_of_ble_eq_true rfl) dX10_readWithin_15 m_rec (fun u9 h9 => ?_)
  refine g_aload_n 0 dX10_readWithin_18 rfl rfl ?_
  refine m_cVi (ct_readSaying_bad hbd) hvX10_readSaying hyX10_readSaying rfl ⟨Nat.le_of_ble_eq_true rfl, Nat.le_of_ble_eq_true rfl⟩ ⟨Nat.zero_le _, Nat.zero_le _⟩ rfl (Nat.le_of_ble_eq_true rfl) dX10_readWithin_19 m_rec (fun r u9 hp => ?_)
  obtain rfl := hp
  refine GG.topi (y := nI 0) rfl ?_
  refine g_istore_n (L' := [(0, _), (1, _)]) 1 dX10_readWithin_22 rfl (by decide) rfl rfl ?_
  refine g_aload_n 0 dX10_readWithin_23 rfl rfl ?_
  refine g_bipush (v := nI 41) dX10_readWithin_24 (by decide +kernel) ?_
  refine m_cVv (ct_sign_bad _ hbd) hvX10_sign hyX10_sign rfl ⟨Nat.le_of_ble_eq_true rfl, Nat.le_of_ble_eq_true rfl⟩ ⟨Nat.zero_le _, Nat.zero_le _⟩ rfl (Nat.le_of_ble_eq_true rfl) dX10_readWithin_26 m_rec (fun u9 h9 => ?_)
  refine g_aload_n 0 dX10_readWithin_29 rfl rfl ?_
  refine g_dup dX10_readWithin_30 rfl ?_
  refine m_get_open dX10_readWithin_31 ?_
  refine g_iconst (v := nI 1) dX10_readWithin_34 (by decide +kernel) ?_
  refine g_isub_n dX10_readWithin_35 (by omega) ?_
  refine GG.topi (y := nI open_) (congrArg nI (by omega)) ?_
  refine m_put_open dX10_readWithin_36 ?_
  refine g_iload_n 1 dX10_readWithin_39 rfl rfl ?_
  exact g_iret () dX10_readWithin_40 (Nat.le_refl _) (Nat.le_refl _) (rfl) (fun _ h => h)
end
