-- ===== PART A: goes FIRST, ahead of the names: the tables' words, and 'selects' of the private methods out of them =====
/-- a private method of a class that the tables say can be made, by its rows of tables_1 -/
def lw_okq (q : MethodName × Nat) : Prop := (q.1.cls ≠ "java/lang/invoke/MethodHandle" ∧ q.1.cls ≠ "java/lang/invoke/VarHandle") ∧ Cond.instantiable q.1.cls q.2 ∈ tables_1 ∧ Cond.privateMethod q.1 ∈ tables_1 ∧ Cond.instanceMethod q.1 ∈ tables_1
set_option maxRecDepth 100000
theorem lw_t1 {w : Cond} (h : w ∈ tables_1_1) : w ∈ tables_1 := List.mem_append_left _ h
theorem lw_t2 {w : Cond} (h : w ∈ tables_1_2) : w ∈ tables_1 := List.mem_append_right _ (List.mem_append_left _ h)
theorem lw_t3 {w : Cond} (h : w ∈ tables_1_3) : w ∈ tables_1 := List.mem_append_right _ (List.mem_append_right _ (List.mem_append_left _ h))
theorem lw_t4 {w : Cond} (h : w ∈ tables_1_4) : w ∈ tables_1 := List.mem_append_right _ (List.mem_append_right _ (List.mem_append_right _ (List.mem_append_left _ h)))
theorem lw_t5 {w : Cond} (h : w ∈ tables_1_5) : w ∈ tables_1 := List.mem_append_right _ (List.mem_append_right _ (List.mem_append_right _ (List.mem_append_right _ (List.mem_append_left _ h))))
theorem lw_t6 {w : Cond} (h : w ∈ tables_1_6) : w ∈ tables_1 := List.mem_append_right _ (List.mem_append_right _ (List.mem_append_right _ (List.mem_append_right _ (List.mem_append_right _ (List.mem_append_left _ h)))))
theorem lw_t7 {w : Cond} (h : w ∈ tables_1_7) : w ∈ tables_1 := List.mem_append_right _ (List.mem_append_right _ (List.mem_append_right _ (List.mem_append_right _ (List.mem_append_right _ (List.mem_append_right _ (List.mem_append_left _ h))))))
theorem lw_t8 {w : Cond} (h : w ∈ tables_1_8) : w ∈ tables_1 := List.mem_append_right _ (List.mem_append_right _ (List.mem_append_right _ (List.mem_append_right _ (List.mem_append_right _ (List.mem_append_right _ (List.mem_append_right _ (List.mem_append_left _ h)))))))
theorem lw_t9 {w : Cond} (h : w ∈ tables_1_9) : w ∈ tables_1 := List.mem_append_right _ (List.mem_append_right _ (List.mem_append_right _ (List.mem_append_right _ (List.mem_append_right _ (List.mem_append_right _ (List.mem_append_right _ (List.mem_append_right _ (List.mem_append_left _ h))))))))
theorem lw_t10 {w : Cond} (h : w ∈ tables_1_10) : w ∈ tables_1 := List.mem_append_right _ (List.mem_append_right _ (List.mem_append_right _ (List.mem_append_right _ (List.mem_append_right _ (List.mem_append_right _ (List.mem_append_right _ (List.mem_append_right _ (List.mem_append_right _ h))))))))
theorem lw_p0 : lw_okq (⟨"TwoSlips", "four", "(I)V"⟩, 16) := ⟨⟨by decide +kernel, by decide +kernel⟩, lw_t1 (List.mem_of_getElem? (i := 58) rfl), lw_t2 (List.mem_of_getElem? (i := 154) rfl), lw_t2 (List.mem_of_getElem? (i := 155) rfl)⟩
theorem lw_p1 : lw_okq (⟨"TwoSlips", "laid", "()LTwoSlips$Course;"⟩, 16) := ⟨⟨by decide +kernel, by decide +kernel⟩, lw_t1 (List.mem_of_getElem? (i := 58) rfl), lw_t2 (List.mem_of_getElem? (i := 166) rfl), lw_t2 (List.mem_of_getElem? (i := 167) rfl)⟩
theorem lw_p2 : lw_okq (⟨"TwoSlips$Course", "alone", "(I[J[J)V"⟩, 11) := ⟨⟨by decide +kernel, by decide +kernel⟩, lw_t1 (List.mem_of_getElem? (i := 139) rfl), lw_t3 (List.mem_of_getElem? (i := 51) rfl), lw_t3 (List.mem_of_getElem? (i := 52) rfl)⟩
theorem lw_p3 : lw_okq (⟨"TwoSlips$Course", "heaps", "(I[J)V"⟩, 11) := ⟨⟨by decide +kernel, by decide +kernel⟩, lw_t1 (List.mem_of_getElem? (i := 139) rfl), lw_t3 (List.mem_of_getElem? (i := 55) rfl), lw_t3 (List.mem_of_getElem? (i := 56) rfl)⟩
theorem lw_p4 : lw_okq (⟨"TwoSlips$Course", "isLiar", "(I)Z"⟩, 11) := ⟨⟨by decide +kernel, by decide +kernel⟩, lw_t1 (List.mem_of_getElem? (i := 139) rfl), lw_t3 (List.mem_of_getElem? (i := 92) rfl), lw_t3 (List.mem_of_getElem? (i := 93) rfl)⟩
theorem lw_p5 : lw_okq (⟨"TwoSlips", "lying", "(I)LTwoSlips$Course;"⟩, 16) := ⟨⟨by decide +kernel, by decide +kernel⟩, lw_t1 (List.mem_of_getElem? (i := 58) rfl), lw_t3 (List.mem_of_getElem? (i := 131) rfl), lw_t3 (List.mem_of_getElem? (i := 132) rfl)⟩
theorem lw_p6 : lw_okq (⟨"TwoSlips", "fresh", "()LTwoSlips$Course;"⟩, 16) := ⟨⟨by decide +kernel, by decide +kernel⟩, lw_t1 (List.mem_of_getElem? (i := 58) rfl), lw_t3 (List.mem_of_getElem? (i := 135) rfl), lw_t3 (List.mem_of_getElem? (i := 136) rfl)⟩
theorem lw_p7 : lw_okq (⟨"java/lang/NullPointerException", "getExtendedNPEMessage", "()Ljava/lang/String;"⟩, 8) := ⟨⟨by decide +kernel, by decide +kernel⟩, lw_t3 (List.mem_of_getElem? (i := 202) rfl), lw_t3 (List.mem_of_getElem? (i := 200) rfl), lw_t3 (List.mem_of_getElem? (i := 201) rfl)⟩
theorem lw_p8 : lw_okq (⟨"java/lang/Throwable", "fillInStackTrace", "(I)Ljava/lang/Throwable;"⟩, 6) := ⟨⟨by decide +kernel, by decide +kernel⟩, lw_t3 (List.mem_of_getElem? (i := 214) rfl), lw_t3 (List.mem_of_getElem? (i := 212) rfl), lw_t3 (List.mem_of_getElem? (i := 213) rfl)⟩
theorem lw_p9 : lw_okq (⟨"TwoSlips$Reader", "next", "()V"⟩, 8) := ⟨⟨by decide +kernel, by decide +kernel⟩, lw_t4 (List.mem_of_getElem? (i := 1) rfl), lw_t4 (List.mem_of_getElem? (i := 9) rfl), lw_t4 (List.mem_of_getElem? (i := 10) rfl)⟩
theorem lw_p10 : lw_okq (⟨"TwoSlips$Reader", "isSmall", "(I)Z"⟩, 8) := ⟨⟨by decide +kernel, by decide +kernel⟩, lw_t4 (List.mem_of_getElem? (i := 1) rfl), lw_t4 (List.mem_of_getElem? (i := 13) rfl), lw_t4 (List.mem_of_getElem? (i := 14) rfl)⟩
theorem lw_p11 : lw_okq (⟨"TwoSlips$Reader", "isDigit", "(I)Z"⟩, 8) := ⟨⟨by decide +kernel, by decide +kernel⟩, lw_t4 (List.mem_of_getElem? (i := 1) rfl), lw_t4 (List.mem_of_getElem? (i := 17) rfl), lw_t4 (List.mem_of_getElem? (i := 18) rfl)⟩
theorem lw_p12 : lw_okq (⟨"TwoSlips$Reader", "line", "()V"⟩, 8) := ⟨⟨by decide +kernel, by decide +kernel⟩, lw_t4 (List.mem_of_getElem? (i := 1) rfl), lw_t4 (List.mem_of_getElem? (i := 53) rfl), lw_t4 (List.mem_of_getElem? (i := 54) rfl)⟩
theorem lw_p13 : lw_okq (⟨"TwoSlips$Reader", "is", "(Ljava/lang/String;)Z"⟩, 8) := ⟨⟨by decide +kernel, by decide +kernel⟩, lw_t4 (List.mem_of_getElem? (i := 1) rfl), lw_t4 (List.mem_of_getElem? (i := 58) rfl), lw_t4 (List.mem_of_getElem? (i := 59) rfl)⟩
theorem lw_p14 : lw_okq (⟨"TwoSlips$Reader", "isAt", "(Ljava/lang/String;I)Z"⟩, 8) := ⟨⟨by decide +kernel, by decide +kernel⟩, lw_t4 (List.mem_of_getElem? (i := 1) rfl), lw_t4 (List.mem_of_getElem? (i := 72) rfl), lw_t4 (List.mem_of_getElem? (i := 73) rfl)⟩
theorem lw_p15 : lw_okq (⟨"TwoSlips$Reader", "numbers", "()V"⟩, 8) := ⟨⟨by decide +kernel, by decide +kernel⟩, lw_t4 (List.mem_of_getElem? (i := 1) rfl), lw_t4 (List.mem_of_getElem? (i := 112) rfl), lw_t4 (List.mem_of_getElem? (i := 113) rfl)⟩
def lw_privs_1 : List (MethodName × Nat) := [(⟨"TwoSlips", "four", "(I)V"⟩, 16), (⟨"TwoSlips", "laid", "()LTwoSlips$Course;"⟩, 16), (⟨"TwoSlips$Course", "alone", "(I[J[J)V"⟩, 11), (⟨"TwoSlips$Course", "heaps", "(I[J)V"⟩, 11), (⟨"TwoSlips$Course", "isLiar", "(I)Z"⟩, 11), (⟨"TwoSlips", "lying", "(I)LTwoSlips$Course;"⟩, 16), (⟨"TwoSlips", "fresh", "()LTwoSlips$Course;"⟩, 16), (⟨"java/lang/NullPointerException", "getExtendedNPEMessage", "()Ljava/lang/String;"⟩, 8), (⟨"java/lang/Throwable", "fillInStackTrace", "(I)Ljava/lang/Throwable;"⟩, 6), (⟨"TwoSlips$Reader", "next", "()V"⟩, 8), (⟨"TwoSlips$Reader", "isSmall", "(I)Z"⟩, 8), (⟨"TwoSlips$Reader", "isDigit", "(I)Z"⟩, 8), (⟨"TwoSlips$Reader", "line", "()V"⟩, 8), (⟨"TwoSlips$Reader", "is", "(Ljava/lang/String;)Z"⟩, 8), (⟨"TwoSlips$Reader", "isAt", "(Ljava/lang/String;I)Z"⟩, 8), (⟨"TwoSlips$Reader", "numbers", "()V"⟩, 8)]
theorem lw_r1 : ∀ q ∈ lw_privs_1, lw_okq q := List.forall_mem_cons.mpr ⟨lw_p0, List.forall_mem_cons.mpr ⟨lw_p1, List.forall_mem_cons.mpr ⟨lw_p2, List.forall_mem_cons.mpr ⟨lw_p3, List.forall_mem_cons.mpr ⟨lw_p4, List.forall_mem_cons.mpr ⟨lw_p5, List.forall_mem_cons.mpr ⟨lw_p6, List.forall_mem_cons.mpr ⟨lw_p7, List.forall_mem_cons.mpr ⟨lw_p8, List.forall_mem_cons.mpr ⟨lw_p9, List.forall_mem_cons.mpr ⟨lw_p10, List.forall_mem_cons.mpr ⟨lw_p11, List.forall_mem_cons.mpr ⟨lw_p12, List.forall_mem_cons.mpr ⟨lw_p13, List.forall_mem_cons.mpr ⟨lw_p14, List.forall_mem_cons.mpr ⟨lw_p15, fun _ h => absurd h List.not_mem_nil⟩⟩⟩⟩⟩⟩⟩⟩⟩⟩⟩⟩⟩⟩⟩⟩
theorem lw_p16 : lw_okq (⟨"TwoSlips$Reader", "number", "(II)I"⟩, 8) := ⟨⟨by decide +kernel, by decide +kernel⟩, lw_t4 (List.mem_of_getElem? (i := 1) rfl), lw_t4 (List.mem_of_getElem? (i := 116) rfl), lw_t4 (List.mem_of_getElem? (i := 117) rfl)⟩
theorem lw_p17 : lw_okq (⟨"TwoSlips$Reader", "wrong", "()LTwoSlips$Bad;"⟩, 8) := ⟨⟨by decide +kernel, by decide +kernel⟩, lw_t4 (List.mem_of_getElem? (i := 1) rfl), lw_t4 (List.mem_of_getElem? (i := 120) rfl), lw_t4 (List.mem_of_getElem? (i := 121) rfl)⟩
theorem lw_p18 : lw_okq (⟨"TwoSlips$Reader", "eats", "(Ljava/lang/String;)Z"⟩, 8) := ⟨⟨by decide +kernel, by decide +kernel⟩, lw_t4 (List.mem_of_getElem? (i := 1) rfl), lw_t4 (List.mem_of_getElem? (i := 154) rfl), lw_t4 (List.mem_of_getElem? (i := 155) rfl)⟩
theorem lw_p19 : lw_okq (⟨"TwoSlips$Reader", "teller", "()V"⟩, 8) := ⟨⟨by decide +kernel, by decide +kernel⟩, lw_t4 (List.mem_of_getElem? (i := 1) rfl), lw_t4 (List.mem_of_getElem? (i := 159) rfl), lw_t4 (List.mem_of_getElem? (i := 160) rfl)⟩
theorem lw_p20 : lw_okq (⟨"TwoSlips$Reader", "sightHere", "()I"⟩, 8) := ⟨⟨by decide +kernel, by decide +kernel⟩, lw_t4 (List.mem_of_getElem? (i := 1) rfl), lw_t4 (List.mem_of_getElem? (i := 164) rfl), lw_t4 (List.mem_of_getElem? (i := 165) rfl)⟩
theorem lw_p21 : lw_okq (⟨"java/util/ArrayList", "add", "(Ljava/lang/Object;[Ljava/lang/Object;I)V"⟩, 3) := ⟨⟨by decide +kernel, by decide +kernel⟩, lw_t1 (List.mem_of_getElem? (i := 72) rfl), lw_t5 (List.mem_of_getElem? (i := 66) rfl), lw_t5 (List.mem_of_getElem? (i := 67) rfl)⟩
theorem lw_p22 : lw_okq (⟨"java/util/ArrayList", "grow", "()[Ljava/lang/Object;"⟩, 3) := ⟨⟨by decide +kernel, by decide +kernel⟩, lw_t1 (List.mem_of_getElem? (i := 72) rfl), lw_t5 (List.mem_of_getElem? (i := 70) rfl), lw_t5 (List.mem_of_getElem? (i := 71) rfl)⟩
theorem lw_p23 : lw_okq (⟨"java/util/ArrayList", "grow", "(I)[Ljava/lang/Object;"⟩, 3) := ⟨⟨by decide +kernel, by decide +kernel⟩, lw_t1 (List.mem_of_getElem? (i := 72) rfl), lw_t5 (List.mem_of_getElem? (i := 74) rfl), lw_t5 (List.mem_of_getElem? (i := 75) rfl)⟩
theorem lw_p24 : lw_okq (⟨"TwoSlips$Reader", "say", "()V"⟩, 8) := ⟨⟨by decide +kernel, by decide +kernel⟩, lw_t4 (List.mem_of_getElem? (i := 1) rfl), lw_t5 (List.mem_of_getElem? (i := 140) rfl), lw_t5 (List.mem_of_getElem? (i := 141) rfl)⟩
theorem lw_p25 : lw_okq (⟨"TwoSlips$Reader", "speaker", "()I"⟩, 8) := ⟨⟨by decide +kernel, by decide +kernel⟩, lw_t4 (List.mem_of_getElem? (i := 1) rfl), lw_t5 (List.mem_of_getElem? (i := 144) rfl), lw_t5 (List.mem_of_getElem? (i := 145) rfl)⟩
theorem lw_p26 : lw_okq (⟨"TwoSlips$Reader", "saying", "()LTwoSlips$Saying;"⟩, 8) := ⟨⟨by decide +kernel, by decide +kernel⟩, lw_t4 (List.mem_of_getElem? (i := 1) rfl), lw_t5 (List.mem_of_getElem? (i := 150) rfl), lw_t5 (List.mem_of_getElem? (i := 151) rfl)⟩
theorem lw_p27 : lw_okq (⟨"TwoSlips$Reader", "part", "()LTwoSlips$Saying;"⟩, 8) := ⟨⟨by decide +kernel, by decide +kernel⟩, lw_t4 (List.mem_of_getElem? (i := 1) rfl), lw_t5 (List.mem_of_getElem? (i := 154) rfl), lw_t5 (List.mem_of_getElem? (i := 155) rfl)⟩
theorem lw_p28 : lw_okq (⟨"TwoSlips$Reader", "fact", "()LTwoSlips$Saying;"⟩, 8) := ⟨⟨by decide +kernel, by decide +kernel⟩, lw_t4 (List.mem_of_getElem? (i := 1) rfl), lw_t5 (List.mem_of_getElem? (i := 158) rfl), lw_t5 (List.mem_of_getElem? (i := 159) rfl)⟩
theorem lw_p29 : lw_okq (⟨"TwoSlips$Reader", "within", "()LTwoSlips$Saying;"⟩, 8) := ⟨⟨by decide +kernel, by decide +kernel⟩, lw_t4 (List.mem_of_getElem? (i := 1) rfl), lw_t5 (List.mem_of_getElem? (i := 162) rfl), lw_t5 (List.mem_of_getElem? (i := 163) rfl)⟩
theorem lw_p30 : lw_okq (⟨"TwoSlips$Reader", "opens", "()V"⟩, 8) := ⟨⟨by decide +kernel, by decide +kernel⟩, lw_t4 (List.mem_of_getElem? (i := 1) rfl), lw_t5 (List.mem_of_getElem? (i := 166) rfl), lw_t5 (List.mem_of_getElem? (i := 167) rfl)⟩
theorem lw_p31 : lw_okq (⟨"TwoSlips$Reader", "must", "(I)V"⟩, 8) := ⟨⟨by decide +kernel, by decide +kernel⟩, lw_t4 (List.mem_of_getElem? (i := 1) rfl), lw_t5 (List.mem_of_getElem? (i := 170) rfl), lw_t5 (List.mem_of_getElem? (i := 171) rfl)⟩
def lw_privs_2 : List (MethodName × Nat) := [(⟨"TwoSlips$Reader", "number", "(II)I"⟩, 8), (⟨"TwoSlips$Reader", "wrong", "()LTwoSlips$Bad;"⟩, 8), (⟨"TwoSlips$Reader", "eats", "(Ljava/lang/String;)Z"⟩, 8), (⟨"TwoSlips$Reader", "teller", "()V"⟩, 8), (⟨"TwoSlips$Reader", "sightHere", "()I"⟩, 8), (⟨"java/util/ArrayList", "add", "(Ljava/lang/Object;[Ljava/lang/Object;I)V"⟩, 3), (⟨"java/util/ArrayList", "grow", "()[Ljava/lang/Object;"⟩, 3), (⟨"java/util/ArrayList", "grow", "(I)[Ljava/lang/Object;"⟩, 3), (⟨"TwoSlips$Reader", "say", "()V"⟩, 8), (⟨"TwoSlips$Reader", "speaker", "()I"⟩, 8), (⟨"TwoSlips$Reader", "saying", "()LTwoSlips$Saying;"⟩, 8), (⟨"TwoSlips$Reader", "part", "()LTwoSlips$Saying;"⟩, 8), (⟨"TwoSlips$Reader", "fact", "()LTwoSlips$Saying;"⟩, 8), (⟨"TwoSlips$Reader", "within", "()LTwoSlips$Saying;"⟩, 8), (⟨"TwoSlips$Reader", "opens", "()V"⟩, 8), (⟨"TwoSlips$Reader", "must", "(I)V"⟩, 8)]
theorem lw_r2 : ∀ q ∈ lw_privs_2, lw_okq q := List.forall_mem_cons.mpr ⟨lw_p16, List.forall_mem_cons.mpr ⟨lw_p17, List.forall_mem_cons.mpr ⟨lw_p18, List.forall_mem_cons.mpr ⟨lw_p19, List.forall_mem_cons.mpr ⟨lw_p20, List.forall_mem_cons.mpr ⟨lw_p21, List.forall_mem_cons.mpr ⟨lw_p22, List.forall_mem_cons.mpr ⟨lw_p23, List.forall_mem_cons.mpr ⟨lw_p24, List.forall_mem_cons.mpr ⟨lw_p25, List.forall_mem_cons.mpr ⟨lw_p26, List.forall_mem_cons.mpr ⟨lw_p27, List.forall_mem_cons.mpr ⟨lw_p28, List.forall_mem_cons.mpr ⟨lw_p29, List.forall_mem_cons.mpr ⟨lw_p30, List.forall_mem_cons.mpr ⟨lw_p31, fun _ h => absurd h List.not_mem_nil⟩⟩⟩⟩⟩⟩⟩⟩⟩⟩⟩⟩⟩⟩⟩⟩
theorem lw_p32 : lw_okq (⟨"TwoSlips", "begins", "(LTwoSlips$Talk;)V"⟩, 16) := ⟨⟨by decide +kernel, by decide +kernel⟩, lw_t1 (List.mem_of_getElem? (i := 58) rfl), lw_t6 (List.mem_of_getElem? (i := 54) rfl), lw_t6 (List.mem_of_getElem? (i := 55) rfl)⟩
theorem lw_p33 : lw_okq (⟨"TwoSlips", "mustWorld", "(I)V"⟩, 16) := ⟨⟨by decide +kernel, by decide +kernel⟩, lw_t1 (List.mem_of_getElem? (i := 58) rfl), lw_t6 (List.mem_of_getElem? (i := 66) rfl), lw_t6 (List.mem_of_getElem? (i := 67) rfl)⟩
theorem lw_p34 : lw_okq (⟨"TwoSlips", "mustSpeaker", "(I)V"⟩, 16) := ⟨⟨by decide +kernel, by decide +kernel⟩, lw_t1 (List.mem_of_getElem? (i := 58) rfl), lw_t6 (List.mem_of_getElem? (i := 95) rfl), lw_t6 (List.mem_of_getElem? (i := 96) rfl)⟩
theorem lw_p35 : lw_okq (⟨"TwoSlips", "turnsOf", "(I)I"⟩, 16) := ⟨⟨by decide +kernel, by decide +kernel⟩, lw_t1 (List.mem_of_getElem? (i := 58) rfl), lw_t6 (List.mem_of_getElem? (i := 107) rfl), lw_t6 (List.mem_of_getElem? (i := 108) rfl)⟩
theorem lw_p36 : lw_okq (⟨"TwoSlips", "turnOf", "(I)LTwoSlips$Turn;"⟩, 16) := ⟨⟨by decide +kernel, by decide +kernel⟩, lw_t1 (List.mem_of_getElem? (i := 58) rfl), lw_t6 (List.mem_of_getElem? (i := 120) rfl), lw_t6 (List.mem_of_getElem? (i := 121) rfl)⟩
theorem lw_p37 : lw_okq (⟨"TwoSlips", "mustTurns", "(I)V"⟩, 16) := ⟨⟨by decide +kernel, by decide +kernel⟩, lw_t1 (List.mem_of_getElem? (i := 58) rfl), lw_t6 (List.mem_of_getElem? (i := 131) rfl), lw_t6 (List.mem_of_getElem? (i := 132) rfl)⟩
theorem lw_p38 : lw_okq (⟨"TwoSlips", "reaching", "(II)LTwoSlips$Course;"⟩, 16) := ⟨⟨by decide +kernel, by decide +kernel⟩, lw_t1 (List.mem_of_getElem? (i := 58) rfl), lw_t6 (List.mem_of_getElem? (i := 218) rfl), lw_t6 (List.mem_of_getElem? (i := 219) rfl)⟩
theorem lw_p39 : lw_okq (⟨"TwoSlips", "mustTwo", "(II)V"⟩, 16) := ⟨⟨by decide +kernel, by decide +kernel⟩, lw_t1 (List.mem_of_getElem? (i := 58) rfl), lw_t6 (List.mem_of_getElem? (i := 236) rfl), lw_t6 (List.mem_of_getElem? (i := 237) rfl)⟩
theorem lw_p40 : lw_okq (⟨"TwoSlips$Soonest", "knowsAny", "(IIZ)Z"⟩, 10) := ⟨⟨by decide +kernel, by decide +kernel⟩, lw_t1 (List.mem_of_getElem? (i := 224) rfl), lw_t7 (List.mem_of_getElem? (i := 55) rfl), lw_t7 (List.mem_of_getElem? (i := 56) rfl)⟩
theorem lw_p41 : lw_okq (⟨"TwoSlips$Orders", "goes", "(II)V"⟩, 5) := ⟨⟨by decide +kernel, by decide +kernel⟩, lw_t2 (List.mem_of_getElem? (i := 62) rfl), lw_t7 (List.mem_of_getElem? (i := 125) rfl), lw_t7 (List.mem_of_getElem? (i := 126) rfl)⟩
theorem lw_p42 : lw_okq (⟨"TwoSlips", "trayOf", "(I)LTwoSlips$Tray;"⟩, 16) := ⟨⟨by decide +kernel, by decide +kernel⟩, lw_t1 (List.mem_of_getElem? (i := 58) rfl), lw_t7 (List.mem_of_getElem? (i := 151) rfl), lw_t7 (List.mem_of_getElem? (i := 152) rfl)⟩
theorem lw_p43 : lw_okq (⟨"TwoSlips", "answersOf", "(LTwoSlips$Tray;)I"⟩, 16) := ⟨⟨by decide +kernel, by decide +kernel⟩, lw_t1 (List.mem_of_getElem? (i := 58) rfl), lw_t7 (List.mem_of_getElem? (i := 174) rfl), lw_t7 (List.mem_of_getElem? (i := 175) rfl)⟩
theorem lw_p44 : lw_okq (⟨"TwoSlipsModel", "fails", "(I)I"⟩, 32) := ⟨⟨by decide +kernel, by decide +kernel⟩, lw_t8 (List.mem_of_getElem? (i := 77) rfl), lw_t8 (List.mem_of_getElem? (i := 199) rfl), lw_t8 (List.mem_of_getElem? (i := 200) rfl)⟩
theorem lw_p45 : lw_okq (⟨"TwoSlipsModel", "reads", "()V"⟩, 32) := ⟨⟨by decide +kernel, by decide +kernel⟩, lw_t8 (List.mem_of_getElem? (i := 77) rfl), lw_t8 (List.mem_of_getElem? (i := 203) rfl), lw_t8 (List.mem_of_getElem? (i := 204) rfl)⟩
theorem lw_p46 : lw_okq (⟨"TwoSlipsModel", "see", "(I)I"⟩, 32) := ⟨⟨by decide +kernel, by decide +kernel⟩, lw_t8 (List.mem_of_getElem? (i := 77) rfl), lw_t8 (List.mem_of_getElem? (i := 210) rfl), lw_t8 (List.mem_of_getElem? (i := 211) rfl)⟩
theorem lw_p47 : lw_okq (⟨"TwoSlipsModel", "readLine", "()V"⟩, 32) := ⟨⟨by decide +kernel, by decide +kernel⟩, lw_t8 (List.mem_of_getElem? (i := 77) rfl), lw_t8 (List.mem_of_getElem? (i := 217) rfl), lw_t8 (List.mem_of_getElem? (i := 218) rfl)⟩
def lw_privs_3 : List (MethodName × Nat) := [(⟨"TwoSlips", "begins", "(LTwoSlips$Talk;)V"⟩, 16), (⟨"TwoSlips", "mustWorld", "(I)V"⟩, 16), (⟨"TwoSlips", "mustSpeaker", "(I)V"⟩, 16), (⟨"TwoSlips", "turnsOf", "(I)I"⟩, 16), (⟨"TwoSlips", "turnOf", "(I)LTwoSlips$Turn;"⟩, 16), (⟨"TwoSlips", "mustTurns", "(I)V"⟩, 16), (⟨"TwoSlips", "reaching", "(II)LTwoSlips$Course;"⟩, 16), (⟨"TwoSlips", "mustTwo", "(II)V"⟩, 16), (⟨"TwoSlips$Soonest", "knowsAny", "(IIZ)Z"⟩, 10), (⟨"TwoSlips$Orders", "goes", "(II)V"⟩, 5), (⟨"TwoSlips", "trayOf", "(I)LTwoSlips$Tray;"⟩, 16), (⟨"TwoSlips", "answersOf", "(LTwoSlips$Tray;)I"⟩, 16), (⟨"TwoSlipsModel", "fails", "(I)I"⟩, 32), (⟨"TwoSlipsModel", "reads", "()V"⟩, 32), (⟨"TwoSlipsModel", "see", "(I)I"⟩, 32), (⟨"TwoSlipsModel", "readLine", "()V"⟩, 32)]
theorem lw_r3 : ∀ q ∈ lw_privs_3, lw_okq q := List.forall_mem_cons.mpr ⟨lw_p32, List.forall_mem_cons.mpr ⟨lw_p33, List.forall_mem_cons.mpr ⟨lw_p34, List.forall_mem_cons.mpr ⟨lw_p35, List.forall_mem_cons.mpr ⟨lw_p36, List.forall_mem_cons.mpr ⟨lw_p37, List.forall_mem_cons.mpr ⟨lw_p38, List.forall_mem_cons.mpr ⟨lw_p39, List.forall_mem_cons.mpr ⟨lw_p40, List.forall_mem_cons.mpr ⟨lw_p41, List.forall_mem_cons.mpr ⟨lw_p42, List.forall_mem_cons.mpr ⟨lw_p43, List.forall_mem_cons.mpr ⟨lw_p44, List.forall_mem_cons.mpr ⟨lw_p45, List.forall_mem_cons.mpr ⟨lw_p46, List.forall_mem_cons.mpr ⟨lw_p47, fun _ h => absurd h List.not_mem_nil⟩⟩⟩⟩⟩⟩⟩⟩⟩⟩⟩⟩⟩⟩⟩⟩
theorem lw_p48 : lw_okq (⟨"TwoSlipsModel", "took", "(Ljava/lang/String;)Z"⟩, 32) := ⟨⟨by decide +kernel, by decide +kernel⟩, lw_t8 (List.mem_of_getElem? (i := 77) rfl), lw_t8 (List.mem_of_getElem? (i := 222) rfl), lw_t8 (List.mem_of_getElem? (i := 223) rfl)⟩
theorem lw_p49 : lw_okq (⟨"TwoSlipsModel", "isWord", "(Ljava/lang/String;)Z"⟩, 32) := ⟨⟨by decide +kernel, by decide +kernel⟩, lw_t8 (List.mem_of_getElem? (i := 77) rfl), lw_t8 (List.mem_of_getElem? (i := 226) rfl), lw_t8 (List.mem_of_getElem? (i := 227) rfl)⟩
theorem lw_p50 : lw_okq (⟨"TwoSlipsModel", "number", "(II)I"⟩, 32) := ⟨⟨by decide +kernel, by decide +kernel⟩, lw_t8 (List.mem_of_getElem? (i := 77) rfl), lw_t8 (List.mem_of_getElem? (i := 232) rfl), lw_t8 (List.mem_of_getElem? (i := 233) rfl)⟩
theorem lw_p51 : lw_okq (⟨"TwoSlipsModel", "blames", "(I)V"⟩, 32) := ⟨⟨by decide +kernel, by decide +kernel⟩, lw_t8 (List.mem_of_getElem? (i := 77) rfl), lw_t8 (List.mem_of_getElem? (i := 236) rfl), lw_t8 (List.mem_of_getElem? (i := 237) rfl)⟩
theorem lw_p52 : lw_okq (⟨"TwoSlipsModel", "readSpeaker", "()V"⟩, 32) := ⟨⟨by decide +kernel, by decide +kernel⟩, lw_t8 (List.mem_of_getElem? (i := 77) rfl), lw_t9 (List.mem_of_getElem? (i := 4) rfl), lw_t9 (List.mem_of_getElem? (i := 5) rfl)⟩
theorem lw_p53 : lw_okq (⟨"TwoSlipsModel", "sightTold", "()I"⟩, 32) := ⟨⟨by decide +kernel, by decide +kernel⟩, lw_t8 (List.mem_of_getElem? (i := 77) rfl), lw_t9 (List.mem_of_getElem? (i := 8) rfl), lw_t9 (List.mem_of_getElem? (i := 9) rfl)⟩
theorem lw_p54 : lw_okq (⟨"TwoSlipsModel", "readTurn", "()V"⟩, 32) := ⟨⟨by decide +kernel, by decide +kernel⟩, lw_t8 (List.mem_of_getElem? (i := 77) rfl), lw_t9 (List.mem_of_getElem? (i := 24) rfl), lw_t9 (List.mem_of_getElem? (i := 25) rfl)⟩
theorem lw_p55 : lw_okq (⟨"TwoSlipsModel", "speakerTold", "()I"⟩, 32) := ⟨⟨by decide +kernel, by decide +kernel⟩, lw_t8 (List.mem_of_getElem? (i := 77) rfl), lw_t9 (List.mem_of_getElem? (i := 28) rfl), lw_t9 (List.mem_of_getElem? (i := 29) rfl)⟩
theorem lw_p56 : lw_okq (⟨"TwoSlipsModel", "readSaying", "()I"⟩, 32) := ⟨⟨by decide +kernel, by decide +kernel⟩, lw_t8 (List.mem_of_getElem? (i := 77) rfl), lw_t9 (List.mem_of_getElem? (i := 32) rfl), lw_t9 (List.mem_of_getElem? (i := 33) rfl)⟩
theorem lw_p57 : lw_okq (⟨"TwoSlipsModel", "readJoined", "(Z)I"⟩, 32) := ⟨⟨by decide +kernel, by decide +kernel⟩, lw_t8 (List.mem_of_getElem? (i := 77) rfl), lw_t9 (List.mem_of_getElem? (i := 36) rfl), lw_t9 (List.mem_of_getElem? (i := 37) rfl)⟩
theorem lw_p58 : lw_okq (⟨"TwoSlipsModel", "readFact", "()I"⟩, 32) := ⟨⟨by decide +kernel, by decide +kernel⟩, lw_t8 (List.mem_of_getElem? (i := 77) rfl), lw_t9 (List.mem_of_getElem? (i := 40) rfl), lw_t9 (List.mem_of_getElem? (i := 41) rfl)⟩
theorem lw_p59 : lw_okq (⟨"TwoSlipsModel", "opens", "()V"⟩, 32) := ⟨⟨by decide +kernel, by decide +kernel⟩, lw_t8 (List.mem_of_getElem? (i := 77) rfl), lw_t9 (List.mem_of_getElem? (i := 45) rfl), lw_t9 (List.mem_of_getElem? (i := 46) rfl)⟩
theorem lw_p60 : lw_okq (⟨"TwoSlipsModel", "mark", "(III)I"⟩, 32) := ⟨⟨by decide +kernel, by decide +kernel⟩, lw_t8 (List.mem_of_getElem? (i := 77) rfl), lw_t9 (List.mem_of_getElem? (i := 49) rfl), lw_t9 (List.mem_of_getElem? (i := 50) rfl)⟩
theorem lw_p61 : lw_okq (⟨"TwoSlipsModel", "isSign", "(I)Z"⟩, 32) := ⟨⟨by decide +kernel, by decide +kernel⟩, lw_t8 (List.mem_of_getElem? (i := 77) rfl), lw_t9 (List.mem_of_getElem? (i := 53) rfl), lw_t9 (List.mem_of_getElem? (i := 54) rfl)⟩
theorem lw_p62 : lw_okq (⟨"TwoSlipsModel", "readWithin", "()I"⟩, 32) := ⟨⟨by decide +kernel, by decide +kernel⟩, lw_t8 (List.mem_of_getElem? (i := 77) rfl), lw_t9 (List.mem_of_getElem? (i := 57) rfl), lw_t9 (List.mem_of_getElem? (i := 58) rfl)⟩
theorem lw_p63 : lw_okq (⟨"TwoSlipsModel", "sign", "(I)V"⟩, 32) := ⟨⟨by decide +kernel, by decide +kernel⟩, lw_t8 (List.mem_of_getElem? (i := 77) rfl), lw_t9 (List.mem_of_getElem? (i := 61) rfl), lw_t9 (List.mem_of_getElem? (i := 62) rfl)⟩
def lw_privs_4 : List (MethodName × Nat) := [(⟨"TwoSlipsModel", "took", "(Ljava/lang/String;)Z"⟩, 32), (⟨"TwoSlipsModel", "isWord", "(Ljava/lang/String;)Z"⟩, 32), (⟨"TwoSlipsModel", "number", "(II)I"⟩, 32), (⟨"TwoSlipsModel", "blames", "(I)V"⟩, 32), (⟨"TwoSlipsModel", "readSpeaker", "()V"⟩, 32), (⟨"TwoSlipsModel", "sightTold", "()I"⟩, 32), (⟨"TwoSlipsModel", "readTurn", "()V"⟩, 32), (⟨"TwoSlipsModel", "speakerTold", "()I"⟩, 32), (⟨"TwoSlipsModel", "readSaying", "()I"⟩, 32), (⟨"TwoSlipsModel", "readJoined", "(Z)I"⟩, 32), (⟨"TwoSlipsModel", "readFact", "()I"⟩, 32), (⟨"TwoSlipsModel", "opens", "()V"⟩, 32), (⟨"TwoSlipsModel", "mark", "(III)I"⟩, 32), (⟨"TwoSlipsModel", "isSign", "(I)Z"⟩, 32), (⟨"TwoSlipsModel", "readWithin", "()I"⟩, 32), (⟨"TwoSlipsModel", "sign", "(I)V"⟩, 32)]
theorem lw_r4 : ∀ q ∈ lw_privs_4, lw_okq q := List.forall_mem_cons.mpr ⟨lw_p48, List.forall_mem_cons.mpr ⟨lw_p49, List.forall_mem_cons.mpr ⟨lw_p50, List.forall_mem_cons.mpr ⟨lw_p51, List.forall_mem_cons.mpr ⟨lw_p52, List.forall_mem_cons.mpr ⟨lw_p53, List.forall_mem_cons.mpr ⟨lw_p54, List.forall_mem_cons.mpr ⟨lw_p55, List.forall_mem_cons.mpr ⟨lw_p56, List.forall_mem_cons.mpr ⟨lw_p57, List.forall_mem_cons.mpr ⟨lw_p58, List.forall_mem_cons.mpr ⟨lw_p59, List.forall_mem_cons.mpr ⟨lw_p60, List.forall_mem_cons.mpr ⟨lw_p61, List.forall_mem_cons.mpr ⟨lw_p62, List.forall_mem_cons.mpr ⟨lw_p63, fun _ h => absurd h List.not_mem_nil⟩⟩⟩⟩⟩⟩⟩⟩⟩⟩⟩⟩⟩⟩⟩⟩
theorem lw_p64 : lw_okq (⟨"TwoSlipsModel", "beside", "(II)V"⟩, 32) := ⟨⟨by decide +kernel, by decide +kernel⟩, lw_t8 (List.mem_of_getElem? (i := 77) rfl), lw_t9 (List.mem_of_getElem? (i := 73) rfl), lw_t9 (List.mem_of_getElem? (i := 74) rfl)⟩
theorem lw_p65 : lw_okq (⟨"TwoSlipsModel", "isWorld", "(I)Z"⟩, 32) := ⟨⟨by decide +kernel, by decide +kernel⟩, lw_t8 (List.mem_of_getElem? (i := 77) rfl), lw_t9 (List.mem_of_getElem? (i := 88) rfl), lw_t9 (List.mem_of_getElem? (i := 89) rfl)⟩
theorem lw_p66 : lw_okq (⟨"TwoSlipsModel", "layPairs", "()V"⟩, 32) := ⟨⟨by decide +kernel, by decide +kernel⟩, lw_t8 (List.mem_of_getElem? (i := 77) rfl), lw_t9 (List.mem_of_getElem? (i := 92) rfl), lw_t9 (List.mem_of_getElem? (i := 93) rfl)⟩
theorem lw_p67 : lw_okq (⟨"TwoSlipsModel", "isSpeaker", "(I)Z"⟩, 32) := ⟨⟨by decide +kernel, by decide +kernel⟩, lw_t8 (List.mem_of_getElem? (i := 77) rfl), lw_t9 (List.mem_of_getElem? (i := 106) rfl), lw_t9 (List.mem_of_getElem? (i := 107) rfl)⟩
theorem lw_p68 : lw_okq (⟨"TwoSlipsModel", "slip", "(II)I"⟩, 32) := ⟨⟨by decide +kernel, by decide +kernel⟩, lw_t8 (List.mem_of_getElem? (i := 77) rfl), lw_t9 (List.mem_of_getElem? (i := 110) rfl), lw_t9 (List.mem_of_getElem? (i := 111) rfl)⟩
theorem lw_p69 : lw_okq (⟨"TwoSlipsModel", "of", "(II)I"⟩, 32) := ⟨⟨by decide +kernel, by decide +kernel⟩, lw_t8 (List.mem_of_getElem? (i := 77) rfl), lw_t9 (List.mem_of_getElem? (i := 114) rfl), lw_t9 (List.mem_of_getElem? (i := 115) rfl)⟩
theorem lw_p70 : lw_okq (⟨"TwoSlipsModel", "turnsOf", "(I)I"⟩, 32) := ⟨⟨by decide +kernel, by decide +kernel⟩, lw_t8 (List.mem_of_getElem? (i := 77) rfl), lw_t9 (List.mem_of_getElem? (i := 123) rfl), lw_t9 (List.mem_of_getElem? (i := 124) rfl)⟩
theorem lw_p71 : lw_okq (⟨"TwoSlipsModel", "who", "(I)I"⟩, 32) := ⟨⟨by decide +kernel, by decide +kernel⟩, lw_t8 (List.mem_of_getElem? (i := 77) rfl), lw_t9 (List.mem_of_getElem? (i := 127) rfl), lw_t9 (List.mem_of_getElem? (i := 128) rfl)⟩
theorem lw_p72 : lw_okq (⟨"TwoSlipsModel", "isTurn", "(I)Z"⟩, 32) := ⟨⟨by decide +kernel, by decide +kernel⟩, lw_t8 (List.mem_of_getElem? (i := 77) rfl), lw_t9 (List.mem_of_getElem? (i := 135) rfl), lw_t9 (List.mem_of_getElem? (i := 136) rfl)⟩
theorem lw_p73 : lw_okq (⟨"TwoSlipsModel", "isBehind", "(I)Z"⟩, 32) := ⟨⟨by decide +kernel, by decide +kernel⟩, lw_t8 (List.mem_of_getElem? (i := 77) rfl), lw_t9 (List.mem_of_getElem? (i := 143) rfl), lw_t9 (List.mem_of_getElem? (i := 144) rfl)⟩
theorem lw_p74 : lw_okq (⟨"TwoSlipsModel", "lays", "()V"⟩, 32) := ⟨⟨by decide +kernel, by decide +kernel⟩, lw_t8 (List.mem_of_getElem? (i := 77) rfl), lw_t9 (List.mem_of_getElem? (i := 147) rfl), lw_t9 (List.mem_of_getElem? (i := 148) rfl)⟩
theorem lw_p75 : lw_okq (⟨"TwoSlipsModel", "fills", "(IZ)V"⟩, 32) := ⟨⟨by decide +kernel, by decide +kernel⟩, lw_t8 (List.mem_of_getElem? (i := 77) rfl), lw_t9 (List.mem_of_getElem? (i := 151) rfl), lw_t9 (List.mem_of_getElem? (i := 152) rfl)⟩
theorem lw_p76 : lw_okq (⟨"TwoSlipsModel", "puts", "(IIZ)V"⟩, 32) := ⟨⟨by decide +kernel, by decide +kernel⟩, lw_t8 (List.mem_of_getElem? (i := 77) rfl), lw_t9 (List.mem_of_getElem? (i := 155) rfl), lw_t9 (List.mem_of_getElem? (i := 156) rfl)⟩
theorem lw_p77 : lw_okq (⟨"TwoSlipsModel", "mays", "(I)I"⟩, 32) := ⟨⟨by decide +kernel, by decide +kernel⟩, lw_t8 (List.mem_of_getElem? (i := 77) rfl), lw_t9 (List.mem_of_getElem? (i := 160) rfl), lw_t9 (List.mem_of_getElem? (i := 161) rfl)⟩
theorem lw_p78 : lw_okq (⟨"TwoSlipsModel", "soIn", "(II)I"⟩, 32) := ⟨⟨by decide +kernel, by decide +kernel⟩, lw_t8 (List.mem_of_getElem? (i := 77) rfl), lw_t9 (List.mem_of_getElem? (i := 164) rfl), lw_t9 (List.mem_of_getElem? (i := 165) rfl)⟩
theorem lw_p79 : lw_okq (⟨"TwoSlipsModel", "markOf", "(II)I"⟩, 32) := ⟨⟨by decide +kernel, by decide +kernel⟩, lw_t8 (List.mem_of_getElem? (i := 77) rfl), lw_t9 (List.mem_of_getElem? (i := 168) rfl), lw_t9 (List.mem_of_getElem? (i := 169) rfl)⟩
def lw_privs_5 : List (MethodName × Nat) := [(⟨"TwoSlipsModel", "beside", "(II)V"⟩, 32), (⟨"TwoSlipsModel", "isWorld", "(I)Z"⟩, 32), (⟨"TwoSlipsModel", "layPairs", "()V"⟩, 32), (⟨"TwoSlipsModel", "isSpeaker", "(I)Z"⟩, 32), (⟨"TwoSlipsModel", "slip", "(II)I"⟩, 32), (⟨"TwoSlipsModel", "of", "(II)I"⟩, 32), (⟨"TwoSlipsModel", "turnsOf", "(I)I"⟩, 32), (⟨"TwoSlipsModel", "who", "(I)I"⟩, 32), (⟨"TwoSlipsModel", "isTurn", "(I)Z"⟩, 32), (⟨"TwoSlipsModel", "isBehind", "(I)Z"⟩, 32), (⟨"TwoSlipsModel", "lays", "()V"⟩, 32), (⟨"TwoSlipsModel", "fills", "(IZ)V"⟩, 32), (⟨"TwoSlipsModel", "puts", "(IIZ)V"⟩, 32), (⟨"TwoSlipsModel", "mays", "(I)I"⟩, 32), (⟨"TwoSlipsModel", "soIn", "(II)I"⟩, 32), (⟨"TwoSlipsModel", "markOf", "(II)I"⟩, 32)]
theorem lw_r5 : ∀ q ∈ lw_privs_5, lw_okq q := List.forall_mem_cons.mpr ⟨lw_p64, List.forall_mem_cons.mpr ⟨lw_p65, List.forall_mem_cons.mpr ⟨lw_p66, List.forall_mem_cons.mpr ⟨lw_p67, List.forall_mem_cons.mpr ⟨lw_p68, List.forall_mem_cons.mpr ⟨lw_p69, List.forall_mem_cons.mpr ⟨lw_p70, List.forall_mem_cons.mpr ⟨lw_p71, List.forall_mem_cons.mpr ⟨lw_p72, List.forall_mem_cons.mpr ⟨lw_p73, List.forall_mem_cons.mpr ⟨lw_p74, List.forall_mem_cons.mpr ⟨lw_p75, List.forall_mem_cons.mpr ⟨lw_p76, List.forall_mem_cons.mpr ⟨lw_p77, List.forall_mem_cons.mpr ⟨lw_p78, List.forall_mem_cons.mpr ⟨lw_p79, fun _ h => absurd h List.not_mem_nil⟩⟩⟩⟩⟩⟩⟩⟩⟩⟩⟩⟩⟩⟩⟩⟩
theorem lw_p80 : lw_okq (⟨"TwoSlipsModel", "pushes", "()I"⟩, 32) := ⟨⟨by decide +kernel, by decide +kernel⟩, lw_t8 (List.mem_of_getElem? (i := 77) rfl), lw_t9 (List.mem_of_getElem? (i := 172) rfl), lw_t9 (List.mem_of_getElem? (i := 173) rfl)⟩
theorem lw_p81 : lw_okq (⟨"TwoSlipsModel", "joins", "(IIIZ)V"⟩, 32) := ⟨⟨by decide +kernel, by decide +kernel⟩, lw_t8 (List.mem_of_getElem? (i := 77) rfl), lw_t9 (List.mem_of_getElem? (i := 176) rfl), lw_t9 (List.mem_of_getElem? (i := 177) rfl)⟩
theorem lw_p82 : lw_okq (⟨"TwoSlipsModel", "has", "(II)Z"⟩, 32) := ⟨⟨by decide +kernel, by decide +kernel⟩, lw_t8 (List.mem_of_getElem? (i := 77) rfl), lw_t9 (List.mem_of_getElem? (i := 180) rfl), lw_t9 (List.mem_of_getElem? (i := 181) rfl)⟩
theorem lw_p83 : lw_okq (⟨"TwoSlipsModel", "laysKnowing", "(III)V"⟩, 32) := ⟨⟨by decide +kernel, by decide +kernel⟩, lw_t8 (List.mem_of_getElem? (i := 77) rfl), lw_t9 (List.mem_of_getElem? (i := 184) rfl), lw_t9 (List.mem_of_getElem? (i := 185) rfl)⟩
theorem lw_p84 : lw_okq (⟨"TwoSlipsModel", "heapUp", "(III)V"⟩, 32) := ⟨⟨by decide +kernel, by decide +kernel⟩, lw_t8 (List.mem_of_getElem? (i := 77) rfl), lw_t9 (List.mem_of_getElem? (i := 188) rfl), lw_t9 (List.mem_of_getElem? (i := 189) rfl)⟩
theorem lw_p85 : lw_okq (⟨"TwoSlipsModel", "laysSeeing", "(III)V"⟩, 32) := ⟨⟨by decide +kernel, by decide +kernel⟩, lw_t8 (List.mem_of_getElem? (i := 77) rfl), lw_t9 (List.mem_of_getElem? (i := 192) rfl), lw_t9 (List.mem_of_getElem? (i := 193) rfl)⟩
theorem lw_p86 : lw_okq (⟨"TwoSlipsModel", "manyOf", "(I)I"⟩, 32) := ⟨⟨by decide +kernel, by decide +kernel⟩, lw_t8 (List.mem_of_getElem? (i := 77) rfl), lw_t9 (List.mem_of_getElem? (i := 196) rfl), lw_t9 (List.mem_of_getElem? (i := 197) rfl)⟩
theorem lw_p87 : lw_okq (⟨"TwoSlipsModel", "onlyNow", "()I"⟩, 32) := ⟨⟨by decide +kernel, by decide +kernel⟩, lw_t8 (List.mem_of_getElem? (i := 77) rfl), lw_t9 (List.mem_of_getElem? (i := 212) rfl), lw_t9 (List.mem_of_getElem? (i := 213) rfl)⟩
theorem lw_p88 : lw_okq (⟨"TwoSlipsModel", "leftNow", "()I"⟩, 32) := ⟨⟨by decide +kernel, by decide +kernel⟩, lw_t8 (List.mem_of_getElem? (i := 77) rfl), lw_t9 (List.mem_of_getElem? (i := 216) rfl), lw_t9 (List.mem_of_getElem? (i := 217) rfl)⟩
theorem lw_p89 : lw_okq (⟨"TwoSlipsModel", "first", "(I)I"⟩, 32) := ⟨⟨by decide +kernel, by decide +kernel⟩, lw_t8 (List.mem_of_getElem? (i := 77) rfl), lw_t9 (List.mem_of_getElem? (i := 220) rfl), lw_t9 (List.mem_of_getElem? (i := 221) rfl)⟩
theorem lw_p90 : lw_okq (⟨"TwoSlipsModel", "askFault", "(III)I"⟩, 32) := ⟨⟨by decide +kernel, by decide +kernel⟩, lw_t8 (List.mem_of_getElem? (i := 77) rfl), lw_t10 (List.mem_of_getElem? (i := 0) rfl), lw_t10 (List.mem_of_getElem? (i := 1) rfl)⟩
theorem lw_p91 : lw_okq (⟨"TwoSlipsModel", "leftWith", "(II)I"⟩, 32) := ⟨⟨by decide +kernel, by decide +kernel⟩, lw_t8 (List.mem_of_getElem? (i := 77) rfl), lw_t10 (List.mem_of_getElem? (i := 21) rfl), lw_t10 (List.mem_of_getElem? (i := 22) rfl)⟩
theorem lw_p92 : lw_okq (⟨"TwoSlipsModel", "twoFault", "(II)I"⟩, 32) := ⟨⟨by decide +kernel, by decide +kernel⟩, lw_t8 (List.mem_of_getElem? (i := 77) rfl), lw_t10 (List.mem_of_getElem? (i := 33) rfl), lw_t10 (List.mem_of_getElem? (i := 34) rfl)⟩
theorem lw_p93 : lw_okq (⟨"TwoSlipsModel", "mutes", "(II)I"⟩, 32) := ⟨⟨by decide +kernel, by decide +kernel⟩, lw_t8 (List.mem_of_getElem? (i := 77) rfl), lw_t10 (List.mem_of_getElem? (i := 37) rfl), lw_t10 (List.mem_of_getElem? (i := 38) rfl)⟩
theorem lw_p94 : lw_okq (⟨"TwoSlipsModel", "laysAnswers", "(IIZI)V"⟩, 32) := ⟨⟨by decide +kernel, by decide +kernel⟩, lw_t8 (List.mem_of_getElem? (i := 77) rfl), lw_t10 (List.mem_of_getElem? (i := 41) rfl), lw_t10 (List.mem_of_getElem? (i := 42) rfl)⟩
theorem lw_p95 : lw_okq (⟨"TwoSlipsModel", "areSpeakers", "(I)Z"⟩, 32) := ⟨⟨by decide +kernel, by decide +kernel⟩, lw_t8 (List.mem_of_getElem? (i := 77) rfl), lw_t10 (List.mem_of_getElem? (i := 57) rfl), lw_t10 (List.mem_of_getElem? (i := 58) rfl)⟩
def lw_privs_6 : List (MethodName × Nat) := [(⟨"TwoSlipsModel", "pushes", "()I"⟩, 32), (⟨"TwoSlipsModel", "joins", "(IIIZ)V"⟩, 32), (⟨"TwoSlipsModel", "has", "(II)Z"⟩, 32), (⟨"TwoSlipsModel", "laysKnowing", "(III)V"⟩, 32), (⟨"TwoSlipsModel", "heapUp", "(III)V"⟩, 32), (⟨"TwoSlipsModel", "laysSeeing", "(III)V"⟩, 32), (⟨"TwoSlipsModel", "manyOf", "(I)I"⟩, 32), (⟨"TwoSlipsModel", "onlyNow", "()I"⟩, 32), (⟨"TwoSlipsModel", "leftNow", "()I"⟩, 32), (⟨"TwoSlipsModel", "first", "(I)I"⟩, 32), (⟨"TwoSlipsModel", "askFault", "(III)I"⟩, 32), (⟨"TwoSlipsModel", "leftWith", "(II)I"⟩, 32), (⟨"TwoSlipsModel", "twoFault", "(II)I"⟩, 32), (⟨"TwoSlipsModel", "mutes", "(II)I"⟩, 32), (⟨"TwoSlipsModel", "laysAnswers", "(IIZI)V"⟩, 32), (⟨"TwoSlipsModel", "areSpeakers", "(I)Z"⟩, 32)]
theorem lw_r6 : ∀ q ∈ lw_privs_6, lw_okq q := List.forall_mem_cons.mpr ⟨lw_p80, List.forall_mem_cons.mpr ⟨lw_p81, List.forall_mem_cons.mpr ⟨lw_p82, List.forall_mem_cons.mpr ⟨lw_p83, List.forall_mem_cons.mpr ⟨lw_p84, List.forall_mem_cons.mpr ⟨lw_p85, List.forall_mem_cons.mpr ⟨lw_p86, List.forall_mem_cons.mpr ⟨lw_p87, List.forall_mem_cons.mpr ⟨lw_p88, List.forall_mem_cons.mpr ⟨lw_p89, List.forall_mem_cons.mpr ⟨lw_p90, List.forall_mem_cons.mpr ⟨lw_p91, List.forall_mem_cons.mpr ⟨lw_p92, List.forall_mem_cons.mpr ⟨lw_p93, List.forall_mem_cons.mpr ⟨lw_p94, List.forall_mem_cons.mpr ⟨lw_p95, fun _ h => absurd h List.not_mem_nil⟩⟩⟩⟩⟩⟩⟩⟩⟩⟩⟩⟩⟩⟩⟩⟩
theorem lw_p96 : lw_okq (⟨"TwoSlipsModel", "soon", "(IIIII)Z"⟩, 32) := ⟨⟨by decide +kernel, by decide +kernel⟩, lw_t8 (List.mem_of_getElem? (i := 77) rfl), lw_t10 (List.mem_of_getElem? (i := 61) rfl), lw_t10 (List.mem_of_getElem? (i := 62) rfl)⟩
theorem lw_p97 : lw_okq (⟨"TwoSlipsModel", "none", "(III)Z"⟩, 32) := ⟨⟨by decide +kernel, by decide +kernel⟩, lw_t8 (List.mem_of_getElem? (i := 77) rfl), lw_t10 (List.mem_of_getElem? (i := 65) rfl), lw_t10 (List.mem_of_getElem? (i := 66) rfl)⟩
theorem lw_p98 : lw_okq (⟨"TwoSlipsModel", "knowsAt", "(III)Z"⟩, 32) := ⟨⟨by decide +kernel, by decide +kernel⟩, lw_t8 (List.mem_of_getElem? (i := 77) rfl), lw_t10 (List.mem_of_getElem? (i := 69) rfl), lw_t10 (List.mem_of_getElem? (i := 70) rfl)⟩
theorem lw_p99 : lw_okq (⟨"TwoSlipsModel", "all", "(III)Z"⟩, 32) := ⟨⟨by decide +kernel, by decide +kernel⟩, lw_t8 (List.mem_of_getElem? (i := 77) rfl), lw_t10 (List.mem_of_getElem? (i := 73) rfl), lw_t10 (List.mem_of_getElem? (i := 74) rfl)⟩
theorem lw_p100 : lw_okq (⟨"TwoSlipsModel", "shortBy", "(II)Z"⟩, 32) := ⟨⟨by decide +kernel, by decide +kernel⟩, lw_t8 (List.mem_of_getElem? (i := 77) rfl), lw_t10 (List.mem_of_getElem? (i := 84) rfl), lw_t10 (List.mem_of_getElem? (i := 85) rfl)⟩
theorem lw_p101 : lw_okq (⟨"TwoSlipsModel", "leftBy", "(I)I"⟩, 32) := ⟨⟨by decide +kernel, by decide +kernel⟩, lw_t8 (List.mem_of_getElem? (i := 77) rfl), lw_t10 (List.mem_of_getElem? (i := 92) rfl), lw_t10 (List.mem_of_getElem? (i := 93) rfl)⟩
theorem lw_p102 : lw_okq (⟨"TwoSlipsModel", "triesOrders", "(III)V"⟩, 32) := ⟨⟨by decide +kernel, by decide +kernel⟩, lw_t8 (List.mem_of_getElem? (i := 77) rfl), lw_t10 (List.mem_of_getElem? (i := 104) rfl), lw_t10 (List.mem_of_getElem? (i := 105) rfl)⟩
theorem lw_p103 : lw_okq (⟨"TwoSlipsModel", "trayFault", "(I)I"⟩, 32) := ⟨⟨by decide +kernel, by decide +kernel⟩, lw_t8 (List.mem_of_getElem? (i := 77) rfl), lw_t10 (List.mem_of_getElem? (i := 117) rfl), lw_t10 (List.mem_of_getElem? (i := 118) rfl)⟩
theorem lw_p104 : lw_okq (⟨"TwoSlipsModel", "cut", "(IIJ)J"⟩, 32) := ⟨⟨by decide +kernel, by decide +kernel⟩, lw_t8 (List.mem_of_getElem? (i := 77) rfl), lw_t10 (List.mem_of_getElem? (i := 133) rfl), lw_t10 (List.mem_of_getElem? (i := 134) rfl)⟩
def lw_privs_7 : List (MethodName × Nat) := [(⟨"TwoSlipsModel", "soon", "(IIIII)Z"⟩, 32), (⟨"TwoSlipsModel", "none", "(III)Z"⟩, 32), (⟨"TwoSlipsModel", "knowsAt", "(III)Z"⟩, 32), (⟨"TwoSlipsModel", "all", "(III)Z"⟩, 32), (⟨"TwoSlipsModel", "shortBy", "(II)Z"⟩, 32), (⟨"TwoSlipsModel", "leftBy", "(I)I"⟩, 32), (⟨"TwoSlipsModel", "triesOrders", "(III)V"⟩, 32), (⟨"TwoSlipsModel", "trayFault", "(I)I"⟩, 32), (⟨"TwoSlipsModel", "cut", "(IIJ)J"⟩, 32)]
theorem lw_r7 : ∀ q ∈ lw_privs_7, lw_okq q := List.forall_mem_cons.mpr ⟨lw_p96, List.forall_mem_cons.mpr ⟨lw_p97, List.forall_mem_cons.mpr ⟨lw_p98, List.forall_mem_cons.mpr ⟨lw_p99, List.forall_mem_cons.mpr ⟨lw_p100, List.forall_mem_cons.mpr ⟨lw_p101, List.forall_mem_cons.mpr ⟨lw_p102, List.forall_mem_cons.mpr ⟨lw_p103, List.forall_mem_cons.mpr ⟨lw_p104, fun _ h => absurd h List.not_mem_nil⟩⟩⟩⟩⟩⟩⟩⟩⟩
def lw_privs : List (MethodName × Nat) := lw_privs_1 ++ (lw_privs_2 ++ (lw_privs_3 ++ (lw_privs_4 ++ (lw_privs_5 ++ (lw_privs_6 ++ (lw_privs_7))))))
def lw_tbl : List Cond := k2_sels lw_privs ++ tables_1
theorem lw_privs_ok : ∀ q ∈ lw_privs, lw_okq q := by
  show ∀ q ∈ lw_privs_1 ++ (lw_privs_2 ++ (lw_privs_3 ++ (lw_privs_4 ++ (lw_privs_5 ++ (lw_privs_6 ++ (lw_privs_7)))))), lw_okq q
  exact List.forall_mem_append.mpr ⟨lw_r1, List.forall_mem_append.mpr ⟨lw_r2, List.forall_mem_append.mpr ⟨lw_r3, List.forall_mem_append.mpr ⟨lw_r4, List.forall_mem_append.mpr ⟨lw_r5, List.forall_mem_append.mpr ⟨lw_r6, lw_r7⟩⟩⟩⟩⟩⟩
-- ===== ONE list of words for every method: the tables' words that hold all through a run =====
def lw_all : List Cond := lw_tbl.filter goodWord
/-- a word of the tables by its place: claim/WORDS.tsv -/
theorem lw_w {w : Cond} (i : Nat) (h : lw_tbl[i]? = some w) (g : goodWord w = true) : w ∈ lw_all := List.mem_filter.mpr ⟨List.mem_of_getElem? h, g⟩
theorem lw_all_tbl {w : Cond} (h : w ∈ lw_all) : w ∈ lw_tbl := (List.mem_filter.mp h).1
theorem lw_self : GoodIn lw_all lw_all := fun w h => ⟨h, good_of_word (List.mem_filter.mp h).2⟩
/-- a class's field words, by their places -/
theorem lw_in (ws : List Cond) (ps : List Nat) (hp : ws = ps.filterMap (fun i => lw_tbl[i]?)) (hg : ws.all goodWord = true) : ∀ w ∈ ws, w ∈ lw_all := by
  intro w h
  have h1 := List.all_eq_true.mp hg w h
  rw [hp] at h
  obtain ⟨i, -, hi⟩ := List.mem_filterMap.mp h
  exact lw_w i hi h1
/-- the words of a contract for the method y with code b, L locals, answer r -/
abbrev ws_ (y : MethodName) (b : ByteArray) (L : Nat) (r : Option FieldType) : List Cond := Cond.code y b L r :: lw_all
theorem lw_meth {y : MethodName} {b : ByteArray} {L : Nat} {r : Option FieldType} (h : Cond.code y b L r ∈ lw_all) : GoodIn lw_all (ws_ y b L r) := by
  intro w hw
  rcases List.mem_cons.mp hw with e | e
  · rw [e]
    exact lw_self _ h
  · exact lw_self _ e
theorem lw_app {a c : List Cond} (ha : ∀ w ∈ a, w ∈ lw_all) (hc : GoodIn lw_all c) : GoodIn lw_all (a ++ c) := by
  intro w hw
  rcases List.mem_append.mp hw with e | e
  · exact lw_self w (ha w e)
  · exact hc w e
/-- what a call through an object asks: cwV n hts (lw_V ..) -/
theorem lw_V {own : String} {idx : Nat} {C : String} {y : MethodName} {b : ByteArray} {L : Nat} {r : Option FieldType} (h1 : Cond.methodLink own idx y ∈ lw_all) (h2 : Cond.instanceMethod y ∈ lw_all) (h3 : Cond.selects C y y ∈ lw_all) (h4 : Cond.initialized C ∈ lw_all) (h5 : Cond.code y b L r ∈ lw_all) : GoodIn lw_all (wsV own idx C y (ws_ y b L r)) := by
  refine lw_app ?_ (lw_meth h5)
  intro w hw
  simp only [List.mem_cons, List.not_mem_nil, or_false] at hw
  rcases hw with e | e | e | e
  · rw [e]; exact h1
  · rw [e]; exact h2
  · rw [e]; exact h3
  · rw [e]; exact h4
/-- what a static call asks: va_cwS n hts (lw_S ..) -/
theorem lw_S {own : String} {idx : Nat} {y : MethodName} {b : ByteArray} {L : Nat} {r : Option FieldType} (h1 : Cond.methodLink own idx y ∈ lw_all) (h2 : Cond.static y ∈ lw_all) (h3 : Cond.initialized y.cls ∈ lw_all) (h4 : Cond.code y b L r ∈ lw_all) : GoodIn lw_all (va_wsS own idx y (ws_ y b L r)) := by
  refine lw_app ?_ (lw_meth h4)
  intro w hw
  simp only [List.mem_cons, List.not_mem_nil, or_false] at hw
  rcases hw with e | e | e
  · rw [e]; exact h1
  · rw [e]; exact h2
  · rw [e]; exact h3
/-- the words of a contract for a method WITH HANDLERS (hh: its table) -/
abbrev wsW_ (y : MethodName) (b : ByteArray) (L : Nat) (r : Option FieldType) (hh : List (Nat × Nat × Nat × Nat)) : List Cond := Cond.codeWith y b L r hh :: lw_all
theorem lw_methW {y : MethodName} {b : ByteArray} {L : Nat} {r : Option FieldType} {hh : List (Nat × Nat × Nat × Nat)} (h : Cond.codeWith y b L r hh ∈ lw_all) : GoodIn lw_all (wsW_ y b L r hh) := by
  intro w hw
  rcases List.mem_cons.mp hw with e | e
  · rw [e]
    exact lw_self _ h
  · exact lw_self _ e
/-- any list of words by their places (lw_in), good -/
theorem lw_good {ws : List Cond} (h : ∀ w ∈ ws, w ∈ lw_all) : GoodIn lw_all ws := fun w hw => lw_self w (h w hw)
/-- what a call of a method with handlers asks: vx_cwVW n hts (lw_VW ..), vx_cwSW n hts (lw_SW ..) -/
theorem lw_VW {own : String} {idx : Nat} {C : String} {y : MethodName} {b : ByteArray} {L : Nat} {r : Option FieldType} {hh : List (Nat × Nat × Nat × Nat)} (h1 : Cond.methodLink own idx y ∈ lw_all) (h2 : Cond.instanceMethod y ∈ lw_all) (h3 : Cond.selects C y y ∈ lw_all) (h4 : Cond.initialized C ∈ lw_all) (h5 : Cond.codeWith y b L r hh ∈ lw_all) : GoodIn lw_all (wsV own idx C y (wsW_ y b L r hh)) := by
  refine lw_app ?_ (lw_methW h5)
  intro w hw
  simp only [List.mem_cons, List.not_mem_nil, or_false] at hw
  rcases hw with e | e | e | e
  · rw [e]; exact h1
  · rw [e]; exact h2
  · rw [e]; exact h3
  · rw [e]; exact h4
theorem lw_SW {own : String} {idx : Nat} {y : MethodName} {b : ByteArray} {L : Nat} {r : Option FieldType} {hh : List (Nat × Nat × Nat × Nat)} (h1 : Cond.methodLink own idx y ∈ lw_all) (h2 : Cond.static y ∈ lw_all) (h3 : Cond.initialized y.cls ∈ lw_all) (h4 : Cond.codeWith y b L r hh ∈ lw_all) : GoodIn lw_all (va_wsS own idx y (wsW_ y b L r hh)) := by
  refine lw_app ?_ (lw_methW h4)
  intro w hw
  simp only [List.mem_cons, List.not_mem_nil, or_false] at hw
  rcases hw with e | e | e
  · rw [e]; exact h1
  · rw [e]; exact h2
  · rw [e]; exact h3
/-- a word by its place in its run of the tables -/
theorem lw_at {r : List Cond} (hr : ∀ w ∈ r, w ∈ lw_tbl) {w : Cond} (i : Nat) (h : r[i]? = some w) : w ∈ lw_tbl := hr w (List.mem_of_getElem? h)
theorem lw_g {w : Cond} (h : w ∈ lw_tbl) (g : goodWord w = true) : w ∈ lw_all := List.mem_filter.mpr ⟨h, g⟩
theorem lw_ms : ∀ w ∈ k2_sels lw_privs, w ∈ lw_tbl := fun w h => show w ∈ k2_sels lw_privs ++ tables_1 from List.mem_append_left _ h
theorem lw_m1 : ∀ w ∈ tables_1_1, w ∈ lw_tbl := fun w h => show w ∈ k2_sels lw_privs ++ tables_1 from List.mem_append_right (k2_sels lw_privs) (show w ∈ tables_1 from List.mem_append_left _ h)
theorem lw_m2 : ∀ w ∈ tables_1_2, w ∈ lw_tbl := fun w h => show w ∈ k2_sels lw_privs ++ tables_1 from List.mem_append_right (k2_sels lw_privs) (show w ∈ tables_1 from List.mem_append_right _ (List.mem_append_left _ h))
theorem lw_m3 : ∀ w ∈ tables_1_3, w ∈ lw_tbl := fun w h => show w ∈ k2_sels lw_privs ++ tables_1 from List.mem_append_right (k2_sels lw_privs) (show w ∈ tables_1 from List.mem_append_right _ (List.mem_append_right _ (List.mem_append_left _ h)))
theorem lw_m4 : ∀ w ∈ tables_1_4, w ∈ lw_tbl := fun w h => show w ∈ k2_sels lw_privs ++ tables_1 from List.mem_append_right (k2_sels lw_privs) (show w ∈ tables_1 from List.mem_append_right _ (List.mem_append_right _ (List.mem_append_right _ (List.mem_append_left _ h))))
theorem lw_m5 : ∀ w ∈ tables_1_5, w ∈ lw_tbl := fun w h => show w ∈ k2_sels lw_privs ++ tables_1 from List.mem_append_right (k2_sels lw_privs) (show w ∈ tables_1 from List.mem_append_right _ (List.mem_append_right _ (List.mem_append_right _ (List.mem_append_right _ (List.mem_append_left _ h)))))
theorem lw_m6 : ∀ w ∈ tables_1_6, w ∈ lw_tbl := fun w h => show w ∈ k2_sels lw_privs ++ tables_1 from List.mem_append_right (k2_sels lw_privs) (show w ∈ tables_1 from List.mem_append_right _ (List.mem_append_right _ (List.mem_append_right _ (List.mem_append_right _ (List.mem_append_right _ (List.mem_append_left _ h))))))
theorem lw_m7 : ∀ w ∈ tables_1_7, w ∈ lw_tbl := fun w h => show w ∈ k2_sels lw_privs ++ tables_1 from List.mem_append_right (k2_sels lw_privs) (show w ∈ tables_1 from List.mem_append_right _ (List.mem_append_right _ (List.mem_append_right _ (List.mem_append_right _ (List.mem_append_right _ (List.mem_append_right _ (List.mem_append_left _ h)))))))
theorem lw_m8 : ∀ w ∈ tables_1_8, w ∈ lw_tbl := fun w h => show w ∈ k2_sels lw_privs ++ tables_1 from List.mem_append_right (k2_sels lw_privs) (show w ∈ tables_1 from List.mem_append_right _ (List.mem_append_right _ (List.mem_append_right _ (List.mem_append_right _ (List.mem_append_right _ (List.mem_append_right _ (List.mem_append_right _ (List.mem_append_left _ h))))))))
theorem lw_m9 : ∀ w ∈ tables_1_9, w ∈ lw_tbl := fun w h => show w ∈ k2_sels lw_privs ++ tables_1 from List.mem_append_right (k2_sels lw_privs) (show w ∈ tables_1 from List.mem_append_right _ (List.mem_append_right _ (List.mem_append_right _ (List.mem_append_right _ (List.mem_append_right _ (List.mem_append_right _ (List.mem_append_right _ (List.mem_append_right _ (List.mem_append_left _ h)))))))))
theorem lw_m10 : ∀ w ∈ tables_1_10, w ∈ lw_tbl := fun w h => show w ∈ k2_sels lw_privs ++ tables_1 from List.mem_append_right (k2_sels lw_privs) (show w ∈ tables_1 from List.mem_append_right _ (List.mem_append_right _ (List.mem_append_right _ (List.mem_append_right _ (List.mem_append_right _ (List.mem_append_right _ (List.mem_append_right _ (List.mem_append_right _ (List.mem_append_right _ h)))))))))
theorem qs0 : (Cond.selects "TwoSlips" ⟨"TwoSlips", "four", "(I)V"⟩ ⟨"TwoSlips", "four", "(I)V"⟩) ∈ lw_all := lw_g (lw_at lw_ms 0 rfl) rfl
theorem qs1 : (Cond.selects "TwoSlips" ⟨"TwoSlips", "laid", "()LTwoSlips$Course;"⟩ ⟨"TwoSlips", "laid", "()LTwoSlips$Course;"⟩) ∈ lw_all := lw_g (lw_at lw_ms 1 rfl) rfl
theorem qs2 : (Cond.selects "TwoSlips$Course" ⟨"TwoSlips$Course", "alone", "(I[J[J)V"⟩ ⟨"TwoSlips$Course", "alone", "(I[J[J)V"⟩) ∈ lw_all := lw_g (lw_at lw_ms 2 rfl) rfl
theorem qs3 : (Cond.selects "TwoSlips$Course" ⟨"TwoSlips$Course", "heaps", "(I[J)V"⟩ ⟨"TwoSlips$Course", "heaps", "(I[J)V"⟩) ∈ lw_all := lw_g (lw_at lw_ms 3 rfl) rfl
theorem qs4 : (Cond.selects "TwoSlips$Course" ⟨"TwoSlips$Course", "isLiar", "(I)Z"⟩ ⟨"TwoSlips$Course", "isLiar", "(I)Z"⟩) ∈ lw_all := lw_g (lw_at lw_ms 4 rfl) rfl
theorem qs5 : (Cond.selects "TwoSlips" ⟨"TwoSlips", "lying", "(I)LTwoSlips$Course;"⟩ ⟨"TwoSlips", "lying", "(I)LTwoSlips$Course;"⟩) ∈ lw_all := lw_g (lw_at lw_ms 5 rfl) rfl
theorem qs6 : (Cond.selects "TwoSlips" ⟨"TwoSlips", "fresh", "()LTwoSlips$Course;"⟩ ⟨"TwoSlips", "fresh", "()LTwoSlips$Course;"⟩) ∈ lw_all := lw_g (lw_at lw_ms 6 rfl) rfl
theorem qs7 : (Cond.selects "java/lang/NullPointerException" ⟨"java/lang/NullPointerException", "getExtendedNPEMessage", "()Ljava/lang/String;"⟩ ⟨"java/lang/NullPointerException", "getExtendedNPEMessage", "()Ljava/lang/String;"⟩) ∈ lw_all := lw_g (lw_at lw_ms 7 rfl) rfl
theorem qs8 : (Cond.selects "java/lang/Throwable" ⟨"java/lang/Throwable", "fillInStackTrace", "(I)Ljava/lang/Throwable;"⟩ ⟨"java/lang/Throwable", "fillInStackTrace", "(I)Ljava/lang/Throwable;"⟩) ∈ lw_all := lw_g (lw_at lw_ms 8 rfl) rfl
theorem qs9 : (Cond.selects "TwoSlips$Reader" ⟨"TwoSlips$Reader", "next", "()V"⟩ ⟨"TwoSlips$Reader", "next", "()V"⟩) ∈ lw_all := lw_g (lw_at lw_ms 9 rfl) rfl
theorem qs10 : (Cond.selects "TwoSlips$Reader" ⟨"TwoSlips$Reader", "isSmall", "(I)Z"⟩ ⟨"TwoSlips$Reader", "isSmall", "(I)Z"⟩) ∈ lw_all := lw_g (lw_at lw_ms 10 rfl) rfl
theorem qs11 : (Cond.selects "TwoSlips$Reader" ⟨"TwoSlips$Reader", "isDigit", "(I)Z"⟩ ⟨"TwoSlips$Reader", "isDigit", "(I)Z"⟩) ∈ lw_all := lw_g (lw_at lw_ms 11 rfl) rfl
theorem qs12 : (Cond.selects "TwoSlips$Reader" ⟨"TwoSlips$Reader", "line", "()V"⟩ ⟨"TwoSlips$Reader", "line", "()V"⟩) ∈ lw_all := lw_g (lw_at lw_ms 12 rfl) rfl
theorem qs13 : (Cond.selects "TwoSlips$Reader" ⟨"TwoSlips$Reader", "is", "(Ljava/lang/String;)Z"⟩ ⟨"TwoSlips$Reader", "is", "(Ljava/lang/String;)Z"⟩) ∈ lw_all := lw_g (lw_at lw_ms 13 rfl) rfl
theorem qs14 : (Cond.selects "TwoSlips$Reader" ⟨"TwoSlips$Reader", "isAt", "(Ljava/lang/String;I)Z"⟩ ⟨"TwoSlips$Reader", "isAt", "(Ljava/lang/String;I)Z"⟩) ∈ lw_all := lw_g (lw_at lw_ms 14 rfl) rfl
theorem qs15 : (Cond.selects "TwoSlips$Reader" ⟨"TwoSlips$Reader", "numbers", "()V"⟩ ⟨"TwoSlips$Reader", "numbers", "()V"⟩) ∈ lw_all := lw_g (lw_at lw_ms 15 rfl) rfl
theorem qs16 : (Cond.selects "TwoSlips$Reader" ⟨"TwoSlips$Reader", "number", "(II)I"⟩ ⟨"TwoSlips$Reader", "number", "(II)I"⟩) ∈ lw_all := lw_g (lw_at lw_ms 16 rfl) rfl
theorem qs17 : (Cond.selects "TwoSlips$Reader" ⟨"TwoSlips$Reader", "wrong", "()LTwoSlips$Bad;"⟩ ⟨"TwoSlips$Reader", "wrong", "()LTwoSlips$Bad;"⟩) ∈ lw_all := lw_g (lw_at lw_ms 17 rfl) rfl
theorem qs18 : (Cond.selects "TwoSlips$Reader" ⟨"TwoSlips$Reader", "eats", "(Ljava/lang/String;)Z"⟩ ⟨"TwoSlips$Reader", "eats", "(Ljava/lang/String;)Z"⟩) ∈ lw_all := lw_g (lw_at lw_ms 18 rfl) rfl
theorem qs19 : (Cond.selects "TwoSlips$Reader" ⟨"TwoSlips$Reader", "teller", "()V"⟩ ⟨"TwoSlips$Reader", "teller", "()V"⟩) ∈ lw_all := lw_g (lw_at lw_ms 19 rfl) rfl
theorem qs20 : (Cond.selects "TwoSlips$Reader" ⟨"TwoSlips$Reader", "sightHere", "()I"⟩ ⟨"TwoSlips$Reader", "sightHere", "()I"⟩) ∈ lw_all := lw_g (lw_at lw_ms 20 rfl) rfl
theorem qs21 : (Cond.selects "java/util/ArrayList" ⟨"java/util/ArrayList", "add", "(Ljava/lang/Object;[Ljava/lang/Object;I)V"⟩ ⟨"java/util/ArrayList", "add", "(Ljava/lang/Object;[Ljava/lang/Object;I)V"⟩) ∈ lw_all := lw_g (lw_at lw_ms 21 rfl) rfl
theorem qs22 : (Cond.selects "java/util/ArrayList" ⟨"java/util/ArrayList", "grow", "()[Ljava/lang/Object;"⟩ ⟨"java/util/ArrayList", "grow", "()[Ljava/lang/Object;"⟩) ∈ lw_all := lw_g (lw_at lw_ms 22 rfl) rfl
theorem qs23 : (Cond.selects "java/util/ArrayList" ⟨"java/util/ArrayList", "grow", "(I)[Ljava/lang/Object;"⟩ ⟨"java/util/ArrayList", "grow", "(I)[Ljava/lang/Object;"⟩) ∈ lw_all := lw_g (lw_at lw_ms 23 rfl) rfl
theorem qs24 : (Cond.selects "TwoSlips$Reader" ⟨"TwoSlips$Reader", "say", "()V"⟩ ⟨"TwoSlips$Reader", "say", "()V"⟩) ∈ lw_all := lw_g (lw_at lw_ms 24 rfl) rfl
theorem qs25 : (Cond.selects "TwoSlips$Reader" ⟨"TwoSlips$Reader", "speaker", "()I"⟩ ⟨"TwoSlips$Reader", "speaker", "()I"⟩) ∈ lw_all := lw_g (lw_at lw_ms 25 rfl) rfl
theorem qs26 : (Cond.selects "TwoSlips$Reader" ⟨"TwoSlips$Reader", "saying", "()LTwoSlips$Saying;"⟩ ⟨"TwoSlips$Reader", "saying", "()LTwoSlips$Saying;"⟩) ∈ lw_all := lw_g (lw_at lw_ms 26 rfl) rfl
theorem qs27 : (Cond.selects "TwoSlips$Reader" ⟨"TwoSlips$Reader", "part", "()LTwoSlips$Saying;"⟩ ⟨"TwoSlips$Reader", "part", "()LTwoSlips$Saying;"⟩) ∈ lw_all := lw_g (lw_at lw_ms 27 rfl) rfl
theorem qs28 : (Cond.selects "TwoSlips$Reader" ⟨"TwoSlips$Reader", "fact", "()LTwoSlips$Saying;"⟩ ⟨"TwoSlips$Reader", "fact", "()LTwoSlips$Saying;"⟩) ∈ lw_all := lw_g (lw_at lw_ms 28 rfl) rfl
theorem qs29 : (Cond.selects "TwoSlips$Reader" ⟨"TwoSlips$Reader", "within", "()LTwoSlips$Saying;"⟩ ⟨"TwoSlips$Reader", "within", "()LTwoSlips$Saying;"⟩) ∈ lw_all := lw_g (lw_at lw_ms 29 rfl) rfl
theorem qs30 : (Cond.selects "TwoSlips$Reader" ⟨"TwoSlips$Reader", "opens", "()V"⟩ ⟨"TwoSlips$Reader", "opens", "()V"⟩) ∈ lw_all := lw_g (lw_at lw_ms 30 rfl) rfl
theorem qs31 : (Cond.selects "TwoSlips$Reader" ⟨"TwoSlips$Reader", "must", "(I)V"⟩ ⟨"TwoSlips$Reader", "must", "(I)V"⟩) ∈ lw_all := lw_g (lw_at lw_ms 31 rfl) rfl
theorem qs32 : (Cond.selects "TwoSlips" ⟨"TwoSlips", "begins", "(LTwoSlips$Talk;)V"⟩ ⟨"TwoSlips", "begins", "(LTwoSlips$Talk;)V"⟩) ∈ lw_all := lw_g (lw_at lw_ms 32 rfl) rfl
theorem qs33 : (Cond.selects "TwoSlips" ⟨"TwoSlips", "mustWorld", "(I)V"⟩ ⟨"TwoSlips", "mustWorld", "(I)V"⟩) ∈ lw_all := lw_g (lw_at lw_ms 33 rfl) rfl
theorem qs34 : (Cond.selects "TwoSlips" ⟨"TwoSlips", "mustSpeaker", "(I)V"⟩ ⟨"TwoSlips", "mustSpeaker", "(I)V"⟩) ∈ lw_all := lw_g (lw_at lw_ms 34 rfl) rfl
theorem qs35 : (Cond.selects "TwoSlips" ⟨"TwoSlips", "turnsOf", "(I)I"⟩ ⟨"TwoSlips", "turnsOf", "(I)I"⟩) ∈ lw_all := lw_g (lw_at lw_ms 35 rfl) rfl
theorem qs36 : (Cond.selects "TwoSlips" ⟨"TwoSlips", "turnOf", "(I)LTwoSlips$Turn;"⟩ ⟨"TwoSlips", "turnOf", "(I)LTwoSlips$Turn;"⟩) ∈ lw_all := lw_g (lw_at lw_ms 36 rfl) rfl
theorem qs37 : (Cond.selects "TwoSlips" ⟨"TwoSlips", "mustTurns", "(I)V"⟩ ⟨"TwoSlips", "mustTurns", "(I)V"⟩) ∈ lw_all := lw_g (lw_at lw_ms 37 rfl) rfl
theorem qs38 : (Cond.selects "TwoSlips" ⟨"TwoSlips", "reaching", "(II)LTwoSlips$Course;"⟩ ⟨"TwoSlips", "reaching", "(II)LTwoSlips$Course;"⟩) ∈ lw_all := lw_g (lw_at lw_ms 38 rfl) rfl
theorem qs39 : (Cond.selects "TwoSlips" ⟨"TwoSlips", "mustTwo", "(II)V"⟩ ⟨"TwoSlips", "mustTwo", "(II)V"⟩) ∈ lw_all := lw_g (lw_at lw_ms 39 rfl) rfl
theorem qs40 : (Cond.selects "TwoSlips$Soonest" ⟨"TwoSlips$Soonest", "knowsAny", "(IIZ)Z"⟩ ⟨"TwoSlips$Soonest", "knowsAny", "(IIZ)Z"⟩) ∈ lw_all := lw_g (lw_at lw_ms 40 rfl) rfl
theorem qs41 : (Cond.selects "TwoSlips$Orders" ⟨"TwoSlips$Orders", "goes", "(II)V"⟩ ⟨"TwoSlips$Orders", "goes", "(II)V"⟩) ∈ lw_all := lw_g (lw_at lw_ms 41 rfl) rfl
theorem qs42 : (Cond.selects "TwoSlips" ⟨"TwoSlips", "trayOf", "(I)LTwoSlips$Tray;"⟩ ⟨"TwoSlips", "trayOf", "(I)LTwoSlips$Tray;"⟩) ∈ lw_all := lw_g (lw_at lw_ms 42 rfl) rfl
theorem qs43 : (Cond.selects "TwoSlips" ⟨"TwoSlips", "answersOf", "(LTwoSlips$Tray;)I"⟩ ⟨"TwoSlips", "answersOf", "(LTwoSlips$Tray;)I"⟩) ∈ lw_all := lw_g (lw_at lw_ms 43 rfl) rfl
theorem qs44 : (Cond.selects "TwoSlipsModel" ⟨"TwoSlipsModel", "fails", "(I)I"⟩ ⟨"TwoSlipsModel", "fails", "(I)I"⟩) ∈ lw_all := lw_g (lw_at lw_ms 44 rfl) rfl
theorem qs45 : (Cond.selects "TwoSlipsModel" ⟨"TwoSlipsModel", "reads", "()V"⟩ ⟨"TwoSlipsModel", "reads", "()V"⟩) ∈ lw_all := lw_g (lw_at lw_ms 45 rfl) rfl
theorem qs46 : (Cond.selects "TwoSlipsModel" ⟨"TwoSlipsModel", "see", "(I)I"⟩ ⟨"TwoSlipsModel", "see", "(I)I"⟩) ∈ lw_all := lw_g (lw_at lw_ms 46 rfl) rfl
theorem qs47 : (Cond.selects "TwoSlipsModel" ⟨"TwoSlipsModel", "readLine", "()V"⟩ ⟨"TwoSlipsModel", "readLine", "()V"⟩) ∈ lw_all := lw_g (lw_at lw_ms 47 rfl) rfl
theorem qs48 : (Cond.selects "TwoSlipsModel" ⟨"TwoSlipsModel", "took", "(Ljava/lang/String;)Z"⟩ ⟨"TwoSlipsModel", "took", "(Ljava/lang/String;)Z"⟩) ∈ lw_all := lw_g (lw_at lw_ms 48 rfl) rfl
theorem qs49 : (Cond.selects "TwoSlipsModel" ⟨"TwoSlipsModel", "isWord", "(Ljava/lang/String;)Z"⟩ ⟨"TwoSlipsModel", "isWord", "(Ljava/lang/String;)Z"⟩) ∈ lw_all := lw_g (lw_at lw_ms 49 rfl) rfl
theorem qs50 : (Cond.selects "TwoSlipsModel" ⟨"TwoSlipsModel", "number", "(II)I"⟩ ⟨"TwoSlipsModel", "number", "(II)I"⟩) ∈ lw_all := lw_g (lw_at lw_ms 50 rfl) rfl
theorem qs51 : (Cond.selects "TwoSlipsModel" ⟨"TwoSlipsModel", "blames", "(I)V"⟩ ⟨"TwoSlipsModel", "blames", "(I)V"⟩) ∈ lw_all := lw_g (lw_at lw_ms 51 rfl) rfl
theorem qs52 : (Cond.selects "TwoSlipsModel" ⟨"TwoSlipsModel", "readSpeaker", "()V"⟩ ⟨"TwoSlipsModel", "readSpeaker", "()V"⟩) ∈ lw_all := lw_g (lw_at lw_ms 52 rfl) rfl
theorem qs53 : (Cond.selects "TwoSlipsModel" ⟨"TwoSlipsModel", "sightTold", "()I"⟩ ⟨"TwoSlipsModel", "sightTold", "()I"⟩) ∈ lw_all := lw_g (lw_at lw_ms 53 rfl) rfl
theorem qs54 : (Cond.selects "TwoSlipsModel" ⟨"TwoSlipsModel", "readTurn", "()V"⟩ ⟨"TwoSlipsModel", "readTurn", "()V"⟩) ∈ lw_all := lw_g (lw_at lw_ms 54 rfl) rfl
theorem qs55 : (Cond.selects "TwoSlipsModel" ⟨"TwoSlipsModel", "speakerTold", "()I"⟩ ⟨"TwoSlipsModel", "speakerTold", "()I"⟩) ∈ lw_all := lw_g (lw_at lw_ms 55 rfl) rfl
theorem qs56 : (Cond.selects "TwoSlipsModel" ⟨"TwoSlipsModel", "readSaying", "()I"⟩ ⟨"TwoSlipsModel", "readSaying", "()I"⟩) ∈ lw_all := lw_g (lw_at lw_ms 56 rfl) rfl
theorem qs57 : (Cond.selects "TwoSlipsModel" ⟨"TwoSlipsModel", "readJoined", "(Z)I"⟩ ⟨"TwoSlipsModel", "readJoined", "(Z)I"⟩) ∈ lw_all := lw_g (lw_at lw_ms 57 rfl) rfl
theorem qs58 : (Cond.selects "TwoSlipsModel" ⟨"TwoSlipsModel", "readFact", "()I"⟩ ⟨"TwoSlipsModel", "readFact", "()I"⟩) ∈ lw_all := lw_g (lw_at lw_ms 58 rfl) rfl
theorem qs59 : (Cond.selects "TwoSlipsModel" ⟨"TwoSlipsModel", "opens", "()V"⟩ ⟨"TwoSlipsModel", "opens", "()V"⟩) ∈ lw_all := lw_g (lw_at lw_ms 59 rfl) rfl
theorem qs60 : (Cond.selects "TwoSlipsModel" ⟨"TwoSlipsModel", "mark", "(III)I"⟩ ⟨"TwoSlipsModel", "mark", "(III)I"⟩) ∈ lw_all := lw_g (lw_at lw_ms 60 rfl) rfl
theorem qs61 : (Cond.selects "TwoSlipsModel" ⟨"TwoSlipsModel", "isSign", "(I)Z"⟩ ⟨"TwoSlipsModel", "isSign", "(I)Z"⟩) ∈ lw_all := lw_g (lw_at lw_ms 61 rfl) rfl
theorem qs62 : (Cond.selects "TwoSlipsModel" ⟨"TwoSlipsModel", "readWithin", "()I"⟩ ⟨"TwoSlipsModel", "readWithin", "()I"⟩) ∈ lw_all := lw_g (lw_at lw_ms 62 rfl) rfl
theorem qs63 : (Cond.selects "TwoSlipsModel" ⟨"TwoSlipsModel", "sign", "(I)V"⟩ ⟨"TwoSlipsModel", "sign", "(I)V"⟩) ∈ lw_all := lw_g (lw_at lw_ms 63 rfl) rfl
theorem qs64 : (Cond.selects "TwoSlipsModel" ⟨"TwoSlipsModel", "beside", "(II)V"⟩ ⟨"TwoSlipsModel", "beside", "(II)V"⟩) ∈ lw_all := lw_g (lw_at lw_ms 64 rfl) rfl
theorem qs65 : (Cond.selects "TwoSlipsModel" ⟨"TwoSlipsModel", "isWorld", "(I)Z"⟩ ⟨"TwoSlipsModel", "isWorld", "(I)Z"⟩) ∈ lw_all := lw_g (lw_at lw_ms 65 rfl) rfl
theorem qs66 : (Cond.selects "TwoSlipsModel" ⟨"TwoSlipsModel", "layPairs", "()V"⟩ ⟨"TwoSlipsModel", "layPairs", "()V"⟩) ∈ lw_all := lw_g (lw_at lw_ms 66 rfl) rfl
theorem qs67 : (Cond.selects "TwoSlipsModel" ⟨"TwoSlipsModel", "isSpeaker", "(I)Z"⟩ ⟨"TwoSlipsModel", "isSpeaker", "(I)Z"⟩) ∈ lw_all := lw_g (lw_at lw_ms 67 rfl) rfl
theorem qs68 : (Cond.selects "TwoSlipsModel" ⟨"TwoSlipsModel", "slip", "(II)I"⟩ ⟨"TwoSlipsModel", "slip", "(II)I"⟩) ∈ lw_all := lw_g (lw_at lw_ms 68 rfl) rfl
theorem qs69 : (Cond.selects "TwoSlipsModel" ⟨"TwoSlipsModel", "of", "(II)I"⟩ ⟨"TwoSlipsModel", "of", "(II)I"⟩) ∈ lw_all := lw_g (lw_at lw_ms 69 rfl) rfl
theorem qs70 : (Cond.selects "TwoSlipsModel" ⟨"TwoSlipsModel", "turnsOf", "(I)I"⟩ ⟨"TwoSlipsModel", "turnsOf", "(I)I"⟩) ∈ lw_all := lw_g (lw_at lw_ms 70 rfl) rfl
theorem qs71 : (Cond.selects "TwoSlipsModel" ⟨"TwoSlipsModel", "who", "(I)I"⟩ ⟨"TwoSlipsModel", "who", "(I)I"⟩) ∈ lw_all := lw_g (lw_at lw_ms 71 rfl) rfl
theorem qs72 : (Cond.selects "TwoSlipsModel" ⟨"TwoSlipsModel", "isTurn", "(I)Z"⟩ ⟨"TwoSlipsModel", "isTurn", "(I)Z"⟩) ∈ lw_all := lw_g (lw_at lw_ms 72 rfl) rfl
theorem qs73 : (Cond.selects "TwoSlipsModel" ⟨"TwoSlipsModel", "isBehind", "(I)Z"⟩ ⟨"TwoSlipsModel", "isBehind", "(I)Z"⟩) ∈ lw_all := lw_g (lw_at lw_ms 73 rfl) rfl
theorem qs74 : (Cond.selects "TwoSlipsModel" ⟨"TwoSlipsModel", "lays", "()V"⟩ ⟨"TwoSlipsModel", "lays", "()V"⟩) ∈ lw_all := lw_g (lw_at lw_ms 74 rfl) rfl
theorem qs75 : (Cond.selects "TwoSlipsModel" ⟨"TwoSlipsModel", "fills", "(IZ)V"⟩ ⟨"TwoSlipsModel", "fills", "(IZ)V"⟩) ∈ lw_all := lw_g (lw_at lw_ms 75 rfl) rfl
theorem qs76 : (Cond.selects "TwoSlipsModel" ⟨"TwoSlipsModel", "puts", "(IIZ)V"⟩ ⟨"TwoSlipsModel", "puts", "(IIZ)V"⟩) ∈ lw_all := lw_g (lw_at lw_ms 76 rfl) rfl
theorem qs77 : (Cond.selects "TwoSlipsModel" ⟨"TwoSlipsModel", "mays", "(I)I"⟩ ⟨"TwoSlipsModel", "mays", "(I)I"⟩) ∈ lw_all := lw_g (lw_at lw_ms 77 rfl) rfl
theorem qs78 : (Cond.selects "TwoSlipsModel" ⟨"TwoSlipsModel", "soIn", "(II)I"⟩ ⟨"TwoSlipsModel", "soIn", "(II)I"⟩) ∈ lw_all := lw_g (lw_at lw_ms 78 rfl) rfl
theorem qs79 : (Cond.selects "TwoSlipsModel" ⟨"TwoSlipsModel", "markOf", "(II)I"⟩ ⟨"TwoSlipsModel", "markOf", "(II)I"⟩) ∈ lw_all := lw_g (lw_at lw_ms 79 rfl) rfl
theorem qs80 : (Cond.selects "TwoSlipsModel" ⟨"TwoSlipsModel", "pushes", "()I"⟩ ⟨"TwoSlipsModel", "pushes", "()I"⟩) ∈ lw_all := lw_g (lw_at lw_ms 80 rfl) rfl
theorem qs81 : (Cond.selects "TwoSlipsModel" ⟨"TwoSlipsModel", "joins", "(IIIZ)V"⟩ ⟨"TwoSlipsModel", "joins", "(IIIZ)V"⟩) ∈ lw_all := lw_g (lw_at lw_ms 81 rfl) rfl
theorem qs82 : (Cond.selects "TwoSlipsModel" ⟨"TwoSlipsModel", "has", "(II)Z"⟩ ⟨"TwoSlipsModel", "has", "(II)Z"⟩) ∈ lw_all := lw_g (lw_at lw_ms 82 rfl) rfl
theorem qs83 : (Cond.selects "TwoSlipsModel" ⟨"TwoSlipsModel", "laysKnowing", "(III)V"⟩ ⟨"TwoSlipsModel", "laysKnowing", "(III)V"⟩) ∈ lw_all := lw_g (lw_at lw_ms 83 rfl) rfl
theorem qs84 : (Cond.selects "TwoSlipsModel" ⟨"TwoSlipsModel", "heapUp", "(III)V"⟩ ⟨"TwoSlipsModel", "heapUp", "(III)V"⟩) ∈ lw_all := lw_g (lw_at lw_ms 84 rfl) rfl
theorem qs85 : (Cond.selects "TwoSlipsModel" ⟨"TwoSlipsModel", "laysSeeing", "(III)V"⟩ ⟨"TwoSlipsModel", "laysSeeing", "(III)V"⟩) ∈ lw_all := lw_g (lw_at lw_ms 85 rfl) rfl
theorem qs86 : (Cond.selects "TwoSlipsModel" ⟨"TwoSlipsModel", "manyOf", "(I)I"⟩ ⟨"TwoSlipsModel", "manyOf", "(I)I"⟩) ∈ lw_all := lw_g (lw_at lw_ms 86 rfl) rfl
theorem qs87 : (Cond.selects "TwoSlipsModel" ⟨"TwoSlipsModel", "onlyNow", "()I"⟩ ⟨"TwoSlipsModel", "onlyNow", "()I"⟩) ∈ lw_all := lw_g (lw_at lw_ms 87 rfl) rfl
theorem qs88 : (Cond.selects "TwoSlipsModel" ⟨"TwoSlipsModel", "leftNow", "()I"⟩ ⟨"TwoSlipsModel", "leftNow", "()I"⟩) ∈ lw_all := lw_g (lw_at lw_ms 88 rfl) rfl
theorem qs89 : (Cond.selects "TwoSlipsModel" ⟨"TwoSlipsModel", "first", "(I)I"⟩ ⟨"TwoSlipsModel", "first", "(I)I"⟩) ∈ lw_all := lw_g (lw_at lw_ms 89 rfl) rfl
theorem qs90 : (Cond.selects "TwoSlipsModel" ⟨"TwoSlipsModel", "askFault", "(III)I"⟩ ⟨"TwoSlipsModel", "askFault", "(III)I"⟩) ∈ lw_all := lw_g (lw_at lw_ms 90 rfl) rfl
theorem qs91 : (Cond.selects "TwoSlipsModel" ⟨"TwoSlipsModel", "leftWith", "(II)I"⟩ ⟨"TwoSlipsModel", "leftWith", "(II)I"⟩) ∈ lw_all := lw_g (lw_at lw_ms 91 rfl) rfl
theorem qs92 : (Cond.selects "TwoSlipsModel" ⟨"TwoSlipsModel", "twoFault", "(II)I"⟩ ⟨"TwoSlipsModel", "twoFault", "(II)I"⟩) ∈ lw_all := lw_g (lw_at lw_ms 92 rfl) rfl
theorem qs93 : (Cond.selects "TwoSlipsModel" ⟨"TwoSlipsModel", "mutes", "(II)I"⟩ ⟨"TwoSlipsModel", "mutes", "(II)I"⟩) ∈ lw_all := lw_g (lw_at lw_ms 93 rfl) rfl
theorem qs94 : (Cond.selects "TwoSlipsModel" ⟨"TwoSlipsModel", "laysAnswers", "(IIZI)V"⟩ ⟨"TwoSlipsModel", "laysAnswers", "(IIZI)V"⟩) ∈ lw_all := lw_g (lw_at lw_ms 94 rfl) rfl
theorem qs95 : (Cond.selects "TwoSlipsModel" ⟨"TwoSlipsModel", "areSpeakers", "(I)Z"⟩ ⟨"TwoSlipsModel", "areSpeakers", "(I)Z"⟩) ∈ lw_all := lw_g (lw_at lw_ms 95 rfl) rfl
theorem qs96 : (Cond.selects "TwoSlipsModel" ⟨"TwoSlipsModel", "soon", "(IIIII)Z"⟩ ⟨"TwoSlipsModel", "soon", "(IIIII)Z"⟩) ∈ lw_all := lw_g (lw_at lw_ms 96 rfl) rfl
theorem qs97 : (Cond.selects "TwoSlipsModel" ⟨"TwoSlipsModel", "none", "(III)Z"⟩ ⟨"TwoSlipsModel", "none", "(III)Z"⟩) ∈ lw_all := lw_g (lw_at lw_ms 97 rfl) rfl
theorem qs98 : (Cond.selects "TwoSlipsModel" ⟨"TwoSlipsModel", "knowsAt", "(III)Z"⟩ ⟨"TwoSlipsModel", "knowsAt", "(III)Z"⟩) ∈ lw_all := lw_g (lw_at lw_ms 98 rfl) rfl
theorem qs99 : (Cond.selects "TwoSlipsModel" ⟨"TwoSlipsModel", "all", "(III)Z"⟩ ⟨"TwoSlipsModel", "all", "(III)Z"⟩) ∈ lw_all := lw_g (lw_at lw_ms 99 rfl) rfl
theorem qs100 : (Cond.selects "TwoSlipsModel" ⟨"TwoSlipsModel", "shortBy", "(II)Z"⟩ ⟨"TwoSlipsModel", "shortBy", "(II)Z"⟩) ∈ lw_all := lw_g (lw_at lw_ms 100 rfl) rfl
theorem qs101 : (Cond.selects "TwoSlipsModel" ⟨"TwoSlipsModel", "leftBy", "(I)I"⟩ ⟨"TwoSlipsModel", "leftBy", "(I)I"⟩) ∈ lw_all := lw_g (lw_at lw_ms 101 rfl) rfl
theorem qs102 : (Cond.selects "TwoSlipsModel" ⟨"TwoSlipsModel", "triesOrders", "(III)V"⟩ ⟨"TwoSlipsModel", "triesOrders", "(III)V"⟩) ∈ lw_all := lw_g (lw_at lw_ms 102 rfl) rfl
theorem qs103 : (Cond.selects "TwoSlipsModel" ⟨"TwoSlipsModel", "trayFault", "(I)I"⟩ ⟨"TwoSlipsModel", "trayFault", "(I)I"⟩) ∈ lw_all := lw_g (lw_at lw_ms 103 rfl) rfl
theorem qs104 : (Cond.selects "TwoSlipsModel" ⟨"TwoSlipsModel", "cut", "(IIJ)J"⟩ ⟨"TwoSlipsModel", "cut", "(IIJ)J"⟩) ∈ lw_all := lw_g (lw_at lw_ms 104 rfl) rfl
