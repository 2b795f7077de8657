/-! TwoSlips$Talk -/
set_option maxRecDepth 100000
def RX2 : String := "TwoSlips$Talk"
def TX2 : u_T := fun k => match k with
  | 0 => ("TwoSlips$Talk", "speakers", "Ljava/util/ArrayList;", true)
  | 1 => ("TwoSlips$Talk", "turns", "Ljava/util/ArrayList;", true)
  | 2 => ("TwoSlips$Talk", "low", "I", false)
  | 3 => ("TwoSlips$Talk", "high", "I", false)
  | 4 => ("TwoSlips$Talk", "most", "I", false)
  | 5 => ("TwoSlips$Talk", "lines", "I", false)
  | _ => ("TwoSlips$Talk", "isUnlike", "Z", false)
def tyX2 : Nat → FieldType := fun k => match k with
  | 0 => .object "java/util/ArrayList"
  | 1 => .object "java/util/ArrayList"
  | 2 => .int
  | 3 => .int
  | 4 => .int
  | 5 => .int
  | _ => .boolean
abbrev wsX20 : List Cond := u_ws RX2 TX2 7
theorem nmX2 : ∀ a, a < 7 → ∀ b, b < 7 → a ≠ b → (TX2 a).2.1 ≠ (TX2 b).2.1 := by decide +kernel
theorem tyX2_ok : ∀ k, k < 7 → parseFieldDescriptor (TX2 k).2.2.1 = some (tyX2 k) := by decide +kernel
abbrev cX2_init : ByteArray := prog_28_method_1_code
def yX2_init : MethodName := ⟨RX2, "<init>", "()V"⟩
def dkwX2_init_1 : List UInt8 := [181, 0, 18, 42, 5, 181, 0, 21, 42, 16, 20, 181, 0, 25, 42, 16, 120, 181, 0, 28, 177]
abbrev dktX2_init_1 : List UInt8 := dkwX2_init_1 ++ []
def dkwX2_init_0 : List UInt8 := [42, 183, 0, 3, 42, 187, 0, 9, 89, 183, 0, 11, 181, 0, 12, 42, 187, 0, 9, 89, 183, 0, 11]
abbrev dktX2_init_0 : List UInt8 := dkwX2_init_0 ++ dktX2_init_1
theorem dksX2_init_0 : cX2_init.data.toList.drop 0 = dktX2_init_0 := by decide +kernel
theorem dksX2_init_1 : cX2_init.data.toList.drop 23 = dktX2_init_1 := dk_seg dksX2_init_0 23 rfl rfl
theorem dX2_init_0 : decode cX2_init 0 = .ok (.aload_n 0, 1) := dk_42 (dk_at dksX2_init_0 0 rfl rfl)
theorem dX2_init_1 : decode cX2_init 1 = .ok (.invokespecial 3, 3) := dk_183 0 3 (dk_at dksX2_init_0 1 rfl rfl)
theorem dX2_init_4 : decode cX2_init 4 = .ok (.aload_n 0, 1) := dk_42 (dk_at dksX2_init_0 4 rfl rfl)
theorem dX2_init_5 : decode cX2_init 5 = .ok (.new 9, 3) := dk_187 0 9 (dk_at dksX2_init_0 5 rfl rfl)
theorem dX2_init_8 : decode cX2_init 8 = .ok (.dup, 1) := dk_89 (dk_at dksX2_init_0 8 rfl rfl)
theorem dX2_init_9 : decode cX2_init 9 = .ok (.invokespecial 11, 3) := dk_183 0 11 (dk_at dksX2_init_0 9 rfl rfl)
theorem dX2_init_12 : decode cX2_init 12 = .ok (.putfield 12, 3) := dk_181 0 12 (dk_at dksX2_init_0 12 rfl rfl)
theorem dX2_init_15 : decode cX2_init 15 = .ok (.aload_n 0, 1) := dk_42 (dk_at dksX2_init_0 15 rfl rfl)
theorem dX2_init_16 : decode cX2_init 16 = .ok (.new 9, 3) := dk_187 0 9 (dk_at dksX2_init_0 16 rfl rfl)
theorem dX2_init_19 : decode cX2_init 19 = .ok (.dup, 1) := dk_89 (dk_at dksX2_init_0 19 rfl rfl)
theorem dX2_init_20 : decode cX2_init 20 = .ok (.invokespecial 11, 3) := dk_183 0 11 (dk_at dksX2_init_0 20 rfl rfl)
theorem dX2_init_23 : decode cX2_init 23 = .ok (.putfield 18, 3) := dk_181 0 18 (dk_at dksX2_init_1 0 rfl rfl)
theorem dX2_init_26 : decode cX2_init 26 = .ok (.aload_n 0, 1) := dk_42 (dk_at dksX2_init_1 3 rfl rfl)
theorem dX2_init_27 : decode cX2_init 27 = .ok (.iconst 2, 1) := dk_5 (dk_at dksX2_init_1 4 rfl rfl)
theorem dX2_init_28 : decode cX2_init 28 = .ok (.putfield 21, 3) := dk_181 0 21 (dk_at dksX2_init_1 5 rfl rfl)
theorem dX2_init_31 : decode cX2_init 31 = .ok (.aload_n 0, 1) := dk_42 (dk_at dksX2_init_1 8 rfl rfl)
theorem dX2_init_32 : decode cX2_init 32 = .ok (.bipush 20, 2) := dk_16 20 (dk_at dksX2_init_1 9 rfl rfl)
theorem dX2_init_34 : decode cX2_init 34 = .ok (.putfield 25, 3) := dk_181 0 25 (dk_at dksX2_init_1 11 rfl rfl)
theorem dX2_init_37 : decode cX2_init 37 = .ok (.aload_n 0, 1) := dk_42 (dk_at dksX2_init_1 14 rfl rfl)
theorem dX2_init_38 : decode cX2_init 38 = .ok (.bipush 120, 2) := dk_16 120 (dk_at dksX2_init_1 15 rfl rfl)
theorem dX2_init_40 : decode cX2_init 40 = .ok (.putfield 28, 3) := dk_181 0 28 (dk_at dksX2_init_1 17 rfl rfl)
theorem dX2_init_43 : decode cX2_init 43 = .ok (.return_, 1) := dk_177 (dk_at dksX2_init_1 20 rfl rfl)
abbrev cX2_speaker : ByteArray := prog_28_method_2_code
def yX2_speaker : MethodName := ⟨RX2, "speaker", "(I)LTwoSlips$Speaker;"⟩
def dkwX2_speaker_0 : List UInt8 := [42, 180, 0, 12, 27, 182, 0, 31, 192, 0, 35, 176]
abbrev dktX2_speaker_0 : List UInt8 := dkwX2_speaker_0 ++ []
theorem dksX2_speaker_0 : cX2_speaker.data.toList.drop 0 = dktX2_speaker_0 := by decide +kernel
theorem dX2_speaker_0 : decode cX2_speaker 0 = .ok (.aload_n 0, 1) := dk_42 (dk_at dksX2_speaker_0 0 rfl rfl)
theorem dX2_speaker_1 : decode cX2_speaker 1 = .ok (.getfield 12, 3) := dk_180 0 12 (dk_at dksX2_speaker_0 1 rfl rfl)
theorem dX2_speaker_4 : decode cX2_speaker 4 = .ok (.iload_n 1, 1) := dk_27 (dk_at dksX2_speaker_0 4 rfl rfl)
theorem dX2_speaker_5 : decode cX2_speaker 5 = .ok (.invokevirtual 31, 3) := dk_182 0 31 (dk_at dksX2_speaker_0 5 rfl rfl)
theorem dX2_speaker_8 : decode cX2_speaker 8 = .ok (.checkcast 35, 3) := dk_192 0 35 (dk_at dksX2_speaker_0 8 rfl rfl)
theorem dX2_speaker_11 : decode cX2_speaker 11 = .ok (.areturn, 1) := dk_176 (dk_at dksX2_speaker_0 11 rfl rfl)
theorem q107 : (Jvm.Cond.initialized "TwoSlips$Talk") ∈ lw_all := lw_g (lw_at lw_m1 2 rfl) rfl
theorem q171 : (Jvm.Cond.instantiable "TwoSlips$Talk" (7 : Nat)) ∈ lw_all := lw_g (lw_at lw_m1 66 rfl) rfl
theorem q173 : (Jvm.Cond.instanceMethod ({ cls := "TwoSlips$Talk", name := "<init>", desc := "()V" } : Jvm.MethodName)) ∈ lw_all := lw_g (lw_at lw_m1 68 rfl) rfl
theorem q174 : (Jvm.Cond.code ({ cls := "TwoSlips$Talk", name := "<init>", desc := "()V" } : Jvm.MethodName) prog_28_method_1_code (1 : Nat) (Option.none : Option Jvm.ClassFile.FieldType)) ∈ lw_all := lw_g (lw_at lw_m1 69 rfl) rfl
theorem q175 : (Jvm.Cond.methodLink "TwoSlips$Talk" (3 : Nat) ({ cls := "java/lang/Object", name := "<init>", desc := "()V" } : Jvm.MethodName)) ∈ lw_all := lw_g (lw_at lw_m1 70 rfl) rfl
theorem q176 : (Jvm.Cond.classLink "TwoSlips$Talk" (9 : Nat) "java/util/ArrayList") ∈ lw_all := lw_g (lw_at lw_m1 71 rfl) rfl
theorem q178 : (Jvm.Cond.methodLink "TwoSlips$Talk" (11 : Nat) ({ cls := "java/util/ArrayList", name := "<init>", desc := "()V" } : Jvm.MethodName)) ∈ lw_all := lw_g (lw_at lw_m1 73 rfl) rfl
theorem q202 : (Jvm.Cond.fieldLink "TwoSlips$Talk" (12 : Nat) "TwoSlips$Talk" "speakers" "Ljava/util/ArrayList;") ∈ lw_all := lw_g (lw_at lw_m1 97 rfl) rfl
theorem q208 : (Jvm.Cond.fieldLink "TwoSlips$Talk" (18 : Nat) "TwoSlips$Talk" "turns" "Ljava/util/ArrayList;") ∈ lw_all := lw_g (lw_at lw_m1 103 rfl) rfl
theorem q213 : (Jvm.Cond.fieldLink "TwoSlips$Talk" (21 : Nat) "TwoSlips$Talk" "low" "I") ∈ lw_all := lw_g (lw_at lw_m1 108 rfl) rfl
theorem q216 : (Jvm.Cond.fieldLink "TwoSlips$Talk" (25 : Nat) "TwoSlips$Talk" "high" "I") ∈ lw_all := lw_g (lw_at lw_m1 111 rfl) rfl
theorem q219 : (Jvm.Cond.fieldLink "TwoSlips$Talk" (28 : Nat) "TwoSlips$Talk" "most" "I") ∈ lw_all := lw_g (lw_at lw_m1 114 rfl) rfl
theorem q228 : (Jvm.Cond.laysFinal "TwoSlips$Talk" "TwoSlips$Talk" "speakers" "Ljava/util/ArrayList;") ∈ lw_all := lw_g (lw_at lw_m1 123 rfl) rfl
theorem q229 : (Jvm.Cond.soleField "TwoSlips$Talk" "speakers") ∈ lw_all := lw_g (lw_at lw_m1 124 rfl) rfl
theorem q230 : (Jvm.Cond.laysFinal "TwoSlips$Talk" "TwoSlips$Talk" "turns" "Ljava/util/ArrayList;") ∈ lw_all := lw_g (lw_at lw_m1 125 rfl) rfl
theorem q231 : (Jvm.Cond.soleField "TwoSlips$Talk" "turns") ∈ lw_all := lw_g (lw_at lw_m1 126 rfl) rfl
theorem q232 : (Jvm.Cond.lays "TwoSlips$Talk" "TwoSlips$Talk" "low" "I") ∈ lw_all := lw_g (lw_at lw_m1 127 rfl) rfl
theorem q233 : (Jvm.Cond.soleField "TwoSlips$Talk" "low") ∈ lw_all := lw_g (lw_at lw_m1 128 rfl) rfl
theorem q234 : (Jvm.Cond.lays "TwoSlips$Talk" "TwoSlips$Talk" "high" "I") ∈ lw_all := lw_g (lw_at lw_m1 129 rfl) rfl
theorem q235 : (Jvm.Cond.soleField "TwoSlips$Talk" "high") ∈ lw_all := lw_g (lw_at lw_m1 130 rfl) rfl
theorem q236 : (Jvm.Cond.lays "TwoSlips$Talk" "TwoSlips$Talk" "most" "I") ∈ lw_all := lw_g (lw_at lw_m1 131 rfl) rfl
theorem q237 : (Jvm.Cond.soleField "TwoSlips$Talk" "most") ∈ lw_all := lw_g (lw_at lw_m1 132 rfl) rfl
theorem q238 : (Jvm.Cond.lays "TwoSlips$Talk" "TwoSlips$Talk" "lines" "I") ∈ lw_all := lw_g (lw_at lw_m1 133 rfl) rfl
theorem q239 : (Jvm.Cond.soleField "TwoSlips$Talk" "lines") ∈ lw_all := lw_g (lw_at lw_m1 134 rfl) rfl
theorem q240 : (Jvm.Cond.lays "TwoSlips$Talk" "TwoSlips$Talk" "isUnlike" "Z") ∈ lw_all := lw_g (lw_at lw_m1 135 rfl) rfl
theorem q241 : (Jvm.Cond.soleField "TwoSlips$Talk" "isUnlike") ∈ lw_all := lw_g (lw_at lw_m1 136 rfl) rfl
theorem q242 : (Jvm.Cond.superclass "TwoSlips$Talk" "java/lang/Object") ∈ lw_all := lw_g (lw_at lw_m1 137 rfl) rfl
theorem q526 : (Jvm.Cond.instanceMethod ({ cls := "TwoSlips$Talk", name := "speaker", desc := "(I)LTwoSlips$Speaker;" } : Jvm.MethodName)) ∈ lw_all := lw_g (lw_at lw_m2 181 rfl) rfl
theorem q527 : (Jvm.Cond.selects "TwoSlips$Talk" ({ cls := "TwoSlips$Talk", name := "speaker", desc := "(I)LTwoSlips$Speaker;" } : Jvm.MethodName) ({ cls := "TwoSlips$Talk", name := "speaker", desc := "(I)LTwoSlips$Speaker;" } : Jvm.MethodName)) ∈ lw_all := lw_g (lw_at lw_m2 182 rfl) rfl
theorem q528 : (Jvm.Cond.code ({ cls := "TwoSlips$Talk", name := "speaker", desc := "(I)LTwoSlips$Speaker;" } : Jvm.MethodName) prog_28_method_2_code (2 : Nat) (Option.some (Jvm.ClassFile.FieldType.object "TwoSlips$Speaker"))) ∈ lw_all := lw_g (lw_at lw_m2 183 rfl) rfl
theorem q529 : (Jvm.Cond.methodLink "TwoSlips$Talk" (31 : Nat) ({ cls := "java/util/ArrayList", name := "get", desc := "(I)Ljava/lang/Object;" } : Jvm.MethodName)) ∈ lw_all := lw_g (lw_at lw_m2 184 rfl) rfl
theorem q543 : (Jvm.Cond.classLink "TwoSlips$Talk" (35 : Nat) "TwoSlips$Speaker") ∈ lw_all := lw_g (lw_at lw_m2 198 rfl) rfl
theorem q1179 : (Jvm.Cond.selects "TwoSlips$Talk" ({ cls := "java/lang/Object", name := "getClass", desc := "()Ljava/lang/Class;" } : Jvm.MethodName) ({ cls := "java/lang/Object", name := "getClass", desc := "()Ljava/lang/Class;" } : Jvm.MethodName)) ∈ lw_all := lw_g (lw_at lw_m5 114 rfl) rfl
theorem q2425 : (Jvm.Cond.castable "TwoSlips$Talk" "java/lang/Object") ∈ lw_tbl := lw_at lw_m10 160 rfl
theorem in_X2 : ∀ w ∈ wsX20, w ∈ lw_all := lw_in wsX20 [228, 230, 232, 234, 236, 238, 240] (by decide +kernel) (by decide +kernel)

/-! TwoSlips$Course -/
set_option maxRecDepth 100000
def RX3 : String := "TwoSlips$Course"
def TX3 : u_T := fun k => match k with
  | 0 => ("TwoSlips$Course", "x", "[I", true)
  | 1 => ("TwoSlips$Course", "y", "[I", true)
  | 2 => ("TwoSlips$Course", "heaps", "[I", true)
  | 3 => ("TwoSlips$Course", "slips", "[[I", true)
  | 4 => ("TwoSlips$Course", "all", "[J", true)
  | 5 => ("TwoSlips$Course", "left", "[[J", true)
  | 6 => ("TwoSlips$Course", "pool", "[[J", true)
  | 7 => ("TwoSlips$Course", "talk", "LTwoSlips$Talk;", false)
  | 8 => ("TwoSlips$Course", "many", "I", false)
  | 9 => ("TwoSlips$Course", "used", "I", false)
  | _ => ("TwoSlips$Course", "liar", "I", false)
def tyX3 : Nat → FieldType := fun k => match k with
  | 0 => .array .int
  | 1 => .array .int
  | 2 => .array .int
  | 3 => .array (.array .int)
  | 4 => .array .long
  | 5 => .array (.array .long)
  | 6 => .array (.array .long)
  | 7 => .object "TwoSlips$Talk"
  | 8 => .int
  | 9 => .int
  | _ => .int
abbrev wsX30 : List Cond := u_ws RX3 TX3 11
theorem nmX3 : ∀ a, a < 11 → ∀ b, b < 11 → a ≠ b → (TX3 a).2.1 ≠ (TX3 b).2.1 := by decide +kernel
theorem tyX3_ok : ∀ k, k < 11 → parseFieldDescriptor (TX3 k).2.2.1 = some (tyX3 k) := by decide +kernel
abbrev cX3_init : ByteArray := prog_4_method_1_code
def yX3_init : MethodName := ⟨RX3, "<init>", "()V"⟩
def dkwX3_init_3 : List UInt8 := [197, 0, 30, 2, 181, 0, 35, 42, 2, 181, 0, 38, 177]
abbrev dktX3_init_3 : List UInt8 := dkwX3_init_3 ++ []
def dkwX3_init_2 : List UInt8 := [188, 11, 181, 0, 26, 42, 16, 21, 16, 29, 197, 0, 30, 2, 181, 0, 32, 42, 16, 48, 16, 29]
abbrev dktX3_init_2 : List UInt8 := dkwX3_init_2 ++ dktX3_init_3
def dkwX3_init_1 : List UInt8 := [17, 28, 132, 188, 10, 181, 0, 18, 42, 16, 6, 17, 7, 38, 197, 0, 21, 2, 181, 0, 23, 42, 16, 29]
abbrev dktX3_init_1 : List UInt8 := dkwX3_init_1 ++ dktX3_init_2
def dkwX3_init_0 : List UInt8 := [42, 183, 0, 3, 42, 17, 7, 38, 188, 10, 181, 0, 9, 42, 17, 7, 38, 188, 10, 181, 0, 15, 42]
abbrev dktX3_init_0 : List UInt8 := dkwX3_init_0 ++ dktX3_init_1
theorem dksX3_init_0 : cX3_init.data.toList.drop 0 = dktX3_init_0 := by decide +kernel
theorem dksX3_init_1 : cX3_init.data.toList.drop 23 = dktX3_init_1 := dk_seg dksX3_init_0 23 rfl rfl
theorem dksX3_init_2 : cX3_init.data.toList.drop 47 = dktX3_init_2 := dk_seg dksX3_init_1 24 rfl rfl
theorem dksX3_init_3 : cX3_init.data.toList.drop 69 = dktX3_init_3 := dk_seg dksX3_init_2 22 rfl rfl
theorem dX3_init_0 : decode cX3_init 0 = .ok (.aload_n 0, 1) := dk_42 (dk_at dksX3_init_0 0 rfl rfl)
theorem dX3_init_1 : decode cX3_init 1 = .ok (.invokespecial 3, 3) := dk_183 0 3 (dk_at dksX3_init_0 1 rfl rfl)
theorem dX3_init_4 : decode cX3_init 4 = .ok (.aload_n 0, 1) := dk_42 (dk_at dksX3_init_0 4 rfl rfl)
theorem dX3_init_5 : decode cX3_init 5 = .ok (.sipush 1830, 3) := dk_17 7 38 (dk_at dksX3_init_0 5 rfl rfl)
theorem dX3_init_8 : decode cX3_init 8 = .ok (.newarray .int, 2) := dk_188_10 (dk_at dksX3_init_0 8 rfl rfl)
theorem dX3_init_10 : decode cX3_init 10 = .ok (.putfield 9, 3) := dk_181 0 9 (dk_at dksX3_init_0 10 rfl rfl)
theorem dX3_init_13 : decode cX3_init 13 = .ok (.aload_n 0, 1) := dk_42 (dk_at dksX3_init_0 13 rfl rfl)
theorem dX3_init_14 : decode cX3_init 14 = .ok (.sipush 1830, 3) := dk_17 7 38 (dk_at dksX3_init_0 14 rfl rfl)
theorem dX3_init_17 : decode cX3_init 17 = .ok (.newarray .int, 2) := dk_188_10 (dk_at dksX3_init_0 17 rfl rfl)
theorem dX3_init_19 : decode cX3_init 19 = .ok (.putfield 15, 3) := dk_181 0 15 (dk_at dksX3_init_0 19 rfl rfl)
theorem dX3_init_22 : decode cX3_init 22 = .ok (.aload_n 0, 1) := dk_42 (dk_at dksX3_init_0 22 rfl rfl)
theorem dX3_init_23 : decode cX3_init 23 = .ok (.sipush 7300, 3) := dk_17 28 132 (dk_at dksX3_init_1 0 rfl rfl)
theorem dX3_init_26 : decode cX3_init 26 = .ok (.newarray .int, 2) := dk_188_10 (dk_at dksX3_init_1 3 rfl rfl)
theorem dX3_init_28 : decode cX3_init 28 = .ok (.putfield 18, 3) := dk_181 0 18 (dk_at dksX3_init_1 5 rfl rfl)
theorem dX3_init_31 : decode cX3_init 31 = .ok (.aload_n 0, 1) := dk_42 (dk_at dksX3_init_1 8 rfl rfl)
theorem dX3_init_32 : decode cX3_init 32 = .ok (.bipush 6, 2) := dk_16 6 (dk_at dksX3_init_1 9 rfl rfl)
theorem dX3_init_34 : decode cX3_init 34 = .ok (.sipush 1830, 3) := dk_17 7 38 (dk_at dksX3_init_1 11 rfl rfl)
theorem dX3_init_37 : decode cX3_init 37 = .ok (.multianewarray 21 2, 4) := by decide +kernel
theorem dX3_init_41 : decode cX3_init 41 = .ok (.putfield 23, 3) := dk_181 0 23 (dk_at dksX3_init_1 18 rfl rfl)
theorem dX3_init_44 : decode cX3_init 44 = .ok (.aload_n 0, 1) := dk_42 (dk_at dksX3_init_1 21 rfl rfl)
theorem dX3_init_45 : decode cX3_init 45 = .ok (.bipush 29, 2) := dk_16 29 (dk_at dksX3_init_1 22 rfl rfl)
theorem dX3_init_47 : decode cX3_init 47 = .ok (.newarray .long, 2) := dk_188_11 (dk_at dksX3_init_2 0 rfl rfl)
theorem dX3_init_49 : decode cX3_init 49 = .ok (.putfield 26, 3) := dk_181 0 26 (dk_at dksX3_init_2 2 rfl rfl)
theorem dX3_init_52 : decode cX3_init 52 = .ok (.aload_n 0, 1) := dk_42 (dk_at dksX3_init_2 5 rfl rfl)
theorem dX3_init_53 : decode cX3_init 53 = .ok (.bipush 21, 2) := dk_16 21 (dk_at dksX3_init_2 6 rfl rfl)
theorem dX3_init_55 : decode cX3_init 55 = .ok (.bipush 29, 2) := dk_16 29 (dk_at dksX3_init_2 8 rfl rfl)
theorem dX3_init_57 : decode cX3_init 57 = .ok (.multianewarray 30 2, 4) := by decide +kernel
theorem dX3_init_61 : decode cX3_init 61 = .ok (.putfield 32, 3) := dk_181 0 32 (dk_at dksX3_init_2 14 rfl rfl)
theorem dX3_init_64 : decode cX3_init 64 = .ok (.aload_n 0, 1) := dk_42 (dk_at dksX3_init_2 17 rfl rfl)
theorem dX3_init_65 : decode cX3_init 65 = .ok (.bipush 48, 2) := dk_16 48 (dk_at dksX3_init_2 18 rfl rfl)
theorem dX3_init_67 : decode cX3_init 67 = .ok (.bipush 29, 2) := dk_16 29 (dk_at dksX3_init_2 20 rfl rfl)
theorem dX3_init_69 : decode cX3_init 69 = .ok (.multianewarray 30 2, 4) := by decide +kernel
theorem dX3_init_73 : decode cX3_init 73 = .ok (.putfield 35, 3) := dk_181 0 35 (dk_at dksX3_init_3 4 rfl rfl)
theorem dX3_init_76 : decode cX3_init 76 = .ok (.aload_n 0, 1) := dk_42 (dk_at dksX3_init_3 7 rfl rfl)
theorem dX3_init_77 : decode cX3_init 77 = .ok (.iconst (-1), 1) := dk_2 (dk_at dksX3_init_3 8 rfl rfl)
theorem dX3_init_78 : decode cX3_init 78 = .ok (.putfield 38, 3) := dk_181 0 38 (dk_at dksX3_init_3 9 rfl rfl)
theorem dX3_init_81 : decode cX3_init 81 = .ok (.return_, 1) := dk_177 (dk_at dksX3_init_3 12 rfl rfl)
abbrev cX3_worlds : ByteArray := prog_4_method_4_code
def yX3_worlds : MethodName := ⟨RX3, "worlds", "(LTwoSlips$Talk;II)V"⟩
def dkwX3_worlds_7 : List UInt8 := [132, 4, 1, 167, 255, 110, 42, 180, 0, 26, 3, 42, 180, 0, 32, 3, 50, 3, 16, 29, 184, 0, 97, 177]
abbrev dktX3_worlds_7 : List UInt8 := dkwX3_worlds_7 ++ []
def dkwX3_worlds_6 : List UInt8 := [42, 180, 0, 49, 184, 0, 93, 42, 89, 180, 0, 49, 4, 96, 181, 0, 49, 132, 5, 1, 167, 255, 140]
abbrev dktX3_worlds_6 : List UInt8 := dkwX3_worlds_6 ++ dktX3_worlds_7
def dkwX3_worlds_5 : List UInt8 := [182, 0, 77, 180, 0, 81, 21, 4, 21, 5, 182, 0, 87, 79, 132, 6, 1, 167, 255, 213, 42, 180, 0, 26]
abbrev dktX3_worlds_5 : List UInt8 := dkwX3_worlds_5 ++ dktX3_worlds_6
def dkwX3_worlds_4 : List UInt8 := [180, 0, 67, 182, 0, 71, 162, 0, 37, 42, 180, 0, 23, 21, 6, 50, 42, 180, 0, 49, 43, 21, 6]
abbrev dktX3_worlds_4 : List UInt8 := dkwX3_worlds_4 ++ dktX3_worlds_5
def dkwX3_worlds_3 : List UInt8 := [180, 0, 49, 21, 4, 79, 42, 180, 0, 15, 42, 180, 0, 49, 21, 5, 79, 3, 54, 6, 21, 6, 43]
abbrev dktX3_worlds_3 : List UInt8 := dkwX3_worlds_3 ++ dktX3_worlds_4
def dkwX3_worlds_2 : List UInt8 := [163, 0, 116, 21, 4, 21, 5, 96, 43, 180, 0, 64, 164, 0, 6, 167, 0, 95, 42, 180, 0, 9, 42]
abbrev dktX3_worlds_2 : List UInt8 := dkwX3_worlds_2 ++ dktX3_worlds_3
def dkwX3_worlds_1 : List UInt8 := [163, 0, 146, 43, 180, 0, 58, 153, 0, 10, 21, 4, 4, 96, 167, 0, 5, 21, 4, 54, 5, 21, 5, 29]
abbrev dktX3_worlds_1 : List UInt8 := dkwX3_worlds_1 ++ dktX3_worlds_2
def dkwX3_worlds_0 : List UInt8 := [42, 43, 181, 0, 45, 42, 3, 181, 0, 49, 42, 180, 0, 26, 9, 184, 0, 52, 28, 54, 4, 21, 4, 29]
abbrev dktX3_worlds_0 : List UInt8 := dkwX3_worlds_0 ++ dktX3_worlds_1
theorem dksX3_worlds_0 : cX3_worlds.data.toList.drop 0 = dktX3_worlds_0 := by decide +kernel
theorem dksX3_worlds_1 : cX3_worlds.data.toList.drop 24 = dktX3_worlds_1 := dk_seg dksX3_worlds_0 24 rfl rfl
theorem dksX3_worlds_2 : cX3_worlds.data.toList.drop 48 = dktX3_worlds_2 := dk_seg dksX3_worlds_1 24 rfl rfl
theorem dksX3_worlds_3 : cX3_worlds.data.toList.drop 71 = dktX3_worlds_3 := dk_seg dksX3_worlds_2 23 rfl rfl
theorem dksX3_worlds_4 : cX3_worlds.data.toList.drop 94 = dktX3_worlds_4 := dk_seg dksX3_worlds_3 23 rfl rfl
theorem dksX3_worlds_5 : cX3_worlds.data.toList.drop 117 = dktX3_worlds_5 := dk_seg dksX3_worlds_4 23 rfl rfl
theorem dksX3_worlds_6 : cX3_worlds.data.toList.drop 141 = dktX3_worlds_6 := dk_seg dksX3_worlds_5 24 rfl rfl
theorem dksX3_worlds_7 : cX3_worlds.data.toList.drop 164 = dktX3_worlds_7 := dk_seg dksX3_worlds_6 23 rfl rfl
theorem dX3_worlds_0 : decode cX3_worlds 0 = .ok (.aload_n 0, 1) := dk_42 (dk_at dksX3_worlds_0 0 rfl rfl)
theorem dX3_worlds_1 : decode cX3_worlds 1 = .ok (.aload_n 1, 1) := dk_43 (dk_at dksX3_worlds_0 1 rfl rfl)
theorem dX3_worlds_2 : decode cX3_worlds 2 = .ok (.putfield 45, 3) := dk_181 0 45 (dk_at dksX3_worlds_0 2 rfl rfl)
theorem dX3_worlds_5 : decode cX3_worlds 5 = .ok (.aload_n 0, 1) := dk_42 (dk_at dksX3_worlds_0 5 rfl rfl)
theorem dX3_worlds_6 : decode cX3_worlds 6 = .ok (.iconst 0, 1) := dk_3 (dk_at dksX3_worlds_0 6 rfl rfl)
theorem dX3_worlds_7 : decode cX3_worlds 7 = .ok (.putfield 49, 3) := dk_181 0 49 (dk_at dksX3_worlds_0 7 rfl rfl)
theorem dX3_worlds_10 : decode cX3_worlds 10 = .ok (.aload_n 0, 1) := dk_42 (dk_at dksX3_worlds_0 10 rfl rfl)
theorem dX3_worlds_11 : decode cX3_worlds 11 = .ok (.getfield 26, 3) := dk_180 0 26 (dk_at dksX3_worlds_0 11 rfl rfl)
theorem dX3_worlds_14 : decode cX3_worlds 14 = .ok (.lconst 0, 1) := dk_9 (dk_at dksX3_worlds_0 14 rfl rfl)
theorem dX3_worlds_15 : decode cX3_worlds 15 = .ok (.invokestatic 52, 3) := dk_184 0 52 (dk_at dksX3_worlds_0 15 rfl rfl)
theorem dX3_worlds_18 : decode cX3_worlds 18 = .ok (.iload_n 2, 1) := dk_28 (dk_at dksX3_worlds_0 18 rfl rfl)
theorem dX3_worlds_19 : decode cX3_worlds 19 = .ok (.istore 4, 2) := dk_54 4 (dk_at dksX3_worlds_0 19 rfl rfl)
theorem dX3_worlds_21 : decode cX3_worlds 21 = .ok (.iload 4, 2) := dk_21 4 (dk_at dksX3_worlds_0 21 rfl rfl)
theorem dX3_worlds_23 : decode cX3_worlds 23 = .ok (.iload_n 3, 1) := dk_29 (dk_at dksX3_worlds_0 23 rfl rfl)
theorem dX3_worlds_24 : decode cX3_worlds 24 = .ok (.if_icmp .gt 146, 3) := dk_163 0 146 (dk_at dksX3_worlds_1 0 rfl rfl)
theorem dX3_worlds_27 : decode cX3_worlds 27 = .ok (.aload_n 1, 1) := dk_43 (dk_at dksX3_worlds_1 3 rfl rfl)
theorem dX3_worlds_28 : decode cX3_worlds 28 = .ok (.getfield 58, 3) := dk_180 0 58 (dk_at dksX3_worlds_1 4 rfl rfl)
theorem dX3_worlds_31 : decode cX3_worlds 31 = .ok (.ifCond .eq 10, 3) := dk_153 0 10 (dk_at dksX3_worlds_1 7 rfl rfl)
theorem dX3_worlds_34 : decode cX3_worlds 34 = .ok (.iload 4, 2) := dk_21 4 (dk_at dksX3_worlds_1 10 rfl rfl)
theorem dX3_worlds_36 : decode cX3_worlds 36 = .ok (.iconst 1, 1) := dk_4 (dk_at dksX3_worlds_1 12 rfl rfl)
theorem dX3_worlds_37 : decode cX3_worlds 37 = .ok (.iadd, 1) := dk_96 (dk_at dksX3_worlds_1 13 rfl rfl)
theorem dX3_worlds_38 : decode cX3_worlds 38 = .ok (.goto 5, 3) := dk_167 0 5 (dk_at dksX3_worlds_1 14 rfl rfl)
theorem dX3_worlds_41 : decode cX3_worlds 41 = .ok (.iload 4, 2) := dk_21 4 (dk_at dksX3_worlds_1 17 rfl rfl)
theorem dX3_worlds_43 : decode cX3_worlds 43 = .ok (.istore 5, 2) := dk_54 5 (dk_at dksX3_worlds_1 19 rfl rfl)
theorem dX3_worlds_45 : decode cX3_worlds 45 = .ok (.iload 5, 2) := dk_21 5 (dk_at dksX3_worlds_1 21 rfl rfl)
theorem dX3_worlds_47 : decode cX3_worlds 47 = .ok (.iload_n 3, 1) := dk_29 (dk_at dksX3_worlds_1 23 rfl rfl)
theorem dX3_worlds_48 : decode cX3_worlds 48 = .ok (.if_icmp .gt 116, 3) := dk_163 0 116 (dk_at dksX3_worlds_2 0 rfl rfl)
theorem dX3_worlds_51 : decode cX3_worlds 51 = .ok (.iload 4, 2) := dk_21 4 (dk_at dksX3_worlds_2 3 rfl rfl)
theorem dX3_worlds_53 : decode cX3_worlds 53 = .ok (.iload 5, 2) := dk_21 5 (dk_at dksX3_worlds_2 5 rfl rfl)
theorem dX3_worlds_55 : decode cX3_worlds 55 = .ok (.iadd, 1) := dk_96 (dk_at dksX3_worlds_2 7 rfl rfl)
theorem dX3_worlds_56 : decode cX3_worlds 56 = .ok (.aload_n 1, 1) := dk_43 (dk_at dksX3_worlds_2 8 rfl rfl)
theorem dX3_worlds_57 : decode cX3_worlds 57 = .ok (.getfield 64, 3) := dk_180 0 64 (dk_at dksX3_worlds_2 9 rfl rfl)
theorem dX3_worlds_60 : decode cX3_worlds 60 = .ok (.if_icmp .le 6, 3) := dk_164 0 6 (dk_at dksX3_worlds_2 12 rfl rfl)
theorem dX3_worlds_63 : decode cX3_worlds 63 = .ok (.goto 95, 3) := dk_167 0 95 (dk_at dksX3_worlds_2 15 rfl rfl)
theorem dX3_worlds_66 : decode cX3_worlds 66 = .ok (.aload_n 0, 1) := dk_42 (dk_at dksX3_worlds_2 18 rfl rfl)
theorem dX3_worlds_67 : decode cX3_worlds 67 = .ok (.getfield 9, 3) := dk_180 0 9 (dk_at dksX3_worlds_2 19 rfl rfl)
theorem dX3_worlds_70 : decode cX3_worlds 70 = .ok (.aload_n 0, 1) := dk_42 (dk_at dksX3_worlds_2 22 rfl rfl)
theorem dX3_worlds_71 : decode cX3_worlds 71 = .ok (.getfield 49, 3) := dk_180 0 49 (dk_at dksX3_worlds_3 0 rfl rfl)
theorem dX3_worlds_74 : decode cX3_worlds 74 = .ok (.iload 4, 2) := dk_21 4 (dk_at dksX3_worlds_3 3 rfl rfl)
theorem dX3_worlds_76 : decode cX3_worlds 76 = .ok (.iastore, 1) := dk_79 (dk_at dksX3_worlds_3 5 rfl rfl)
theorem dX3_worlds_77 : decode cX3_worlds 77 = .ok (.aload_n 0, 1) := dk_42 (dk_at dksX3_worlds_3 6 rfl rfl)
theorem dX3_worlds_78 : decode cX3_worlds 78 = .ok (.getfield 15, 3) := dk_180 0 15 (dk_at dksX3_worlds_3 7 rfl rfl)
theorem dX3_worlds_81 : decode cX3_worlds 81 = .ok (.aload_n 0, 1) := dk_42 (dk_at dksX3_worlds_3 10 rfl rfl)
theorem dX3_worlds_82 : decode cX3_worlds 82 = .ok (.getfield 49, 3) := dk_180 0 49 (dk_at dksX3_worlds_3 11 rfl rfl)
theorem dX3_worlds_85 : decode cX3_worlds 85 = .ok (.iload 5, 2) := dk_21 5 (dk_at dksX3_worlds_3 14 rfl rfl)
theorem dX3_worlds_87 : decode cX3_worlds 87 = .ok (.iastore, 1) := dk_79 (dk_at dksX3_worlds_3 16 rfl rfl)
theorem dX3_worlds_88 : decode cX3_worlds 88 = .ok (.iconst 0, 1) := dk_3 (dk_at dksX3_worlds_3 17 rfl rfl)
theorem dX3_worlds_89 : decode cX3_worlds 89 = .ok (.istore 6, 2) := dk_54 6 (dk_at dksX3_worlds_3 18 rfl rfl)
theorem dX3_worlds_91 : decode cX3_worlds 91 = .ok (.iload 6, 2) := dk_21 6 (dk_at dksX3_worlds_3 20 rfl rfl)
theorem dX3_worlds_93 : decode cX3_worlds 93 = .ok (.aload_n 1, 1) := dk_43 (dk_at dksX3_worlds_3 22 rfl rfl)
theorem dX3_worlds_94 : decode cX3_worlds 94 = .ok (.getfield 67, 3) := dk_180 0 67 (dk_at dksX3_worlds_4 0 rfl rfl)
theorem dX3_worlds_97 : decode cX3_worlds 97 = .ok (.invokevirtual 71, 3) := dk_182 0 71 (dk_at dksX3_worlds_4 3 rfl rfl)
theorem dX3_worlds_100 : decode cX3_worlds 100 = .ok (.if_icmp .ge 37, 3) := dk_162 0 37 (dk_at dksX3_worlds_4 6 rfl rfl)
theorem dX3_worlds_103 : decode cX3_worlds 103 = .ok (.aload_n 0, 1) := dk_42 (dk_at dksX3_worlds_4 9 rfl rfl)
theorem dX3_worlds_104 : decode cX3_worlds 104 = .ok (.getfield 23, 3) := dk_180 0 23 (dk_at dksX3_worlds_4 10 rfl rfl)
theorem dX3_worlds_107 : decode cX3_worlds 107 = .ok (.iload 6, 2) := dk_21 6 (dk_at dksX3_worlds_4 13 rfl rfl)
theorem dX3_worlds_109 : decode cX3_worlds 109 = .ok (.aaload, 1) := dk_50 (dk_at dksX3_worlds_4 15 rfl rfl)
theorem dX3_worlds_110 : decode cX3_worlds 110 = .ok (.aload_n 0, 1) := dk_42 (dk_at dksX3_worlds_4 16 rfl rfl)
theorem dX3_worlds_111 : decode cX3_worlds 111 = .ok (.getfield 49, 3) := dk_180 0 49 (dk_at dksX3_worlds_4 17 rfl rfl)
theorem dX3_worlds_114 : decode cX3_worlds 114 = .ok (.aload_n 1, 1) := dk_43 (dk_at dksX3_worlds_4 20 rfl rfl)
theorem dX3_worlds_115 : decode cX3_worlds 115 = .ok (.iload 6, 2) := dk_21 6 (dk_at dksX3_worlds_4 21 rfl rfl)
theorem dX3_worlds_117 : decode cX3_worlds 117 = .ok (.invokevirtual 77, 3) := dk_182 0 77 (dk_at dksX3_worlds_5 0 rfl rfl)
theorem dX3_worlds_120 : decode cX3_worlds 120 = .ok (.getfield 81, 3) := dk_180 0 81 (dk_at dksX3_worlds_5 3 rfl rfl)
theorem dX3_worlds_123 : decode cX3_worlds 123 = .ok (.iload 4, 2) := dk_21 4 (dk_at dksX3_worlds_5 6 rfl rfl)
theorem dX3_worlds_125 : decode cX3_worlds 125 = .ok (.iload 5, 2) := dk_21 5 (dk_at dksX3_worlds_5 8 rfl rfl)
theorem dX3_worlds_127 : decode cX3_worlds 127 = .ok (.invokevirtual 87, 3) := dk_182 0 87 (dk_at dksX3_worlds_5 10 rfl rfl)
theorem dX3_worlds_130 : decode cX3_worlds 130 = .ok (.iastore, 1) := dk_79 (dk_at dksX3_worlds_5 13 rfl rfl)
theorem dX3_worlds_131 : decode cX3_worlds 131 = .ok (.iinc 6 1, 3) := dk_132 6 1 (dk_at dksX3_worlds_5 14 rfl rfl)
theorem dX3_worlds_134 : decode cX3_worlds 134 = .ok (.goto (-43), 3) := dk_167 255 213 (dk_at dksX3_worlds_5 17 rfl rfl)
theorem dX3_worlds_137 : decode cX3_worlds 137 = .ok (.aload_n 0, 1) := dk_42 (dk_at dksX3_worlds_5 20 rfl rfl)
theorem dX3_worlds_138 : decode cX3_worlds 138 = .ok (.getfield 26, 3) := dk_180 0 26 (dk_at dksX3_worlds_5 21 rfl rfl)
theorem dX3_worlds_141 : decode cX3_worlds 141 = .ok (.aload_n 0, 1) := dk_42 (dk_at dksX3_worlds_6 0 rfl rfl)
theorem dX3_worlds_142 : decode cX3_worlds 142 = .ok (.getfield 49, 3) := dk_180 0 49 (dk_at dksX3_worlds_6 1 rfl rfl)
theorem dX3_worlds_145 : decode cX3_worlds 145 = .ok (.invokestatic 93, 3) := dk_184 0 93 (dk_at dksX3_worlds_6 4 rfl rfl)
theorem dX3_worlds_148 : decode cX3_worlds 148 = .ok (.aload_n 0, 1) := dk_42 (dk_at dksX3_worlds_6 7 rfl rfl)
theorem dX3_worlds_149 : decode cX3_worlds 149 = .ok (.dup, 1) := dk_89 (dk_at dksX3_worlds_6 8 rfl rfl)
theorem dX3_worlds_150 : decode cX3_worlds 150 = .ok (.getfield 49, 3) := dk_180 0 49 (dk_at dksX3_worlds_6 9 rfl rfl)
theorem dX3_worlds_153 : decode cX3_worlds 153 = .ok (.iconst 1, 1) := dk_4 (dk_at dksX3_worlds_6 12 rfl rfl)
theorem dX3_worlds_154 : decode cX3_worlds 154 = .ok (.iadd, 1) := dk_96 (dk_at dksX3_worlds_6 13 rfl rfl)
theorem dX3_worlds_155 : decode cX3_worlds 155 = .ok (.putfield 49, 3) := dk_181 0 49 (dk_at dksX3_worlds_6 14 rfl rfl)
theorem dX3_worlds_158 : decode cX3_worlds 158 = .ok (.iinc 5 1, 3) := dk_132 5 1 (dk_at dksX3_worlds_6 17 rfl rfl)
theorem dX3_worlds_161 : decode cX3_worlds 161 = .ok (.goto (-116), 3) := dk_167 255 140 (dk_at dksX3_worlds_6 20 rfl rfl)
theorem dX3_worlds_164 : decode cX3_worlds 164 = .ok (.iinc 4 1, 3) := dk_132 4 1 (dk_at dksX3_worlds_7 0 rfl rfl)
theorem dX3_worlds_167 : decode cX3_worlds 167 = .ok (.goto (-146), 3) := dk_167 255 110 (dk_at dksX3_worlds_7 3 rfl rfl)
theorem dX3_worlds_170 : decode cX3_worlds 170 = .ok (.aload_n 0, 1) := dk_42 (dk_at dksX3_worlds_7 6 rfl rfl)
theorem dX3_worlds_171 : decode cX3_worlds 171 = .ok (.getfield 26, 3) := dk_180 0 26 (dk_at dksX3_worlds_7 7 rfl rfl)
theorem dX3_worlds_174 : decode cX3_worlds 174 = .ok (.iconst 0, 1) := dk_3 (dk_at dksX3_worlds_7 10 rfl rfl)
theorem dX3_worlds_175 : decode cX3_worlds 175 = .ok (.aload_n 0, 1) := dk_42 (dk_at dksX3_worlds_7 11 rfl rfl)
theorem dX3_worlds_176 : decode cX3_worlds 176 = .ok (.getfield 32, 3) := dk_180 0 32 (dk_at dksX3_worlds_7 12 rfl rfl)
theorem dX3_worlds_179 : decode cX3_worlds 179 = .ok (.iconst 0, 1) := dk_3 (dk_at dksX3_worlds_7 15 rfl rfl)
theorem dX3_worlds_180 : decode cX3_worlds 180 = .ok (.aaload, 1) := dk_50 (dk_at dksX3_worlds_7 16 rfl rfl)
theorem dX3_worlds_181 : decode cX3_worlds 181 = .ok (.iconst 0, 1) := dk_3 (dk_at dksX3_worlds_7 17 rfl rfl)
theorem dX3_worlds_182 : decode cX3_worlds 182 = .ok (.bipush 29, 2) := dk_16 29 (dk_at dksX3_worlds_7 18 rfl rfl)
theorem dX3_worlds_184 : decode cX3_worlds 184 = .ok (.invokestatic 97, 3) := dk_184 0 97 (dk_at dksX3_worlds_7 20 rfl rfl)
theorem dX3_worlds_187 : decode cX3_worlds 187 = .ok (.return_, 1) := dk_177 (dk_at dksX3_worlds_7 23 rfl rfl)
abbrev cX3_goes : ByteArray := prog_4_method_13_code
def yX3_goes : MethodName := ⟨RX3, "goes", "(II)LTwoSlips$Course;"⟩
def dkwX3_goes_3 : List UInt8 := [176]
abbrev dktX3_goes_3 : List UInt8 := dkwX3_goes_3 ++ []
def dkwX3_goes_2 : List UInt8 := [180, 0, 150, 29, 182, 0, 153, 192, 0, 157, 180, 0, 161, 29, 182, 0, 165, 132, 3, 1, 167, 255, 191, 42]
abbrev dktX3_goes_2 : List UInt8 := dkwX3_goes_2 ++ dktX3_goes_3
def dkwX3_goes_1 : List UInt8 := [167, 0, 20, 42, 180, 0, 45, 180, 0, 150, 29, 182, 0, 153, 192, 0, 157, 180, 0, 159, 42, 180, 0, 45]
abbrev dktX3_goes_1 : List UInt8 := dkwX3_goes_1 ++ dktX3_goes_2
def dkwX3_goes_0 : List UInt8 := [3, 62, 29, 42, 180, 0, 45, 180, 0, 150, 182, 0, 71, 162, 0, 57, 42, 29, 27, 160, 0, 7, 28]
abbrev dktX3_goes_0 : List UInt8 := dkwX3_goes_0 ++ dktX3_goes_1
theorem dksX3_goes_0 : cX3_goes.data.toList.drop 0 = dktX3_goes_0 := by decide +kernel
theorem dksX3_goes_1 : cX3_goes.data.toList.drop 23 = dktX3_goes_1 := dk_seg dksX3_goes_0 23 rfl rfl
theorem dksX3_goes_2 : cX3_goes.data.toList.drop 47 = dktX3_goes_2 := dk_seg dksX3_goes_1 24 rfl rfl
theorem dksX3_goes_3 : cX3_goes.data.toList.drop 71 = dktX3_goes_3 := dk_seg dksX3_goes_2 24 rfl rfl
theorem dX3_goes_0 : decode cX3_goes 0 = .ok (.iconst 0, 1) := dk_3 (dk_at dksX3_goes_0 0 rfl rfl)
theorem dX3_goes_1 : decode cX3_goes 1 = .ok (.istore_n 3, 1) := dk_62 (dk_at dksX3_goes_0 1 rfl rfl)
theorem dX3_goes_2 : decode cX3_goes 2 = .ok (.iload_n 3, 1) := dk_29 (dk_at dksX3_goes_0 2 rfl rfl)
theorem dX3_goes_3 : decode cX3_goes 3 = .ok (.aload_n 0, 1) := dk_42 (dk_at dksX3_goes_0 3 rfl rfl)
theorem dX3_goes_4 : decode cX3_goes 4 = .ok (.getfield 45, 3) := dk_180 0 45 (dk_at dksX3_goes_0 4 rfl rfl)
theorem dX3_goes_7 : decode cX3_goes 7 = .ok (.getfield 150, 3) := dk_180 0 150 (dk_at dksX3_goes_0 7 rfl rfl)
theorem dX3_goes_10 : decode cX3_goes 10 = .ok (.invokevirtual 71, 3) := dk_182 0 71 (dk_at dksX3_goes_0 10 rfl rfl)
theorem dX3_goes_13 : decode cX3_goes 13 = .ok (.if_icmp .ge 57, 3) := dk_162 0 57 (dk_at dksX3_goes_0 13 rfl rfl)
theorem dX3_goes_16 : decode cX3_goes 16 = .ok (.aload_n 0, 1) := dk_42 (dk_at dksX3_goes_0 16 rfl rfl)
theorem dX3_goes_17 : decode cX3_goes 17 = .ok (.iload_n 3, 1) := dk_29 (dk_at dksX3_goes_0 17 rfl rfl)
theorem dX3_goes_18 : decode cX3_goes 18 = .ok (.iload_n 1, 1) := dk_27 (dk_at dksX3_goes_0 18 rfl rfl)
theorem dX3_goes_19 : decode cX3_goes 19 = .ok (.if_icmp .ne 7, 3) := dk_160 0 7 (dk_at dksX3_goes_0 19 rfl rfl)
theorem dX3_goes_22 : decode cX3_goes 22 = .ok (.iload_n 2, 1) := dk_28 (dk_at dksX3_goes_0 22 rfl rfl)
theorem dX3_goes_23 : decode cX3_goes 23 = .ok (.goto 20, 3) := dk_167 0 20 (dk_at dksX3_goes_1 0 rfl rfl)
theorem dX3_goes_26 : decode cX3_goes 26 = .ok (.aload_n 0, 1) := dk_42 (dk_at dksX3_goes_1 3 rfl rfl)
theorem dX3_goes_27 : decode cX3_goes 27 = .ok (.getfield 45, 3) := dk_180 0 45 (dk_at dksX3_goes_1 4 rfl rfl)
theorem dX3_goes_30 : decode cX3_goes 30 = .ok (.getfield 150, 3) := dk_180 0 150 (dk_at dksX3_goes_1 7 rfl rfl)
theorem dX3_goes_33 : decode cX3_goes 33 = .ok (.iload_n 3, 1) := dk_29 (dk_at dksX3_goes_1 10 rfl rfl)
theorem dX3_goes_34 : decode cX3_goes 34 = .ok (.invokevirtual 153, 3) := dk_182 0 153 (dk_at dksX3_goes_1 11 rfl rfl)
theorem dX3_goes_37 : decode cX3_goes 37 = .ok (.checkcast 157, 3) := dk_192 0 157 (dk_at dksX3_goes_1 14 rfl rfl)
theorem dX3_goes_40 : decode cX3_goes 40 = .ok (.getfield 159, 3) := dk_180 0 159 (dk_at dksX3_goes_1 17 rfl rfl)
theorem dX3_goes_43 : decode cX3_goes 43 = .ok (.aload_n 0, 1) := dk_42 (dk_at dksX3_goes_1 20 rfl rfl)
theorem dX3_goes_44 : decode cX3_goes 44 = .ok (.getfield 45, 3) := dk_180 0 45 (dk_at dksX3_goes_1 21 rfl rfl)
theorem dX3_goes_47 : decode cX3_goes 47 = .ok (.getfield 150, 3) := dk_180 0 150 (dk_at dksX3_goes_2 0 rfl rfl)
theorem dX3_goes_50 : decode cX3_goes 50 = .ok (.iload_n 3, 1) := dk_29 (dk_at dksX3_goes_2 3 rfl rfl)
theorem dX3_goes_51 : decode cX3_goes 51 = .ok (.invokevirtual 153, 3) := dk_182 0 153 (dk_at dksX3_goes_2 4 rfl rfl)
theorem dX3_goes_54 : decode cX3_goes 54 = .ok (.checkcast 157, 3) := dk_192 0 157 (dk_at dksX3_goes_2 7 rfl rfl)
theorem dX3_goes_57 : decode cX3_goes 57 = .ok (.getfield 161, 3) := dk_180 0 161 (dk_at dksX3_goes_2 10 rfl rfl)
theorem dX3_goes_60 : decode cX3_goes 60 = .ok (.iload_n 3, 1) := dk_29 (dk_at dksX3_goes_2 13 rfl rfl)
theorem dX3_goes_61 : decode cX3_goes 61 = .ok (.invokevirtual 165, 3) := dk_182 0 165 (dk_at dksX3_goes_2 14 rfl rfl)
theorem dX3_goes_64 : decode cX3_goes 64 = .ok (.iinc 3 1, 3) := dk_132 3 1 (dk_at dksX3_goes_2 17 rfl rfl)
theorem dX3_goes_67 : decode cX3_goes 67 = .ok (.goto (-65), 3) := dk_167 255 191 (dk_at dksX3_goes_2 20 rfl rfl)
theorem dX3_goes_70 : decode cX3_goes 70 = .ok (.aload_n 0, 1) := dk_42 (dk_at dksX3_goes_2 23 rfl rfl)
theorem dX3_goes_71 : decode cX3_goes 71 = .ok (.areturn, 1) := dk_176 (dk_at dksX3_goes_3 0 rfl rfl)
abbrev cX3_says : ByteArray := prog_4_method_12_code
def yX3_says : MethodName := ⟨RX3, "says", "(ILTwoSlips$Saying;I)V"⟩
def dkwX3_says_2 : List UInt8 := [21, 5, 47, 127, 80, 132, 5, 1, 167, 255, 220, 42, 182, 0, 132, 177]
abbrev dktX3_says_2 : List UInt8 := dkwX3_says_2 ++ []
def dkwX3_says_1 : List UInt8 := [162, 0, 35, 42, 180, 0, 32, 29, 4, 96, 50, 21, 5, 42, 180, 0, 32, 29, 50, 21, 5, 47, 25, 4]
abbrev dktX3_says_1 : List UInt8 := dkwX3_says_1 ++ dktX3_says_2
def dkwX3_says_0 : List UInt8 := [42, 182, 0, 123, 58, 4, 42, 27, 44, 29, 25, 4, 182, 0, 147, 3, 54, 5, 21, 5, 16, 29]
abbrev dktX3_says_0 : List UInt8 := dkwX3_says_0 ++ dktX3_says_1
theorem dksX3_says_0 : cX3_says.data.toList.drop 0 = dktX3_says_0 := by decide +kernel
theorem dksX3_says_1 : cX3_says.data.toList.drop 22 = dktX3_says_1 := dk_seg dksX3_says_0 22 rfl rfl
theorem dksX3_says_2 : cX3_says.data.toList.drop 46 = dktX3_says_2 := dk_seg dksX3_says_1 24 rfl rfl
theorem dX3_says_0 : decode cX3_says 0 = .ok (.aload_n 0, 1) := dk_42 (dk_at dksX3_says_0 0 rfl rfl)
theorem dX3_says_1 : decode cX3_says 1 = .ok (.invokevirtual 123, 3) := dk_182 0 123 (dk_at dksX3_says_0 1 rfl rfl)
theorem dX3_says_4 : decode cX3_says 4 = .ok (.astore 4, 2) := dk_58 4 (dk_at dksX3_says_0 4 rfl rfl)
theorem dX3_says_6 : decode cX3_says 6 = .ok (.aload_n 0, 1) := dk_42 (dk_at dksX3_says_0 6 rfl rfl)
theorem dX3_says_7 : decode cX3_says 7 = .ok (.iload_n 1, 1) := dk_27 (dk_at dksX3_says_0 7 rfl rfl)
theorem dX3_says_8 : decode cX3_says 8 = .ok (.aload_n 2, 1) := dk_44 (dk_at dksX3_says_0 8 rfl rfl)
theorem dX3_says_9 : decode cX3_says 9 = .ok (.iload_n 3, 1) := dk_29 (dk_at dksX3_says_0 9 rfl rfl)
theorem dX3_says_10 : decode cX3_says 10 = .ok (.aload 4, 2) := dk_25 4 (dk_at dksX3_says_0 10 rfl rfl)
theorem dX3_says_12 : decode cX3_says 12 = .ok (.invokevirtual 147, 3) := dk_182 0 147 (dk_at dksX3_says_0 12 rfl rfl)
theorem dX3_says_15 : decode cX3_says 15 = .ok (.iconst 0, 1) := dk_3 (dk_at dksX3_says_0 15 rfl rfl)
theorem dX3_says_16 : decode cX3_says 16 = .ok (.istore 5, 2) := dk_54 5 (dk_at dksX3_says_0 16 rfl rfl)
theorem dX3_says_18 : decode cX3_says 18 = .ok (.iload 5, 2) := dk_21 5 (dk_at dksX3_says_0 18 rfl rfl)
theorem dX3_says_20 : decode cX3_says 20 = .ok (.bipush 29, 2) := dk_16 29 (dk_at dksX3_says_0 20 rfl rfl)
theorem dX3_says_22 : decode cX3_says 22 = .ok (.if_icmp .ge 35, 3) := dk_162 0 35 (dk_at dksX3_says_1 0 rfl rfl)
theorem dX3_says_25 : decode cX3_says 25 = .ok (.aload_n 0, 1) := dk_42 (dk_at dksX3_says_1 3 rfl rfl)
theorem dX3_says_26 : decode cX3_says 26 = .ok (.getfield 32, 3) := dk_180 0 32 (dk_at dksX3_says_1 4 rfl rfl)
theorem dX3_says_29 : decode cX3_says 29 = .ok (.iload_n 3, 1) := dk_29 (dk_at dksX3_says_1 7 rfl rfl)
theorem dX3_says_30 : decode cX3_says 30 = .ok (.iconst 1, 1) := dk_4 (dk_at dksX3_says_1 8 rfl rfl)
theorem dX3_says_31 : decode cX3_says 31 = .ok (.iadd, 1) := dk_96 (dk_at dksX3_says_1 9 rfl rfl)
theorem dX3_says_32 : decode cX3_says 32 = .ok (.aaload, 1) := dk_50 (dk_at dksX3_says_1 10 rfl rfl)
theorem dX3_says_33 : decode cX3_says 33 = .ok (.iload 5, 2) := dk_21 5 (dk_at dksX3_says_1 11 rfl rfl)
theorem dX3_says_35 : decode cX3_says 35 = .ok (.aload_n 0, 1) := dk_42 (dk_at dksX3_says_1 13 rfl rfl)
theorem dX3_says_36 : decode cX3_says 36 = .ok (.getfield 32, 3) := dk_180 0 32 (dk_at dksX3_says_1 14 rfl rfl)
theorem dX3_says_39 : decode cX3_says 39 = .ok (.iload_n 3, 1) := dk_29 (dk_at dksX3_says_1 17 rfl rfl)
theorem dX3_says_40 : decode cX3_says 40 = .ok (.aaload, 1) := dk_50 (dk_at dksX3_says_1 18 rfl rfl)
theorem dX3_says_41 : decode cX3_says 41 = .ok (.iload 5, 2) := dk_21 5 (dk_at dksX3_says_1 19 rfl rfl)
theorem dX3_says_43 : decode cX3_says 43 = .ok (.laload, 1) := dk_47 (dk_at dksX3_says_1 21 rfl rfl)
theorem dX3_says_44 : decode cX3_says 44 = .ok (.aload 4, 2) := dk_25 4 (dk_at dksX3_says_1 22 rfl rfl)
theorem dX3_says_46 : decode cX3_says 46 = .ok (.iload 5, 2) := dk_21 5 (dk_at dksX3_says_2 0 rfl rfl)
theorem dX3_says_48 : decode cX3_says 48 = .ok (.laload, 1) := dk_47 (dk_at dksX3_says_2 2 rfl rfl)
theorem dX3_says_49 : decode cX3_says 49 = .ok (.land, 1) := dk_127 (dk_at dksX3_says_2 3 rfl rfl)
theorem dX3_says_50 : decode cX3_says 50 = .ok (.lastore, 1) := dk_80 (dk_at dksX3_says_2 4 rfl rfl)
theorem dX3_says_51 : decode cX3_says 51 = .ok (.iinc 5 1, 3) := dk_132 5 1 (dk_at dksX3_says_2 5 rfl rfl)
theorem dX3_says_54 : decode cX3_says 54 = .ok (.goto (-36), 3) := dk_167 255 220 (dk_at dksX3_says_2 8 rfl rfl)
theorem dX3_says_57 : decode cX3_says 57 = .ok (.aload_n 0, 1) := dk_42 (dk_at dksX3_says_2 11 rfl rfl)
theorem dX3_says_58 : decode cX3_says 58 = .ok (.invokevirtual 132, 3) := dk_182 0 132 (dk_at dksX3_says_2 12 rfl rfl)
theorem dX3_says_61 : decode cX3_says 61 = .ok (.return_, 1) := dk_177 (dk_at dksX3_says_2 15 rfl rfl)
abbrev cX3_taken : ByteArray := prog_4_method_2_code
def yX3_taken : MethodName := ⟨RX3, "taken", "()[J"⟩
def dkwX3_taken_0 : List UInt8 := [42, 89, 180, 0, 42, 4, 96, 181, 0, 42, 42, 180, 0, 35, 42, 180, 0, 42, 4, 100, 50, 176]
abbrev dktX3_taken_0 : List UInt8 := dkwX3_taken_0 ++ []
theorem dksX3_taken_0 : cX3_taken.data.toList.drop 0 = dktX3_taken_0 := by decide +kernel
theorem dX3_taken_0 : decode cX3_taken 0 = .ok (.aload_n 0, 1) := dk_42 (dk_at dksX3_taken_0 0 rfl rfl)
theorem dX3_taken_1 : decode cX3_taken 1 = .ok (.dup, 1) := dk_89 (dk_at dksX3_taken_0 1 rfl rfl)
theorem dX3_taken_2 : decode cX3_taken 2 = .ok (.getfield 42, 3) := dk_180 0 42 (dk_at dksX3_taken_0 2 rfl rfl)
theorem dX3_taken_5 : decode cX3_taken 5 = .ok (.iconst 1, 1) := dk_4 (dk_at dksX3_taken_0 5 rfl rfl)
theorem dX3_taken_6 : decode cX3_taken 6 = .ok (.iadd, 1) := dk_96 (dk_at dksX3_taken_0 6 rfl rfl)
theorem dX3_taken_7 : decode cX3_taken 7 = .ok (.putfield 42, 3) := dk_181 0 42 (dk_at dksX3_taken_0 7 rfl rfl)
theorem dX3_taken_10 : decode cX3_taken 10 = .ok (.aload_n 0, 1) := dk_42 (dk_at dksX3_taken_0 10 rfl rfl)
theorem dX3_taken_11 : decode cX3_taken 11 = .ok (.getfield 35, 3) := dk_180 0 35 (dk_at dksX3_taken_0 11 rfl rfl)
theorem dX3_taken_14 : decode cX3_taken 14 = .ok (.aload_n 0, 1) := dk_42 (dk_at dksX3_taken_0 14 rfl rfl)
theorem dX3_taken_15 : decode cX3_taken 15 = .ok (.getfield 42, 3) := dk_180 0 42 (dk_at dksX3_taken_0 15 rfl rfl)
theorem dX3_taken_18 : decode cX3_taken 18 = .ok (.iconst 1, 1) := dk_4 (dk_at dksX3_taken_0 18 rfl rfl)
theorem dX3_taken_19 : decode cX3_taken 19 = .ok (.isub, 1) := dk_100 (dk_at dksX3_taken_0 19 rfl rfl)
theorem dX3_taken_20 : decode cX3_taken 20 = .ok (.aaload, 1) := dk_50 (dk_at dksX3_taken_0 20 rfl rfl)
theorem dX3_taken_21 : decode cX3_taken 21 = .ok (.areturn, 1) := dk_176 (dk_at dksX3_taken_0 21 rfl rfl)
abbrev cX3_may : ByteArray := prog_4_method_11_code
def yX3_may : MethodName := ⟨RX3, "may", "(ILTwoSlips$Saying;I[J)V"⟩
def dkwX3_may_2 : List UInt8 := [47, 127, 80, 132, 5, 1, 167, 255, 224, 177]
abbrev dktX3_may_2 : List UInt8 := dkwX3_may_2 ++ []
def dkwX3_may_1 : List UInt8 := [16, 29, 162, 0, 31, 25, 4, 21, 5, 25, 4, 21, 5, 47, 20, 0, 145, 131, 42, 180, 0, 26, 21, 5]
abbrev dktX3_may_1 : List UInt8 := dkwX3_may_1 ++ dktX3_may_2
def dkwX3_may_0 : List UInt8 := [42, 27, 44, 29, 25, 4, 182, 0, 138, 42, 27, 182, 0, 142, 154, 0, 4, 177, 3, 54, 5, 21, 5]
abbrev dktX3_may_0 : List UInt8 := dkwX3_may_0 ++ dktX3_may_1
theorem dksX3_may_0 : cX3_may.data.toList.drop 0 = dktX3_may_0 := by decide +kernel
theorem dksX3_may_1 : cX3_may.data.toList.drop 23 = dktX3_may_1 := dk_seg dksX3_may_0 23 rfl rfl
theorem dksX3_may_2 : cX3_may.data.toList.drop 47 = dktX3_may_2 := dk_seg dksX3_may_1 24 rfl rfl
theorem dX3_may_0 : decode cX3_may 0 = .ok (.aload_n 0, 1) := dk_42 (dk_at dksX3_may_0 0 rfl rfl)
theorem dX3_may_1 : decode cX3_may 1 = .ok (.iload_n 1, 1) := dk_27 (dk_at dksX3_may_0 1 rfl rfl)
theorem dX3_may_2 : decode cX3_may 2 = .ok (.aload_n 2, 1) := dk_44 (dk_at dksX3_may_0 2 rfl rfl)
theorem dX3_may_3 : decode cX3_may 3 = .ok (.iload_n 3, 1) := dk_29 (dk_at dksX3_may_0 3 rfl rfl)
theorem dX3_may_4 : decode cX3_may 4 = .ok (.aload 4, 2) := dk_25 4 (dk_at dksX3_may_0 4 rfl rfl)
theorem dX3_may_6 : decode cX3_may 6 = .ok (.invokevirtual 138, 3) := dk_182 0 138 (dk_at dksX3_may_0 6 rfl rfl)
theorem dX3_may_9 : decode cX3_may 9 = .ok (.aload_n 0, 1) := dk_42 (dk_at dksX3_may_0 9 rfl rfl)
theorem dX3_may_10 : decode cX3_may 10 = .ok (.iload_n 1, 1) := dk_27 (dk_at dksX3_may_0 10 rfl rfl)
theorem dX3_may_11 : decode cX3_may 11 = .ok (.invokevirtual 142, 3) := dk_182 0 142 (dk_at dksX3_may_0 11 rfl rfl)
theorem dX3_may_14 : decode cX3_may 14 = .ok (.ifCond .ne 4, 3) := dk_154 0 4 (dk_at dksX3_may_0 14 rfl rfl)
theorem dX3_may_17 : decode cX3_may 17 = .ok (.return_, 1) := dk_177 (dk_at dksX3_may_0 17 rfl rfl)
theorem dX3_may_18 : decode cX3_may 18 = .ok (.iconst 0, 1) := dk_3 (dk_at dksX3_may_0 18 rfl rfl)
theorem dX3_may_19 : decode cX3_may 19 = .ok (.istore 5, 2) := dk_54 5 (dk_at dksX3_may_0 19 rfl rfl)
theorem dX3_may_21 : decode cX3_may 21 = .ok (.iload 5, 2) := dk_21 5 (dk_at dksX3_may_0 21 rfl rfl)
theorem dX3_may_23 : decode cX3_may 23 = .ok (.bipush 29, 2) := dk_16 29 (dk_at dksX3_may_1 0 rfl rfl)
theorem dX3_may_25 : decode cX3_may 25 = .ok (.if_icmp .ge 31, 3) := dk_162 0 31 (dk_at dksX3_may_1 2 rfl rfl)
theorem dX3_may_28 : decode cX3_may 28 = .ok (.aload 4, 2) := dk_25 4 (dk_at dksX3_may_1 5 rfl rfl)
theorem dX3_may_30 : decode cX3_may 30 = .ok (.iload 5, 2) := dk_21 5 (dk_at dksX3_may_1 7 rfl rfl)
theorem dX3_may_32 : decode cX3_may 32 = .ok (.aload 4, 2) := dk_25 4 (dk_at dksX3_may_1 9 rfl rfl)
theorem dX3_may_34 : decode cX3_may 34 = .ok (.iload 5, 2) := dk_21 5 (dk_at dksX3_may_1 11 rfl rfl)
theorem dX3_may_36 : decode cX3_may 36 = .ok (.laload, 1) := dk_47 (dk_at dksX3_may_1 13 rfl rfl)
theorem dX3_may_37 : decode cX3_may 37 = .ok (.ldc2_w 145, 3) := dk_20 0 145 (dk_at dksX3_may_1 14 rfl rfl)
theorem dX3_may_40 : decode cX3_may 40 = .ok (.lxor, 1) := dk_131 (dk_at dksX3_may_1 17 rfl rfl)
theorem dX3_may_41 : decode cX3_may 41 = .ok (.aload_n 0, 1) := dk_42 (dk_at dksX3_may_1 18 rfl rfl)
theorem dX3_may_42 : decode cX3_may 42 = .ok (.getfield 26, 3) := dk_180 0 26 (dk_at dksX3_may_1 19 rfl rfl)
theorem dX3_may_45 : decode cX3_may 45 = .ok (.iload 5, 2) := dk_21 5 (dk_at dksX3_may_1 22 rfl rfl)
theorem dX3_may_47 : decode cX3_may 47 = .ok (.laload, 1) := dk_47 (dk_at dksX3_may_2 0 rfl rfl)
theorem dX3_may_48 : decode cX3_may 48 = .ok (.land, 1) := dk_127 (dk_at dksX3_may_2 1 rfl rfl)
theorem dX3_may_49 : decode cX3_may 49 = .ok (.lastore, 1) := dk_80 (dk_at dksX3_may_2 2 rfl rfl)
theorem dX3_may_50 : decode cX3_may 50 = .ok (.iinc 5 1, 3) := dk_132 5 1 (dk_at dksX3_may_2 3 rfl rfl)
theorem dX3_may_53 : decode cX3_may 53 = .ok (.goto (-32), 3) := dk_167 255 224 (dk_at dksX3_may_2 6 rfl rfl)
theorem dX3_may_56 : decode cX3_may 56 = .ok (.return_, 1) := dk_177 (dk_at dksX3_may_2 9 rfl rfl)
abbrev cX3_sees : ByteArray := prog_4_method_9_code
def yX3_sees : MethodName := ⟨RX3, "sees", "(ILTwoSlips$Saying;I[J)V"⟩
def dkwX3_sees_6 : List UInt8 := [167, 255, 220, 42, 182, 0, 132, 177]
abbrev dktX3_sees_6 : List UInt8 := dkwX3_sees_6 ++ []
def dkwX3_sees_5 : List UInt8 := [180, 0, 23, 27, 50, 21, 7, 46, 46, 154, 0, 10, 25, 4, 21, 7, 184, 0, 93, 132, 7, 1]
abbrev dktX3_sees_5 : List UInt8 := dkwX3_sees_5 ++ dktX3_sees_6
def dkwX3_sees_4 : List UInt8 := [25, 4, 9, 184, 0, 52, 3, 54, 7, 21, 7, 42, 180, 0, 49, 162, 0, 33, 42, 180, 0, 18, 42]
abbrev dktX3_sees_4 : List UInt8 := dkwX3_sees_4 ++ dktX3_sees_5
def dkwX3_sees_3 : List UInt8 := [180, 0, 18, 42, 180, 0, 23, 27, 50, 21, 7, 46, 92, 46, 4, 96, 79, 132, 7, 1, 167, 255, 201]
abbrev dktX3_sees_3 : List UInt8 := dkwX3_sees_3 ++ dktX3_sees_4
def dkwX3_sees_2 : List UInt8 := [21, 5, 50, 21, 7, 184, 0, 109, 153, 0, 31, 25, 6, 21, 7, 184, 0, 109, 154, 0, 21, 42]
abbrev dktX3_sees_2 : List UInt8 := dkwX3_sees_2 ++ dktX3_sees_3
def dkwX3_sees_1 : List UInt8 := [180, 0, 18, 3, 184, 0, 106, 3, 54, 7, 21, 7, 42, 180, 0, 49, 162, 0, 52, 42, 180, 0, 32]
abbrev dktX3_sees_1 : List UInt8 := dkwX3_sees_1 ++ dktX3_sees_2
def dkwX3_sees_0 : List UInt8 := [42, 27, 29, 182, 0, 120, 54, 5, 42, 182, 0, 123, 58, 6, 44, 42, 21, 5, 25, 6, 182, 0, 127, 42]
abbrev dktX3_sees_0 : List UInt8 := dkwX3_sees_0 ++ dktX3_sees_1
theorem dksX3_sees_0 : cX3_sees.data.toList.drop 0 = dktX3_sees_0 := by decide +kernel
theorem dksX3_sees_1 : cX3_sees.data.toList.drop 24 = dktX3_sees_1 := dk_seg dksX3_sees_0 24 rfl rfl
theorem dksX3_sees_2 : cX3_sees.data.toList.drop 47 = dktX3_sees_2 := dk_seg dksX3_sees_1 23 rfl rfl
theorem dksX3_sees_3 : cX3_sees.data.toList.drop 69 = dktX3_sees_3 := dk_seg dksX3_sees_2 22 rfl rfl
theorem dksX3_sees_4 : cX3_sees.data.toList.drop 92 = dktX3_sees_4 := dk_seg dksX3_sees_3 23 rfl rfl
theorem dksX3_sees_5 : cX3_sees.data.toList.drop 115 = dktX3_sees_5 := dk_seg dksX3_sees_4 23 rfl rfl
theorem dksX3_sees_6 : cX3_sees.data.toList.drop 137 = dktX3_sees_6 := dk_seg dksX3_sees_5 22 rfl rfl
theorem dX3_sees_0 : decode cX3_sees 0 = .ok (.aload_n 0, 1) := dk_42 (dk_at dksX3_sees_0 0 rfl rfl)
theorem dX3_sees_1 : decode cX3_sees 1 = .ok (.iload_n 1, 1) := dk_27 (dk_at dksX3_sees_0 1 rfl rfl)
theorem dX3_sees_2 : decode cX3_sees 2 = .ok (.iload_n 3, 1) := dk_29 (dk_at dksX3_sees_0 2 rfl rfl)
theorem dX3_sees_3 : decode cX3_sees 3 = .ok (.invokevirtual 120, 3) := dk_182 0 120 (dk_at dksX3_sees_0 3 rfl rfl)
theorem dX3_sees_6 : decode cX3_sees 6 = .ok (.istore 5, 2) := dk_54 5 (dk_at dksX3_sees_0 6 rfl rfl)
theorem dX3_sees_8 : decode cX3_sees 8 = .ok (.aload_n 0, 1) := dk_42 (dk_at dksX3_sees_0 8 rfl rfl)
theorem dX3_sees_9 : decode cX3_sees 9 = .ok (.invokevirtual 123, 3) := dk_182 0 123 (dk_at dksX3_sees_0 9 rfl rfl)
theorem dX3_sees_12 : decode cX3_sees 12 = .ok (.astore 6, 2) := dk_58 6 (dk_at dksX3_sees_0 12 rfl rfl)
theorem dX3_sees_14 : decode cX3_sees 14 = .ok (.aload_n 2, 1) := dk_44 (dk_at dksX3_sees_0 14 rfl rfl)
theorem dX3_sees_15 : decode cX3_sees 15 = .ok (.aload_n 0, 1) := dk_42 (dk_at dksX3_sees_0 15 rfl rfl)
theorem dX3_sees_16 : decode cX3_sees 16 = .ok (.iload 5, 2) := dk_21 5 (dk_at dksX3_sees_0 16 rfl rfl)
theorem dX3_sees_18 : decode cX3_sees 18 = .ok (.aload 6, 2) := dk_25 6 (dk_at dksX3_sees_0 18 rfl rfl)
theorem dX3_sees_20 : decode cX3_sees 20 = .ok (.invokevirtual 127, 3) := dk_182 0 127 (dk_at dksX3_sees_0 20 rfl rfl)
theorem dX3_sees_23 : decode cX3_sees 23 = .ok (.aload_n 0, 1) := dk_42 (dk_at dksX3_sees_0 23 rfl rfl)
theorem dX3_sees_24 : decode cX3_sees 24 = .ok (.getfield 18, 3) := dk_180 0 18 (dk_at dksX3_sees_1 0 rfl rfl)
theorem dX3_sees_27 : decode cX3_sees 27 = .ok (.iconst 0, 1) := dk_3 (dk_at dksX3_sees_1 3 rfl rfl)
theorem dX3_sees_28 : decode cX3_sees 28 = .ok (.invokestatic 106, 3) := dk_184 0 106 (dk_at dksX3_sees_1 4 rfl rfl)
theorem dX3_sees_31 : decode cX3_sees 31 = .ok (.iconst 0, 1) := dk_3 (dk_at dksX3_sees_1 7 rfl rfl)
theorem dX3_sees_32 : decode cX3_sees 32 = .ok (.istore 7, 2) := dk_54 7 (dk_at dksX3_sees_1 8 rfl rfl)
theorem dX3_sees_34 : decode cX3_sees 34 = .ok (.iload 7, 2) := dk_21 7 (dk_at dksX3_sees_1 10 rfl rfl)
theorem dX3_sees_36 : decode cX3_sees 36 = .ok (.aload_n 0, 1) := dk_42 (dk_at dksX3_sees_1 12 rfl rfl)
theorem dX3_sees_37 : decode cX3_sees 37 = .ok (.getfield 49, 3) := dk_180 0 49 (dk_at dksX3_sees_1 13 rfl rfl)
theorem dX3_sees_40 : decode cX3_sees 40 = .ok (.if_icmp .ge 52, 3) := dk_162 0 52 (dk_at dksX3_sees_1 16 rfl rfl)
theorem dX3_sees_43 : decode cX3_sees 43 = .ok (.aload_n 0, 1) := dk_42 (dk_at dksX3_sees_1 19 rfl rfl)
theorem dX3_sees_44 : decode cX3_sees 44 = .ok (.getfield 32, 3) := dk_180 0 32 (dk_at dksX3_sees_1 20 rfl rfl)
theorem dX3_sees_47 : decode cX3_sees 47 = .ok (.iload 5, 2) := dk_21 5 (dk_at dksX3_sees_2 0 rfl rfl)
theorem dX3_sees_49 : decode cX3_sees 49 = .ok (.aaload, 1) := dk_50 (dk_at dksX3_sees_2 2 rfl rfl)
theorem dX3_sees_50 : decode cX3_sees 50 = .ok (.iload 7, 2) := dk_21 7 (dk_at dksX3_sees_2 3 rfl rfl)
theorem dX3_sees_52 : decode cX3_sees 52 = .ok (.invokestatic 109, 3) := dk_184 0 109 (dk_at dksX3_sees_2 5 rfl rfl)
theorem dX3_sees_55 : decode cX3_sees 55 = .ok (.ifCond .eq 31, 3) := dk_153 0 31 (dk_at dksX3_sees_2 8 rfl rfl)
theorem dX3_sees_58 : decode cX3_sees 58 = .ok (.aload 6, 2) := dk_25 6 (dk_at dksX3_sees_2 11 rfl rfl)
theorem dX3_sees_60 : decode cX3_sees 60 = .ok (.iload 7, 2) := dk_21 7 (dk_at dksX3_sees_2 13 rfl rfl)
theorem dX3_sees_62 : decode cX3_sees 62 = .ok (.invokestatic 109, 3) := dk_184 0 109 (dk_at dksX3_sees_2 15 rfl rfl)
theorem dX3_sees_65 : decode cX3_sees 65 = .ok (.ifCond .ne 21, 3) := dk_154 0 21 (dk_at dksX3_sees_2 18 rfl rfl)
theorem dX3_sees_68 : decode cX3_sees 68 = .ok (.aload_n 0, 1) := dk_42 (dk_at dksX3_sees_2 21 rfl rfl)
theorem dX3_sees_69 : decode cX3_sees 69 = .ok (.getfield 18, 3) := dk_180 0 18 (dk_at dksX3_sees_3 0 rfl rfl)
theorem dX3_sees_72 : decode cX3_sees 72 = .ok (.aload_n 0, 1) := dk_42 (dk_at dksX3_sees_3 3 rfl rfl)
theorem dX3_sees_73 : decode cX3_sees 73 = .ok (.getfield 23, 3) := dk_180 0 23 (dk_at dksX3_sees_3 4 rfl rfl)
theorem dX3_sees_76 : decode cX3_sees 76 = .ok (.iload_n 1, 1) := dk_27 (dk_at dksX3_sees_3 7 rfl rfl)
theorem dX3_sees_77 : decode cX3_sees 77 = .ok (.aaload, 1) := dk_50 (dk_at dksX3_sees_3 8 rfl rfl)
theorem dX3_sees_78 : decode cX3_sees 78 = .ok (.iload 7, 2) := dk_21 7 (dk_at dksX3_sees_3 9 rfl rfl)
theorem dX3_sees_80 : decode cX3_sees 80 = .ok (.iaload, 1) := dk_46 (dk_at dksX3_sees_3 11 rfl rfl)
theorem dX3_sees_81 : decode cX3_sees 81 = .ok (.dup2, 1) := dk_92 (dk_at dksX3_sees_3 12 rfl rfl)
theorem dX3_sees_82 : decode cX3_sees 82 = .ok (.iaload, 1) := dk_46 (dk_at dksX3_sees_3 13 rfl rfl)
theorem dX3_sees_83 : decode cX3_sees 83 = .ok (.iconst 1, 1) := dk_4 (dk_at dksX3_sees_3 14 rfl rfl)
theorem dX3_sees_84 : decode cX3_sees 84 = .ok (.iadd, 1) := dk_96 (dk_at dksX3_sees_3 15 rfl rfl)
theorem dX3_sees_85 : decode cX3_sees 85 = .ok (.iastore, 1) := dk_79 (dk_at dksX3_sees_3 16 rfl rfl)
theorem dX3_sees_86 : decode cX3_sees 86 = .ok (.iinc 7 1, 3) := dk_132 7 1 (dk_at dksX3_sees_3 17 rfl rfl)
theorem dX3_sees_89 : decode cX3_sees 89 = .ok (.goto (-55), 3) := dk_167 255 201 (dk_at dksX3_sees_3 20 rfl rfl)
theorem dX3_sees_92 : decode cX3_sees 92 = .ok (.aload 4, 2) := dk_25 4 (dk_at dksX3_sees_4 0 rfl rfl)
theorem dX3_sees_94 : decode cX3_sees 94 = .ok (.lconst 0, 1) := dk_9 (dk_at dksX3_sees_4 2 rfl rfl)
theorem dX3_sees_95 : decode cX3_sees 95 = .ok (.invokestatic 52, 3) := dk_184 0 52 (dk_at dksX3_sees_4 3 rfl rfl)
theorem dX3_sees_98 : decode cX3_sees 98 = .ok (.iconst 0, 1) := dk_3 (dk_at dksX3_sees_4 6 rfl rfl)
theorem dX3_sees_99 : decode cX3_sees 99 = .ok (.istore 7, 2) := dk_54 7 (dk_at dksX3_sees_4 7 rfl rfl)
theorem dX3_sees_101 : decode cX3_sees 101 = .ok (.iload 7, 2) := dk_21 7 (dk_at dksX3_sees_4 9 rfl rfl)
theorem dX3_sees_103 : decode cX3_sees 103 = .ok (.aload_n 0, 1) := dk_42 (dk_at dksX3_sees_4 11 rfl rfl)
theorem dX3_sees_104 : decode cX3_sees 104 = .ok (.getfield 49, 3) := dk_180 0 49 (dk_at dksX3_sees_4 12 rfl rfl)
theorem dX3_sees_107 : decode cX3_sees 107 = .ok (.if_icmp .ge 33, 3) := dk_162 0 33 (dk_at dksX3_sees_4 15 rfl rfl)
theorem dX3_sees_110 : decode cX3_sees 110 = .ok (.aload_n 0, 1) := dk_42 (dk_at dksX3_sees_4 18 rfl rfl)
theorem dX3_sees_111 : decode cX3_sees 111 = .ok (.getfield 18, 3) := dk_180 0 18 (dk_at dksX3_sees_4 19 rfl rfl)
theorem dX3_sees_114 : decode cX3_sees 114 = .ok (.aload_n 0, 1) := dk_42 (dk_at dksX3_sees_4 22 rfl rfl)
theorem dX3_sees_115 : decode cX3_sees 115 = .ok (.getfield 23, 3) := dk_180 0 23 (dk_at dksX3_sees_5 0 rfl rfl)
theorem dX3_sees_118 : decode cX3_sees 118 = .ok (.iload_n 1, 1) := dk_27 (dk_at dksX3_sees_5 3 rfl rfl)
theorem dX3_sees_119 : decode cX3_sees 119 = .ok (.aaload, 1) := dk_50 (dk_at dksX3_sees_5 4 rfl rfl)
theorem dX3_sees_120 : decode cX3_sees 120 = .ok (.iload 7, 2) := dk_21 7 (dk_at dksX3_sees_5 5 rfl rfl)
theorem dX3_sees_122 : decode cX3_sees 122 = .ok (.iaload, 1) := dk_46 (dk_at dksX3_sees_5 7 rfl rfl)
theorem dX3_sees_123 : decode cX3_sees 123 = .ok (.iaload, 1) := dk_46 (dk_at dksX3_sees_5 8 rfl rfl)
theorem dX3_sees_124 : decode cX3_sees 124 = .ok (.ifCond .ne 10, 3) := dk_154 0 10 (dk_at dksX3_sees_5 9 rfl rfl)
theorem dX3_sees_127 : decode cX3_sees 127 = .ok (.aload 4, 2) := dk_25 4 (dk_at dksX3_sees_5 12 rfl rfl)
theorem dX3_sees_129 : decode cX3_sees 129 = .ok (.iload 7, 2) := dk_21 7 (dk_at dksX3_sees_5 14 rfl rfl)
theorem dX3_sees_131 : decode cX3_sees 131 = .ok (.invokestatic 93, 3) := dk_184 0 93 (dk_at dksX3_sees_5 16 rfl rfl)
theorem dX3_sees_134 : decode cX3_sees 134 = .ok (.iinc 7 1, 3) := dk_132 7 1 (dk_at dksX3_sees_5 19 rfl rfl)
theorem dX3_sees_137 : decode cX3_sees 137 = .ok (.goto (-36), 3) := dk_167 255 220 (dk_at dksX3_sees_6 0 rfl rfl)
theorem dX3_sees_140 : decode cX3_sees 140 = .ok (.aload_n 0, 1) := dk_42 (dk_at dksX3_sees_6 3 rfl rfl)
theorem dX3_sees_141 : decode cX3_sees 141 = .ok (.invokevirtual 132, 3) := dk_182 0 132 (dk_at dksX3_sees_6 4 rfl rfl)
theorem dX3_sees_144 : decode cX3_sees 144 = .ok (.return_, 1) := dk_177 (dk_at dksX3_sees_6 7 rfl rfl)
abbrev cX3_heard : ByteArray := prog_4_method_5_code
def yX3_heard : MethodName := ⟨RX3, "heard", "(II)I"⟩
def dkwX3_heard_0 : List UInt8 := [42, 180, 0, 45, 27, 182, 0, 77, 180, 0, 103, 153, 0, 7, 3, 167, 0, 4, 28, 172]
abbrev dktX3_heard_0 : List UInt8 := dkwX3_heard_0 ++ []
theorem dksX3_heard_0 : cX3_heard.data.toList.drop 0 = dktX3_heard_0 := by decide +kernel
theorem dX3_heard_0 : decode cX3_heard 0 = .ok (.aload_n 0, 1) := dk_42 (dk_at dksX3_heard_0 0 rfl rfl)
theorem dX3_heard_1 : decode cX3_heard 1 = .ok (.getfield 45, 3) := dk_180 0 45 (dk_at dksX3_heard_0 1 rfl rfl)
theorem dX3_heard_4 : decode cX3_heard 4 = .ok (.iload_n 1, 1) := dk_27 (dk_at dksX3_heard_0 4 rfl rfl)
theorem dX3_heard_5 : decode cX3_heard 5 = .ok (.invokevirtual 77, 3) := dk_182 0 77 (dk_at dksX3_heard_0 5 rfl rfl)
theorem dX3_heard_8 : decode cX3_heard 8 = .ok (.getfield 103, 3) := dk_180 0 103 (dk_at dksX3_heard_0 8 rfl rfl)
theorem dX3_heard_11 : decode cX3_heard 11 = .ok (.ifCond .eq 7, 3) := dk_153 0 7 (dk_at dksX3_heard_0 11 rfl rfl)
theorem dX3_heard_14 : decode cX3_heard 14 = .ok (.iconst 0, 1) := dk_3 (dk_at dksX3_heard_0 14 rfl rfl)
theorem dX3_heard_15 : decode cX3_heard 15 = .ok (.goto 4, 3) := dk_167 0 4 (dk_at dksX3_heard_0 15 rfl rfl)
theorem dX3_heard_18 : decode cX3_heard 18 = .ok (.iload_n 2, 1) := dk_28 (dk_at dksX3_heard_0 18 rfl rfl)
theorem dX3_heard_19 : decode cX3_heard 19 = .ok (.ireturn, 1) := dk_172 (dk_at dksX3_heard_0 19 rfl rfl)
abbrev cX3_knows : ByteArray := prog_4_method_8_code
def yX3_knows : MethodName := ⟨RX3, "knows", "(II[J)V"⟩
def dkwX3_knows_0 : List UInt8 := [42, 27, 42, 180, 0, 32, 28, 50, 45, 182, 0, 116, 177]
abbrev dktX3_knows_0 : List UInt8 := dkwX3_knows_0 ++ []
theorem dksX3_knows_0 : cX3_knows.data.toList.drop 0 = dktX3_knows_0 := by decide +kernel
theorem dX3_knows_0 : decode cX3_knows 0 = .ok (.aload_n 0, 1) := dk_42 (dk_at dksX3_knows_0 0 rfl rfl)
theorem dX3_knows_1 : decode cX3_knows 1 = .ok (.iload_n 1, 1) := dk_27 (dk_at dksX3_knows_0 1 rfl rfl)
theorem dX3_knows_2 : decode cX3_knows 2 = .ok (.aload_n 0, 1) := dk_42 (dk_at dksX3_knows_0 2 rfl rfl)
theorem dX3_knows_3 : decode cX3_knows 3 = .ok (.getfield 32, 3) := dk_180 0 32 (dk_at dksX3_knows_0 3 rfl rfl)
theorem dX3_knows_6 : decode cX3_knows 6 = .ok (.iload_n 2, 1) := dk_28 (dk_at dksX3_knows_0 6 rfl rfl)
theorem dX3_knows_7 : decode cX3_knows 7 = .ok (.aaload, 1) := dk_50 (dk_at dksX3_knows_0 7 rfl rfl)
theorem dX3_knows_8 : decode cX3_knows 8 = .ok (.aload_n 3, 1) := dk_45 (dk_at dksX3_knows_0 8 rfl rfl)
theorem dX3_knows_9 : decode cX3_knows 9 = .ok (.invokevirtual 116, 3) := dk_182 0 116 (dk_at dksX3_knows_0 9 rfl rfl)
theorem dX3_knows_12 : decode cX3_knows 12 = .ok (.return_, 1) := dk_177 (dk_at dksX3_knows_0 12 rfl rfl)
abbrev cX3_alone : ByteArray := prog_4_method_7_code
def yX3_alone : MethodName := ⟨RX3, "alone", "(I[J[J)V"⟩
def dkwX3_alone_2 : List UInt8 := [167, 0, 4, 3, 160, 0, 9, 45, 21, 4, 184, 0, 93, 132, 4, 1, 167, 255, 207, 177]
abbrev dktX3_alone_2 : List UInt8 := dkwX3_alone_2 ++ []
def dkwX3_alone_1 : List UInt8 := [180, 0, 18, 42, 180, 0, 23, 27, 50, 21, 4, 46, 46, 44, 21, 4, 184, 0, 109, 153, 0, 7, 4]
abbrev dktX3_alone_1 : List UInt8 := dkwX3_alone_1 ++ dktX3_alone_2
def dkwX3_alone_0 : List UInt8 := [42, 27, 44, 182, 0, 113, 45, 9, 184, 0, 52, 3, 54, 4, 21, 4, 42, 180, 0, 49, 162, 0, 46, 42]
abbrev dktX3_alone_0 : List UInt8 := dkwX3_alone_0 ++ dktX3_alone_1
theorem dksX3_alone_0 : cX3_alone.data.toList.drop 0 = dktX3_alone_0 := by decide +kernel
theorem dksX3_alone_1 : cX3_alone.data.toList.drop 24 = dktX3_alone_1 := dk_seg dksX3_alone_0 24 rfl rfl
theorem dksX3_alone_2 : cX3_alone.data.toList.drop 47 = dktX3_alone_2 := dk_seg dksX3_alone_1 23 rfl rfl
theorem dX3_alone_0 : decode cX3_alone 0 = .ok (.aload_n 0, 1) := dk_42 (dk_at dksX3_alone_0 0 rfl rfl)
theorem dX3_alone_1 : decode cX3_alone 1 = .ok (.iload_n 1, 1) := dk_27 (dk_at dksX3_alone_0 1 rfl rfl)
theorem dX3_alone_2 : decode cX3_alone 2 = .ok (.aload_n 2, 1) := dk_44 (dk_at dksX3_alone_0 2 rfl rfl)
theorem dX3_alone_3 : decode cX3_alone 3 = .ok (.invokevirtual 113, 3) := dk_182 0 113 (dk_at dksX3_alone_0 3 rfl rfl)
theorem dX3_alone_6 : decode cX3_alone 6 = .ok (.aload_n 3, 1) := dk_45 (dk_at dksX3_alone_0 6 rfl rfl)
theorem dX3_alone_7 : decode cX3_alone 7 = .ok (.lconst 0, 1) := dk_9 (dk_at dksX3_alone_0 7 rfl rfl)
theorem dX3_alone_8 : decode cX3_alone 8 = .ok (.invokestatic 52, 3) := dk_184 0 52 (dk_at dksX3_alone_0 8 rfl rfl)
theorem dX3_alone_11 : decode cX3_alone 11 = .ok (.iconst 0, 1) := dk_3 (dk_at dksX3_alone_0 11 rfl rfl)
theorem dX3_alone_12 : decode cX3_alone 12 = .ok (.istore 4, 2) := dk_54 4 (dk_at dksX3_alone_0 12 rfl rfl)
theorem dX3_alone_14 : decode cX3_alone 14 = .ok (.iload 4, 2) := dk_21 4 (dk_at dksX3_alone_0 14 rfl rfl)
theorem dX3_alone_16 : decode cX3_alone 16 = .ok (.aload_n 0, 1) := dk_42 (dk_at dksX3_alone_0 16 rfl rfl)
theorem dX3_alone_17 : decode cX3_alone 17 = .ok (.getfield 49, 3) := dk_180 0 49 (dk_at dksX3_alone_0 17 rfl rfl)
theorem dX3_alone_20 : decode cX3_alone 20 = .ok (.if_icmp .ge 46, 3) := dk_162 0 46 (dk_at dksX3_alone_0 20 rfl rfl)
theorem dX3_alone_23 : decode cX3_alone 23 = .ok (.aload_n 0, 1) := dk_42 (dk_at dksX3_alone_0 23 rfl rfl)
theorem dX3_alone_24 : decode cX3_alone 24 = .ok (.getfield 18, 3) := dk_180 0 18 (dk_at dksX3_alone_1 0 rfl rfl)
theorem dX3_alone_27 : decode cX3_alone 27 = .ok (.aload_n 0, 1) := dk_42 (dk_at dksX3_alone_1 3 rfl rfl)
theorem dX3_alone_28 : decode cX3_alone 28 = .ok (.getfield 23, 3) := dk_180 0 23 (dk_at dksX3_alone_1 4 rfl rfl)
theorem dX3_alone_31 : decode cX3_alone 31 = .ok (.iload_n 1, 1) := dk_27 (dk_at dksX3_alone_1 7 rfl rfl)
theorem dX3_alone_32 : decode cX3_alone 32 = .ok (.aaload, 1) := dk_50 (dk_at dksX3_alone_1 8 rfl rfl)
theorem dX3_alone_33 : decode cX3_alone 33 = .ok (.iload 4, 2) := dk_21 4 (dk_at dksX3_alone_1 9 rfl rfl)
theorem dX3_alone_35 : decode cX3_alone 35 = .ok (.iaload, 1) := dk_46 (dk_at dksX3_alone_1 11 rfl rfl)
theorem dX3_alone_36 : decode cX3_alone 36 = .ok (.iaload, 1) := dk_46 (dk_at dksX3_alone_1 12 rfl rfl)
theorem dX3_alone_37 : decode cX3_alone 37 = .ok (.aload_n 2, 1) := dk_44 (dk_at dksX3_alone_1 13 rfl rfl)
theorem dX3_alone_38 : decode cX3_alone 38 = .ok (.iload 4, 2) := dk_21 4 (dk_at dksX3_alone_1 14 rfl rfl)
theorem dX3_alone_40 : decode cX3_alone 40 = .ok (.invokestatic 109, 3) := dk_184 0 109 (dk_at dksX3_alone_1 16 rfl rfl)
theorem dX3_alone_43 : decode cX3_alone 43 = .ok (.ifCond .eq 7, 3) := dk_153 0 7 (dk_at dksX3_alone_1 19 rfl rfl)
theorem dX3_alone_46 : decode cX3_alone 46 = .ok (.iconst 1, 1) := dk_4 (dk_at dksX3_alone_1 22 rfl rfl)
theorem dX3_alone_47 : decode cX3_alone 47 = .ok (.goto 4, 3) := dk_167 0 4 (dk_at dksX3_alone_2 0 rfl rfl)
theorem dX3_alone_50 : decode cX3_alone 50 = .ok (.iconst 0, 1) := dk_3 (dk_at dksX3_alone_2 3 rfl rfl)
theorem dX3_alone_51 : decode cX3_alone 51 = .ok (.if_icmp .ne 9, 3) := dk_160 0 9 (dk_at dksX3_alone_2 4 rfl rfl)
theorem dX3_alone_54 : decode cX3_alone 54 = .ok (.aload_n 3, 1) := dk_45 (dk_at dksX3_alone_2 7 rfl rfl)
theorem dX3_alone_55 : decode cX3_alone 55 = .ok (.iload 4, 2) := dk_21 4 (dk_at dksX3_alone_2 8 rfl rfl)
theorem dX3_alone_57 : decode cX3_alone 57 = .ok (.invokestatic 93, 3) := dk_184 0 93 (dk_at dksX3_alone_2 10 rfl rfl)
theorem dX3_alone_60 : decode cX3_alone 60 = .ok (.iinc 4 1, 3) := dk_132 4 1 (dk_at dksX3_alone_2 13 rfl rfl)
theorem dX3_alone_63 : decode cX3_alone 63 = .ok (.goto (-49), 3) := dk_167 255 207 (dk_at dksX3_alone_2 16 rfl rfl)
theorem dX3_alone_66 : decode cX3_alone 66 = .ok (.return_, 1) := dk_177 (dk_at dksX3_alone_2 19 rfl rfl)
abbrev cX3_heaps : ByteArray := prog_4_method_6_code
def yX3_heaps : MethodName := ⟨RX3, "heaps", "(I[J)V"⟩
def dkwX3_heaps_2 : List UInt8 := [167, 255, 220, 177]
abbrev dktX3_heaps_2 : List UInt8 := dkwX3_heaps_2 ++ []
def dkwX3_heaps_1 : List UInt8 := [153, 0, 20, 42, 180, 0, 18, 42, 180, 0, 23, 27, 50, 29, 46, 92, 46, 4, 96, 79, 132, 3, 1]
abbrev dktX3_heaps_1 : List UInt8 := dkwX3_heaps_1 ++ dktX3_heaps_2
def dkwX3_heaps_0 : List UInt8 := [42, 180, 0, 18, 3, 184, 0, 106, 3, 62, 29, 42, 180, 0, 49, 162, 0, 34, 44, 29, 184, 0, 109]
abbrev dktX3_heaps_0 : List UInt8 := dkwX3_heaps_0 ++ dktX3_heaps_1
theorem dksX3_heaps_0 : cX3_heaps.data.toList.drop 0 = dktX3_heaps_0 := by decide +kernel
theorem dksX3_heaps_1 : cX3_heaps.data.toList.drop 23 = dktX3_heaps_1 := dk_seg dksX3_heaps_0 23 rfl rfl
theorem dksX3_heaps_2 : cX3_heaps.data.toList.drop 46 = dktX3_heaps_2 := dk_seg dksX3_heaps_1 23 rfl rfl
theorem dX3_heaps_0 : decode cX3_heaps 0 = .ok (.aload_n 0, 1) := dk_42 (dk_at dksX3_heaps_0 0 rfl rfl)
theorem dX3_heaps_1 : decode cX3_heaps 1 = .ok (.getfield 18, 3) := dk_180 0 18 (dk_at dksX3_heaps_0 1 rfl rfl)
theorem dX3_heaps_4 : decode cX3_heaps 4 = .ok (.iconst 0, 1) := dk_3 (dk_at dksX3_heaps_0 4 rfl rfl)
theorem dX3_heaps_5 : decode cX3_heaps 5 = .ok (.invokestatic 106, 3) := dk_184 0 106 (dk_at dksX3_heaps_0 5 rfl rfl)
theorem dX3_heaps_8 : decode cX3_heaps 8 = .ok (.iconst 0, 1) := dk_3 (dk_at dksX3_heaps_0 8 rfl rfl)
theorem dX3_heaps_9 : decode cX3_heaps 9 = .ok (.istore_n 3, 1) := dk_62 (dk_at dksX3_heaps_0 9 rfl rfl)
theorem dX3_heaps_10 : decode cX3_heaps 10 = .ok (.iload_n 3, 1) := dk_29 (dk_at dksX3_heaps_0 10 rfl rfl)
theorem dX3_heaps_11 : decode cX3_heaps 11 = .ok (.aload_n 0, 1) := dk_42 (dk_at dksX3_heaps_0 11 rfl rfl)
theorem dX3_heaps_12 : decode cX3_heaps 12 = .ok (.getfield 49, 3) := dk_180 0 49 (dk_at dksX3_heaps_0 12 rfl rfl)
theorem dX3_heaps_15 : decode cX3_heaps 15 = .ok (.if_icmp .ge 34, 3) := dk_162 0 34 (dk_at dksX3_heaps_0 15 rfl rfl)
theorem dX3_heaps_18 : decode cX3_heaps 18 = .ok (.aload_n 2, 1) := dk_44 (dk_at dksX3_heaps_0 18 rfl rfl)
theorem dX3_heaps_19 : decode cX3_heaps 19 = .ok (.iload_n 3, 1) := dk_29 (dk_at dksX3_heaps_0 19 rfl rfl)
theorem dX3_heaps_20 : decode cX3_heaps 20 = .ok (.invokestatic 109, 3) := dk_184 0 109 (dk_at dksX3_heaps_0 20 rfl rfl)
theorem dX3_heaps_23 : decode cX3_heaps 23 = .ok (.ifCond .eq 20, 3) := dk_153 0 20 (dk_at dksX3_heaps_1 0 rfl rfl)
theorem dX3_heaps_26 : decode cX3_heaps 26 = .ok (.aload_n 0, 1) := dk_42 (dk_at dksX3_heaps_1 3 rfl rfl)
theorem dX3_heaps_27 : decode cX3_heaps 27 = .ok (.getfield 18, 3) := dk_180 0 18 (dk_at dksX3_heaps_1 4 rfl rfl)
theorem dX3_heaps_30 : decode cX3_heaps 30 = .ok (.aload_n 0, 1) := dk_42 (dk_at dksX3_heaps_1 7 rfl rfl)
theorem dX3_heaps_31 : decode cX3_heaps 31 = .ok (.getfield 23, 3) := dk_180 0 23 (dk_at dksX3_heaps_1 8 rfl rfl)
theorem dX3_heaps_34 : decode cX3_heaps 34 = .ok (.iload_n 1, 1) := dk_27 (dk_at dksX3_heaps_1 11 rfl rfl)
theorem dX3_heaps_35 : decode cX3_heaps 35 = .ok (.aaload, 1) := dk_50 (dk_at dksX3_heaps_1 12 rfl rfl)
theorem dX3_heaps_36 : decode cX3_heaps 36 = .ok (.iload_n 3, 1) := dk_29 (dk_at dksX3_heaps_1 13 rfl rfl)
theorem dX3_heaps_37 : decode cX3_heaps 37 = .ok (.iaload, 1) := dk_46 (dk_at dksX3_heaps_1 14 rfl rfl)
theorem dX3_heaps_38 : decode cX3_heaps 38 = .ok (.dup2, 1) := dk_92 (dk_at dksX3_heaps_1 15 rfl rfl)
theorem dX3_heaps_39 : decode cX3_heaps 39 = .ok (.iaload, 1) := dk_46 (dk_at dksX3_heaps_1 16 rfl rfl)
theorem dX3_heaps_40 : decode cX3_heaps 40 = .ok (.iconst 1, 1) := dk_4 (dk_at dksX3_heaps_1 17 rfl rfl)
theorem dX3_heaps_41 : decode cX3_heaps 41 = .ok (.iadd, 1) := dk_96 (dk_at dksX3_heaps_1 18 rfl rfl)
theorem dX3_heaps_42 : decode cX3_heaps 42 = .ok (.iastore, 1) := dk_79 (dk_at dksX3_heaps_1 19 rfl rfl)
theorem dX3_heaps_43 : decode cX3_heaps 43 = .ok (.iinc 3 1, 3) := dk_132 3 1 (dk_at dksX3_heaps_1 20 rfl rfl)
theorem dX3_heaps_46 : decode cX3_heaps 46 = .ok (.goto (-36), 3) := dk_167 255 220 (dk_at dksX3_heaps_2 0 rfl rfl)
theorem dX3_heaps_49 : decode cX3_heaps 49 = .ok (.return_, 1) := dk_177 (dk_at dksX3_heaps_2 3 rfl rfl)
abbrev cX3_given : ByteArray := prog_4_method_3_code
def yX3_given : MethodName := ⟨RX3, "given", "()V"⟩
def dkwX3_given_0 : List UInt8 := [42, 89, 180, 0, 42, 4, 100, 181, 0, 42, 177]
abbrev dktX3_given_0 : List UInt8 := dkwX3_given_0 ++ []
theorem dksX3_given_0 : cX3_given.data.toList.drop 0 = dktX3_given_0 := by decide +kernel
theorem dX3_given_0 : decode cX3_given 0 = .ok (.aload_n 0, 1) := dk_42 (dk_at dksX3_given_0 0 rfl rfl)
theorem dX3_given_1 : decode cX3_given 1 = .ok (.dup, 1) := dk_89 (dk_at dksX3_given_0 1 rfl rfl)
theorem dX3_given_2 : decode cX3_given 2 = .ok (.getfield 42, 3) := dk_180 0 42 (dk_at dksX3_given_0 2 rfl rfl)
theorem dX3_given_5 : decode cX3_given 5 = .ok (.iconst 1, 1) := dk_4 (dk_at dksX3_given_0 5 rfl rfl)
theorem dX3_given_6 : decode cX3_given 6 = .ok (.isub, 1) := dk_100 (dk_at dksX3_given_0 6 rfl rfl)
theorem dX3_given_7 : decode cX3_given 7 = .ok (.putfield 42, 3) := dk_181 0 42 (dk_at dksX3_given_0 7 rfl rfl)
theorem dX3_given_10 : decode cX3_given 10 = .ok (.return_, 1) := dk_177 (dk_at dksX3_given_0 10 rfl rfl)
abbrev cX3_isLiar : ByteArray := prog_4_method_10_code
def yX3_isLiar : MethodName := ⟨RX3, "isLiar", "(I)Z"⟩
def dkwX3_isLiar_1 : List UInt8 := [180, 0, 38, 27, 160, 0, 7, 4, 167, 0, 4, 3, 172]
abbrev dktX3_isLiar_1 : List UInt8 := dkwX3_isLiar_1 ++ []
def dkwX3_isLiar_0 : List UInt8 := [42, 180, 0, 38, 2, 160, 0, 17, 42, 180, 0, 45, 27, 182, 0, 77, 180, 0, 135, 167, 0, 16, 42]
abbrev dktX3_isLiar_0 : List UInt8 := dkwX3_isLiar_0 ++ dktX3_isLiar_1
theorem dksX3_isLiar_0 : cX3_isLiar.data.toList.drop 0 = dktX3_isLiar_0 := by decide +kernel
theorem dksX3_isLiar_1 : cX3_isLiar.data.toList.drop 23 = dktX3_isLiar_1 := dk_seg dksX3_isLiar_0 23 rfl rfl
theorem dX3_isLiar_0 : decode cX3_isLiar 0 = .ok (.aload_n 0, 1) := dk_42 (dk_at dksX3_isLiar_0 0 rfl rfl)
theorem dX3_isLiar_1 : decode cX3_isLiar 1 = .ok (.getfield 38, 3) := dk_180 0 38 (dk_at dksX3_isLiar_0 1 rfl rfl)
theorem dX3_isLiar_4 : decode cX3_isLiar 4 = .ok (.iconst (-1), 1) := dk_2 (dk_at dksX3_isLiar_0 4 rfl rfl)
theorem dX3_isLiar_5 : decode cX3_isLiar 5 = .ok (.if_icmp .ne 17, 3) := dk_160 0 17 (dk_at dksX3_isLiar_0 5 rfl rfl)
theorem dX3_isLiar_8 : decode cX3_isLiar 8 = .ok (.aload_n 0, 1) := dk_42 (dk_at dksX3_isLiar_0 8 rfl rfl)
theorem dX3_isLiar_9 : decode cX3_isLiar 9 = .ok (.getfield 45, 3) := dk_180 0 45 (dk_at dksX3_isLiar_0 9 rfl rfl)
theorem dX3_isLiar_12 : decode cX3_isLiar 12 = .ok (.iload_n 1, 1) := dk_27 (dk_at dksX3_isLiar_0 12 rfl rfl)
theorem dX3_isLiar_13 : decode cX3_isLiar 13 = .ok (.invokevirtual 77, 3) := dk_182 0 77 (dk_at dksX3_isLiar_0 13 rfl rfl)
theorem dX3_isLiar_16 : decode cX3_isLiar 16 = .ok (.getfield 135, 3) := dk_180 0 135 (dk_at dksX3_isLiar_0 16 rfl rfl)
theorem dX3_isLiar_19 : decode cX3_isLiar 19 = .ok (.goto 16, 3) := dk_167 0 16 (dk_at dksX3_isLiar_0 19 rfl rfl)
theorem dX3_isLiar_22 : decode cX3_isLiar 22 = .ok (.aload_n 0, 1) := dk_42 (dk_at dksX3_isLiar_0 22 rfl rfl)
theorem dX3_isLiar_23 : decode cX3_isLiar 23 = .ok (.getfield 38, 3) := dk_180 0 38 (dk_at dksX3_isLiar_1 0 rfl rfl)
theorem dX3_isLiar_26 : decode cX3_isLiar 26 = .ok (.iload_n 1, 1) := dk_27 (dk_at dksX3_isLiar_1 3 rfl rfl)
theorem dX3_isLiar_27 : decode cX3_isLiar 27 = .ok (.if_icmp .ne 7, 3) := dk_160 0 7 (dk_at dksX3_isLiar_1 4 rfl rfl)
theorem dX3_isLiar_30 : decode cX3_isLiar 30 = .ok (.iconst 1, 1) := dk_4 (dk_at dksX3_isLiar_1 7 rfl rfl)
theorem dX3_isLiar_31 : decode cX3_isLiar 31 = .ok (.goto 4, 3) := dk_167 0 4 (dk_at dksX3_isLiar_1 8 rfl rfl)
theorem dX3_isLiar_34 : decode cX3_isLiar 34 = .ok (.iconst 0, 1) := dk_3 (dk_at dksX3_isLiar_1 11 rfl rfl)
theorem dX3_isLiar_35 : decode cX3_isLiar 35 = .ok (.ireturn, 1) := dk_172 (dk_at dksX3_isLiar_1 12 rfl rfl)
abbrev cX3_only : ByteArray := prog_4_method_15_code
def yX3_only : MethodName := ⟨RX3, "only", "()I"⟩
def dkwX3_only_1 : List UInt8 := [42, 180, 0, 49, 184, 0, 176, 167, 0, 4, 2, 172]
abbrev dktX3_only_1 : List UInt8 := dkwX3_only_1 ++ []
def dkwX3_only_0 : List UInt8 := [42, 182, 0, 173, 4, 160, 0, 29, 42, 180, 0, 32, 42, 180, 0, 45, 180, 0, 150, 182, 0, 71, 50, 3]
abbrev dktX3_only_0 : List UInt8 := dkwX3_only_0 ++ dktX3_only_1
theorem dksX3_only_0 : cX3_only.data.toList.drop 0 = dktX3_only_0 := by decide +kernel
theorem dksX3_only_1 : cX3_only.data.toList.drop 24 = dktX3_only_1 := dk_seg dksX3_only_0 24 rfl rfl
theorem dX3_only_0 : decode cX3_only 0 = .ok (.aload_n 0, 1) := dk_42 (dk_at dksX3_only_0 0 rfl rfl)
theorem dX3_only_1 : decode cX3_only 1 = .ok (.invokevirtual 173, 3) := dk_182 0 173 (dk_at dksX3_only_0 1 rfl rfl)
theorem dX3_only_4 : decode cX3_only 4 = .ok (.iconst 1, 1) := dk_4 (dk_at dksX3_only_0 4 rfl rfl)
theorem dX3_only_5 : decode cX3_only 5 = .ok (.if_icmp .ne 29, 3) := dk_160 0 29 (dk_at dksX3_only_0 5 rfl rfl)
theorem dX3_only_8 : decode cX3_only 8 = .ok (.aload_n 0, 1) := dk_42 (dk_at dksX3_only_0 8 rfl rfl)
theorem dX3_only_9 : decode cX3_only 9 = .ok (.getfield 32, 3) := dk_180 0 32 (dk_at dksX3_only_0 9 rfl rfl)
theorem dX3_only_12 : decode cX3_only 12 = .ok (.aload_n 0, 1) := dk_42 (dk_at dksX3_only_0 12 rfl rfl)
theorem dX3_only_13 : decode cX3_only 13 = .ok (.getfield 45, 3) := dk_180 0 45 (dk_at dksX3_only_0 13 rfl rfl)
theorem dX3_only_16 : decode cX3_only 16 = .ok (.getfield 150, 3) := dk_180 0 150 (dk_at dksX3_only_0 16 rfl rfl)
theorem dX3_only_19 : decode cX3_only 19 = .ok (.invokevirtual 71, 3) := dk_182 0 71 (dk_at dksX3_only_0 19 rfl rfl)
theorem dX3_only_22 : decode cX3_only 22 = .ok (.aaload, 1) := dk_50 (dk_at dksX3_only_0 22 rfl rfl)
theorem dX3_only_23 : decode cX3_only 23 = .ok (.iconst 0, 1) := dk_3 (dk_at dksX3_only_0 23 rfl rfl)
theorem dX3_only_24 : decode cX3_only 24 = .ok (.aload_n 0, 1) := dk_42 (dk_at dksX3_only_1 0 rfl rfl)
theorem dX3_only_25 : decode cX3_only 25 = .ok (.getfield 49, 3) := dk_180 0 49 (dk_at dksX3_only_1 1 rfl rfl)
theorem dX3_only_28 : decode cX3_only 28 = .ok (.invokestatic 176, 3) := dk_184 0 176 (dk_at dksX3_only_1 4 rfl rfl)
theorem dX3_only_31 : decode cX3_only 31 = .ok (.goto 4, 3) := dk_167 0 4 (dk_at dksX3_only_1 7 rfl rfl)
theorem dX3_only_34 : decode cX3_only 34 = .ok (.iconst (-1), 1) := dk_2 (dk_at dksX3_only_1 10 rfl rfl)
theorem dX3_only_35 : decode cX3_only 35 = .ok (.ireturn, 1) := dk_172 (dk_at dksX3_only_1 11 rfl rfl)
abbrev cX3_end : ByteArray := prog_4_method_14_code
def yX3_end : MethodName := ⟨RX3, "end", "()I"⟩
def dkwX3_end_0 : List UInt8 := [42, 180, 0, 32, 42, 180, 0, 45, 180, 0, 150, 182, 0, 71, 50, 184, 0, 169, 172]
abbrev dktX3_end_0 : List UInt8 := dkwX3_end_0 ++ []
theorem dksX3_end_0 : cX3_end.data.toList.drop 0 = dktX3_end_0 := by decide +kernel
theorem dX3_end_0 : decode cX3_end 0 = .ok (.aload_n 0, 1) := dk_42 (dk_at dksX3_end_0 0 rfl rfl)
theorem dX3_end_1 : decode cX3_end 1 = .ok (.getfield 32, 3) := dk_180 0 32 (dk_at dksX3_end_0 1 rfl rfl)
theorem dX3_end_4 : decode cX3_end 4 = .ok (.aload_n 0, 1) := dk_42 (dk_at dksX3_end_0 4 rfl rfl)
theorem dX3_end_5 : decode cX3_end 5 = .ok (.getfield 45, 3) := dk_180 0 45 (dk_at dksX3_end_0 5 rfl rfl)
theorem dX3_end_8 : decode cX3_end 8 = .ok (.getfield 150, 3) := dk_180 0 150 (dk_at dksX3_end_0 8 rfl rfl)
theorem dX3_end_11 : decode cX3_end 11 = .ok (.invokevirtual 71, 3) := dk_182 0 71 (dk_at dksX3_end_0 11 rfl rfl)
theorem dX3_end_14 : decode cX3_end 14 = .ok (.aaload, 1) := dk_50 (dk_at dksX3_end_0 14 rfl rfl)
theorem dX3_end_15 : decode cX3_end 15 = .ok (.invokestatic 169, 3) := dk_184 0 169 (dk_at dksX3_end_0 15 rfl rfl)
theorem dX3_end_18 : decode cX3_end 18 = .ok (.ireturn, 1) := dk_172 (dk_at dksX3_end_0 18 rfl rfl)
abbrev cX3_knowsIn : ByteArray := prog_4_method_17_code
def yX3_knowsIn : MethodName := ⟨RX3, "knowsIn", "(II[J)Z"⟩
def dkwX3_knowsIn_3 : List UInt8 := [154, 0, 7, 4, 167, 0, 4, 3, 172]
abbrev dktX3_knowsIn_3 : List UInt8 := dkwX3_knowsIn_3 ++ []
def dkwX3_knowsIn_2 : List UInt8 := [184, 0, 109, 153, 0, 7, 4, 167, 0, 4, 3, 96, 54, 4, 132, 5, 1, 167, 255, 199, 21, 4]
abbrev dktX3_knowsIn_2 : List UInt8 := dkwX3_knowsIn_2 ++ dktX3_knowsIn_3
def dkwX3_knowsIn_1 : List UInt8 := [180, 0, 23, 27, 50, 21, 5, 46, 42, 180, 0, 23, 27, 50, 28, 46, 160, 0, 16, 45, 21, 5]
abbrev dktX3_knowsIn_1 : List UInt8 := dkwX3_knowsIn_1 ++ dktX3_knowsIn_2
def dkwX3_knowsIn_0 : List UInt8 := [3, 54, 4, 3, 54, 5, 21, 5, 42, 180, 0, 49, 162, 0, 54, 21, 4, 21, 5, 28, 159, 0, 36, 42]
abbrev dktX3_knowsIn_0 : List UInt8 := dkwX3_knowsIn_0 ++ dktX3_knowsIn_1
theorem dksX3_knowsIn_0 : cX3_knowsIn.data.toList.drop 0 = dktX3_knowsIn_0 := by decide +kernel
theorem dksX3_knowsIn_1 : cX3_knowsIn.data.toList.drop 24 = dktX3_knowsIn_1 := dk_seg dksX3_knowsIn_0 24 rfl rfl
theorem dksX3_knowsIn_2 : cX3_knowsIn.data.toList.drop 46 = dktX3_knowsIn_2 := dk_seg dksX3_knowsIn_1 22 rfl rfl
theorem dksX3_knowsIn_3 : cX3_knowsIn.data.toList.drop 68 = dktX3_knowsIn_3 := dk_seg dksX3_knowsIn_2 22 rfl rfl
theorem dX3_knowsIn_0 : decode cX3_knowsIn 0 = .ok (.iconst 0, 1) := dk_3 (dk_at dksX3_knowsIn_0 0 rfl rfl)
theorem dX3_knowsIn_1 : decode cX3_knowsIn 1 = .ok (.istore 4, 2) := dk_54 4 (dk_at dksX3_knowsIn_0 1 rfl rfl)
theorem dX3_knowsIn_3 : decode cX3_knowsIn 3 = .ok (.iconst 0, 1) := dk_3 (dk_at dksX3_knowsIn_0 3 rfl rfl)
theorem dX3_knowsIn_4 : decode cX3_knowsIn 4 = .ok (.istore 5, 2) := dk_54 5 (dk_at dksX3_knowsIn_0 4 rfl rfl)
theorem dX3_knowsIn_6 : decode cX3_knowsIn 6 = .ok (.iload 5, 2) := dk_21 5 (dk_at dksX3_knowsIn_0 6 rfl rfl)
theorem dX3_knowsIn_8 : decode cX3_knowsIn 8 = .ok (.aload_n 0, 1) := dk_42 (dk_at dksX3_knowsIn_0 8 rfl rfl)
theorem dX3_knowsIn_9 : decode cX3_knowsIn 9 = .ok (.getfield 49, 3) := dk_180 0 49 (dk_at dksX3_knowsIn_0 9 rfl rfl)
theorem dX3_knowsIn_12 : decode cX3_knowsIn 12 = .ok (.if_icmp .ge 54, 3) := dk_162 0 54 (dk_at dksX3_knowsIn_0 12 rfl rfl)
theorem dX3_knowsIn_15 : decode cX3_knowsIn 15 = .ok (.iload 4, 2) := dk_21 4 (dk_at dksX3_knowsIn_0 15 rfl rfl)
theorem dX3_knowsIn_17 : decode cX3_knowsIn 17 = .ok (.iload 5, 2) := dk_21 5 (dk_at dksX3_knowsIn_0 17 rfl rfl)
theorem dX3_knowsIn_19 : decode cX3_knowsIn 19 = .ok (.iload_n 2, 1) := dk_28 (dk_at dksX3_knowsIn_0 19 rfl rfl)
theorem dX3_knowsIn_20 : decode cX3_knowsIn 20 = .ok (.if_icmp .eq 36, 3) := dk_159 0 36 (dk_at dksX3_knowsIn_0 20 rfl rfl)
theorem dX3_knowsIn_23 : decode cX3_knowsIn 23 = .ok (.aload_n 0, 1) := dk_42 (dk_at dksX3_knowsIn_0 23 rfl rfl)
theorem dX3_knowsIn_24 : decode cX3_knowsIn 24 = .ok (.getfield 23, 3) := dk_180 0 23 (dk_at dksX3_knowsIn_1 0 rfl rfl)
theorem dX3_knowsIn_27 : decode cX3_knowsIn 27 = .ok (.iload_n 1, 1) := dk_27 (dk_at dksX3_knowsIn_1 3 rfl rfl)
theorem dX3_knowsIn_28 : decode cX3_knowsIn 28 = .ok (.aaload, 1) := dk_50 (dk_at dksX3_knowsIn_1 4 rfl rfl)
theorem dX3_knowsIn_29 : decode cX3_knowsIn 29 = .ok (.iload 5, 2) := dk_21 5 (dk_at dksX3_knowsIn_1 5 rfl rfl)
theorem dX3_knowsIn_31 : decode cX3_knowsIn 31 = .ok (.iaload, 1) := dk_46 (dk_at dksX3_knowsIn_1 7 rfl rfl)
theorem dX3_knowsIn_32 : decode cX3_knowsIn 32 = .ok (.aload_n 0, 1) := dk_42 (dk_at dksX3_knowsIn_1 8 rfl rfl)
theorem dX3_knowsIn_33 : decode cX3_knowsIn 33 = .ok (.getfield 23, 3) := dk_180 0 23 (dk_at dksX3_knowsIn_1 9 rfl rfl)
theorem dX3_knowsIn_36 : decode cX3_knowsIn 36 = .ok (.iload_n 1, 1) := dk_27 (dk_at dksX3_knowsIn_1 12 rfl rfl)
theorem dX3_knowsIn_37 : decode cX3_knowsIn 37 = .ok (.aaload, 1) := dk_50 (dk_at dksX3_knowsIn_1 13 rfl rfl)
theorem dX3_knowsIn_38 : decode cX3_knowsIn 38 = .ok (.iload_n 2, 1) := dk_28 (dk_at dksX3_knowsIn_1 14 rfl rfl)
theorem dX3_knowsIn_39 : decode cX3_knowsIn 39 = .ok (.iaload, 1) := dk_46 (dk_at dksX3_knowsIn_1 15 rfl rfl)
theorem dX3_knowsIn_40 : decode cX3_knowsIn 40 = .ok (.if_icmp .ne 16, 3) := dk_160 0 16 (dk_at dksX3_knowsIn_1 16 rfl rfl)
theorem dX3_knowsIn_43 : decode cX3_knowsIn 43 = .ok (.aload_n 3, 1) := dk_45 (dk_at dksX3_knowsIn_1 19 rfl rfl)
theorem dX3_knowsIn_44 : decode cX3_knowsIn 44 = .ok (.iload 5, 2) := dk_21 5 (dk_at dksX3_knowsIn_1 20 rfl rfl)
theorem dX3_knowsIn_46 : decode cX3_knowsIn 46 = .ok (.invokestatic 109, 3) := dk_184 0 109 (dk_at dksX3_knowsIn_2 0 rfl rfl)
theorem dX3_knowsIn_49 : decode cX3_knowsIn 49 = .ok (.ifCond .eq 7, 3) := dk_153 0 7 (dk_at dksX3_knowsIn_2 3 rfl rfl)
theorem dX3_knowsIn_52 : decode cX3_knowsIn 52 = .ok (.iconst 1, 1) := dk_4 (dk_at dksX3_knowsIn_2 6 rfl rfl)
theorem dX3_knowsIn_53 : decode cX3_knowsIn 53 = .ok (.goto 4, 3) := dk_167 0 4 (dk_at dksX3_knowsIn_2 7 rfl rfl)
theorem dX3_knowsIn_56 : decode cX3_knowsIn 56 = .ok (.iconst 0, 1) := dk_3 (dk_at dksX3_knowsIn_2 10 rfl rfl)
theorem dX3_knowsIn_57 : decode cX3_knowsIn 57 = .ok (.iadd, 1) := dk_96 (dk_at dksX3_knowsIn_2 11 rfl rfl)
theorem dX3_knowsIn_58 : decode cX3_knowsIn 58 = .ok (.istore 4, 2) := dk_54 4 (dk_at dksX3_knowsIn_2 12 rfl rfl)
theorem dX3_knowsIn_60 : decode cX3_knowsIn 60 = .ok (.iinc 5 1, 3) := dk_132 5 1 (dk_at dksX3_knowsIn_2 14 rfl rfl)
theorem dX3_knowsIn_63 : decode cX3_knowsIn 63 = .ok (.goto (-57), 3) := dk_167 255 199 (dk_at dksX3_knowsIn_2 17 rfl rfl)
theorem dX3_knowsIn_66 : decode cX3_knowsIn 66 = .ok (.iload 4, 2) := dk_21 4 (dk_at dksX3_knowsIn_2 20 rfl rfl)
theorem dX3_knowsIn_68 : decode cX3_knowsIn 68 = .ok (.ifCond .ne 7, 3) := dk_154 0 7 (dk_at dksX3_knowsIn_3 0 rfl rfl)
theorem dX3_knowsIn_71 : decode cX3_knowsIn 71 = .ok (.iconst 1, 1) := dk_4 (dk_at dksX3_knowsIn_3 3 rfl rfl)
theorem dX3_knowsIn_72 : decode cX3_knowsIn 72 = .ok (.goto 4, 3) := dk_167 0 4 (dk_at dksX3_knowsIn_3 4 rfl rfl)
theorem dX3_knowsIn_75 : decode cX3_knowsIn 75 = .ok (.iconst 0, 1) := dk_3 (dk_at dksX3_knowsIn_3 7 rfl rfl)
theorem dX3_knowsIn_76 : decode cX3_knowsIn 76 = .ok (.ireturn, 1) := dk_172 (dk_at dksX3_knowsIn_3 8 rfl rfl)
abbrev cX3_answers : ByteArray := prog_4_method_16_code
def yX3_answers : MethodName := ⟨RX3, "answers", "(IZ[J[J)V"⟩
def dkwX3_answers_2 : List UInt8 := [127, 80, 132, 5, 1, 167, 255, 215, 177]
abbrev dktX3_answers_2 : List UInt8 := dkwX3_answers_2 ++ []
def dkwX3_answers_1 : List UInt8 := [21, 5, 47, 28, 153, 0, 11, 25, 4, 21, 5, 47, 167, 0, 12, 25, 4, 21, 5, 47, 20, 0, 145, 131]
abbrev dktX3_answers_1 : List UInt8 := dkwX3_answers_1 ++ dktX3_answers_2
def dkwX3_answers_0 : List UInt8 := [42, 27, 45, 25, 4, 182, 0, 116, 3, 54, 5, 21, 5, 16, 29, 162, 0, 40, 25, 4, 21, 5, 45]
abbrev dktX3_answers_0 : List UInt8 := dkwX3_answers_0 ++ dktX3_answers_1
theorem dksX3_answers_0 : cX3_answers.data.toList.drop 0 = dktX3_answers_0 := by decide +kernel
theorem dksX3_answers_1 : cX3_answers.data.toList.drop 23 = dktX3_answers_1 := dk_seg dksX3_answers_0 23 rfl rfl
theorem dksX3_answers_2 : cX3_answers.data.toList.drop 47 = dktX3_answers_2 := dk_seg dksX3_answers_1 24 rfl rfl
theorem dX3_answers_0 : decode cX3_answers 0 = .ok (.aload_n 0, 1) := dk_42 (dk_at dksX3_answers_0 0 rfl rfl)
theorem dX3_answers_1 : decode cX3_answers 1 = .ok (.iload_n 1, 1) := dk_27 (dk_at dksX3_answers_0 1 rfl rfl)
theorem dX3_answers_2 : decode cX3_answers 2 = .ok (.aload_n 3, 1) := dk_45 (dk_at dksX3_answers_0 2 rfl rfl)
theorem dX3_answers_3 : decode cX3_answers 3 = .ok (.aload 4, 2) := dk_25 4 (dk_at dksX3_answers_0 3 rfl rfl)
theorem dX3_answers_5 : decode cX3_answers 5 = .ok (.invokevirtual 116, 3) := dk_182 0 116 (dk_at dksX3_answers_0 5 rfl rfl)
theorem dX3_answers_8 : decode cX3_answers 8 = .ok (.iconst 0, 1) := dk_3 (dk_at dksX3_answers_0 8 rfl rfl)
theorem dX3_answers_9 : decode cX3_answers 9 = .ok (.istore 5, 2) := dk_54 5 (dk_at dksX3_answers_0 9 rfl rfl)
theorem dX3_answers_11 : decode cX3_answers 11 = .ok (.iload 5, 2) := dk_21 5 (dk_at dksX3_answers_0 11 rfl rfl)
theorem dX3_answers_13 : decode cX3_answers 13 = .ok (.bipush 29, 2) := dk_16 29 (dk_at dksX3_answers_0 13 rfl rfl)
theorem dX3_answers_15 : decode cX3_answers 15 = .ok (.if_icmp .ge 40, 3) := dk_162 0 40 (dk_at dksX3_answers_0 15 rfl rfl)
theorem dX3_answers_18 : decode cX3_answers 18 = .ok (.aload 4, 2) := dk_25 4 (dk_at dksX3_answers_0 18 rfl rfl)
theorem dX3_answers_20 : decode cX3_answers 20 = .ok (.iload 5, 2) := dk_21 5 (dk_at dksX3_answers_0 20 rfl rfl)
theorem dX3_answers_22 : decode cX3_answers 22 = .ok (.aload_n 3, 1) := dk_45 (dk_at dksX3_answers_0 22 rfl rfl)
theorem dX3_answers_23 : decode cX3_answers 23 = .ok (.iload 5, 2) := dk_21 5 (dk_at dksX3_answers_1 0 rfl rfl)
theorem dX3_answers_25 : decode cX3_answers 25 = .ok (.laload, 1) := dk_47 (dk_at dksX3_answers_1 2 rfl rfl)
theorem dX3_answers_26 : decode cX3_answers 26 = .ok (.iload_n 2, 1) := dk_28 (dk_at dksX3_answers_1 3 rfl rfl)
theorem dX3_answers_27 : decode cX3_answers 27 = .ok (.ifCond .eq 11, 3) := dk_153 0 11 (dk_at dksX3_answers_1 4 rfl rfl)
theorem dX3_answers_30 : decode cX3_answers 30 = .ok (.aload 4, 2) := dk_25 4 (dk_at dksX3_answers_1 7 rfl rfl)
theorem dX3_answers_32 : decode cX3_answers 32 = .ok (.iload 5, 2) := dk_21 5 (dk_at dksX3_answers_1 9 rfl rfl)
theorem dX3_answers_34 : decode cX3_answers 34 = .ok (.laload, 1) := dk_47 (dk_at dksX3_answers_1 11 rfl rfl)
theorem dX3_answers_35 : decode cX3_answers 35 = .ok (.goto 12, 3) := dk_167 0 12 (dk_at dksX3_answers_1 12 rfl rfl)
theorem dX3_answers_38 : decode cX3_answers 38 = .ok (.aload 4, 2) := dk_25 4 (dk_at dksX3_answers_1 15 rfl rfl)
theorem dX3_answers_40 : decode cX3_answers 40 = .ok (.iload 5, 2) := dk_21 5 (dk_at dksX3_answers_1 17 rfl rfl)
theorem dX3_answers_42 : decode cX3_answers 42 = .ok (.laload, 1) := dk_47 (dk_at dksX3_answers_1 19 rfl rfl)
theorem dX3_answers_43 : decode cX3_answers 43 = .ok (.ldc2_w 145, 3) := dk_20 0 145 (dk_at dksX3_answers_1 20 rfl rfl)
theorem dX3_answers_46 : decode cX3_answers 46 = .ok (.lxor, 1) := dk_131 (dk_at dksX3_answers_1 23 rfl rfl)
theorem dX3_answers_47 : decode cX3_answers 47 = .ok (.land, 1) := dk_127 (dk_at dksX3_answers_2 0 rfl rfl)
theorem dX3_answers_48 : decode cX3_answers 48 = .ok (.lastore, 1) := dk_80 (dk_at dksX3_answers_2 1 rfl rfl)
theorem dX3_answers_49 : decode cX3_answers 49 = .ok (.iinc 5 1, 3) := dk_132 5 1 (dk_at dksX3_answers_2 2 rfl rfl)
theorem dX3_answers_52 : decode cX3_answers 52 = .ok (.goto (-41), 3) := dk_167 255 215 (dk_at dksX3_answers_2 5 rfl rfl)
theorem dX3_answers_55 : decode cX3_answers 55 = .ok (.return_, 1) := dk_177 (dk_at dksX3_answers_2 8 rfl rfl)
theorem q111 : (Jvm.Cond.initialized "TwoSlips$Course") ∈ lw_all := lw_g (lw_at lw_m1 6 rfl) rfl
theorem q204 : (Jvm.Cond.fieldLinkNest "TwoSlips$Course" (67 : Nat) "TwoSlips$Talk" "speakers" "Ljava/util/ArrayList;" "TwoSlips") ∈ lw_tbl := lw_at lw_m1 99 rfl
theorem q210 : (Jvm.Cond.fieldLinkNest "TwoSlips$Course" (150 : Nat) "TwoSlips$Talk" "turns" "Ljava/util/ArrayList;" "TwoSlips") ∈ lw_tbl := lw_at lw_m1 105 rfl
theorem q220 : (Jvm.Cond.fieldLinkNest "TwoSlips$Course" (64 : Nat) "TwoSlips$Talk" "most" "I" "TwoSlips") ∈ lw_tbl := lw_at lw_m1 115 rfl
theorem q225 : (Jvm.Cond.fieldLinkNest "TwoSlips$Course" (58 : Nat) "TwoSlips$Talk" "isUnlike" "Z" "TwoSlips") ∈ lw_tbl := lw_at lw_m1 120 rfl
theorem q244 : (Jvm.Cond.instantiable "TwoSlips$Course" (11 : Nat)) ∈ lw_all := lw_g (lw_at lw_m1 139 rfl) rfl
theorem q246 : (Jvm.Cond.instanceMethod ({ cls := "TwoSlips$Course", name := "<init>", desc := "()V" } : Jvm.MethodName)) ∈ lw_all := lw_g (lw_at lw_m1 141 rfl) rfl
theorem q247 : (Jvm.Cond.code ({ cls := "TwoSlips$Course", name := "<init>", desc := "()V" } : Jvm.MethodName) prog_4_method_1_code (1 : Nat) (Option.none : Option Jvm.ClassFile.FieldType)) ∈ lw_all := lw_g (lw_at lw_m1 142 rfl) rfl
theorem q248 : (Jvm.Cond.methodLink "TwoSlips$Course" (3 : Nat) ({ cls := "java/lang/Object", name := "<init>", desc := "()V" } : Jvm.MethodName)) ∈ lw_all := lw_g (lw_at lw_m1 143 rfl) rfl
theorem q249 : (Jvm.Cond.classLink "TwoSlips$Course" (21 : Nat) "[[I") ∈ lw_all := lw_g (lw_at lw_m1 144 rfl) rfl
theorem q251 : (Jvm.Cond.classLink "TwoSlips$Course" (30 : Nat) "[[J") ∈ lw_all := lw_g (lw_at lw_m1 146 rfl) rfl
theorem q253 : (Jvm.Cond.fieldLink "TwoSlips$Course" (9 : Nat) "TwoSlips$Course" "x" "[I") ∈ lw_all := lw_g (lw_at lw_m1 148 rfl) rfl
theorem q256 : (Jvm.Cond.fieldLink "TwoSlips$Course" (15 : Nat) "TwoSlips$Course" "y" "[I") ∈ lw_all := lw_g (lw_at lw_m1 151 rfl) rfl
theorem q259 : (Jvm.Cond.fieldLink "TwoSlips$Course" (18 : Nat) "TwoSlips$Course" "heaps" "[I") ∈ lw_all := lw_g (lw_at lw_m1 154 rfl) rfl
theorem q261 : (Jvm.Cond.fieldLink "TwoSlips$Course" (23 : Nat) "TwoSlips$Course" "slips" "[[I") ∈ lw_all := lw_g (lw_at lw_m1 156 rfl) rfl
theorem q263 : (Jvm.Cond.fieldLink "TwoSlips$Course" (26 : Nat) "TwoSlips$Course" "all" "[J") ∈ lw_all := lw_g (lw_at lw_m1 158 rfl) rfl
theorem q268 : (Jvm.Cond.fieldLink "TwoSlips$Course" (32 : Nat) "TwoSlips$Course" "left" "[[J") ∈ lw_all := lw_g (lw_at lw_m1 163 rfl) rfl
theorem q271 : (Jvm.Cond.fieldLink "TwoSlips$Course" (35 : Nat) "TwoSlips$Course" "pool" "[[J") ∈ lw_all := lw_g (lw_at lw_m1 166 rfl) rfl
theorem q272 : (Jvm.Cond.fieldLink "TwoSlips$Course" (45 : Nat) "TwoSlips$Course" "talk" "LTwoSlips$Talk;") ∈ lw_all := lw_g (lw_at lw_m1 167 rfl) rfl
theorem q275 : (Jvm.Cond.fieldLink "TwoSlips$Course" (49 : Nat) "TwoSlips$Course" "many" "I") ∈ lw_all := lw_g (lw_at lw_m1 170 rfl) rfl
theorem q277 : (Jvm.Cond.fieldLink "TwoSlips$Course" (42 : Nat) "TwoSlips$Course" "used" "I") ∈ lw_all := lw_g (lw_at lw_m1 172 rfl) rfl
theorem q278 : (Jvm.Cond.fieldLink "TwoSlips$Course" (38 : Nat) "TwoSlips$Course" "liar" "I") ∈ lw_all := lw_g (lw_at lw_m1 173 rfl) rfl
theorem q280 : (Jvm.Cond.laysFinal "TwoSlips$Course" "TwoSlips$Course" "x" "[I") ∈ lw_all := lw_g (lw_at lw_m1 175 rfl) rfl
theorem q281 : (Jvm.Cond.soleField "TwoSlips$Course" "x") ∈ lw_all := lw_g (lw_at lw_m1 176 rfl) rfl
theorem q282 : (Jvm.Cond.laysFinal "TwoSlips$Course" "TwoSlips$Course" "y" "[I") ∈ lw_all := lw_g (lw_at lw_m1 177 rfl) rfl
theorem q283 : (Jvm.Cond.soleField "TwoSlips$Course" "y") ∈ lw_all := lw_g (lw_at lw_m1 178 rfl) rfl
theorem q284 : (Jvm.Cond.laysFinal "TwoSlips$Course" "TwoSlips$Course" "heaps" "[I") ∈ lw_all := lw_g (lw_at lw_m1 179 rfl) rfl
theorem q285 : (Jvm.Cond.soleField "TwoSlips$Course" "heaps") ∈ lw_all := lw_g (lw_at lw_m1 180 rfl) rfl
theorem q286 : (Jvm.Cond.laysFinal "TwoSlips$Course" "TwoSlips$Course" "slips" "[[I") ∈ lw_all := lw_g (lw_at lw_m1 181 rfl) rfl
theorem q287 : (Jvm.Cond.soleField "TwoSlips$Course" "slips") ∈ lw_all := lw_g (lw_at lw_m1 182 rfl) rfl
theorem q288 : (Jvm.Cond.laysFinal "TwoSlips$Course" "TwoSlips$Course" "all" "[J") ∈ lw_all := lw_g (lw_at lw_m1 183 rfl) rfl
theorem q289 : (Jvm.Cond.soleField "TwoSlips$Course" "all") ∈ lw_all := lw_g (lw_at lw_m1 184 rfl) rfl
theorem q290 : (Jvm.Cond.laysFinal "TwoSlips$Course" "TwoSlips$Course" "left" "[[J") ∈ lw_all := lw_g (lw_at lw_m1 185 rfl) rfl
theorem q291 : (Jvm.Cond.soleField "TwoSlips$Course" "left") ∈ lw_all := lw_g (lw_at lw_m1 186 rfl) rfl
theorem q292 : (Jvm.Cond.laysFinal "TwoSlips$Course" "TwoSlips$Course" "pool" "[[J") ∈ lw_all := lw_g (lw_at lw_m1 187 rfl) rfl
theorem q293 : (Jvm.Cond.soleField "TwoSlips$Course" "pool") ∈ lw_all := lw_g (lw_at lw_m1 188 rfl) rfl
theorem q294 : (Jvm.Cond.lays "TwoSlips$Course" "TwoSlips$Course" "talk" "LTwoSlips$Talk;") ∈ lw_all := lw_g (lw_at lw_m1 189 rfl) rfl
theorem q295 : (Jvm.Cond.soleField "TwoSlips$Course" "talk") ∈ lw_all := lw_g (lw_at lw_m1 190 rfl) rfl
theorem q296 : (Jvm.Cond.lays "TwoSlips$Course" "TwoSlips$Course" "many" "I") ∈ lw_all := lw_g (lw_at lw_m1 191 rfl) rfl
theorem q297 : (Jvm.Cond.soleField "TwoSlips$Course" "many") ∈ lw_all := lw_g (lw_at lw_m1 192 rfl) rfl
theorem q298 : (Jvm.Cond.lays "TwoSlips$Course" "TwoSlips$Course" "used" "I") ∈ lw_all := lw_g (lw_at lw_m1 193 rfl) rfl
theorem q299 : (Jvm.Cond.soleField "TwoSlips$Course" "used") ∈ lw_all := lw_g (lw_at lw_m1 194 rfl) rfl
theorem q300 : (Jvm.Cond.lays "TwoSlips$Course" "TwoSlips$Course" "liar" "I") ∈ lw_all := lw_g (lw_at lw_m1 195 rfl) rfl
theorem q301 : (Jvm.Cond.soleField "TwoSlips$Course" "liar") ∈ lw_all := lw_g (lw_at lw_m1 196 rfl) rfl
theorem q302 : (Jvm.Cond.superclass "TwoSlips$Course" "java/lang/Object") ∈ lw_all := lw_g (lw_at lw_m1 197 rfl) rfl
theorem q515 : (Jvm.Cond.instanceMethod ({ cls := "TwoSlips$Course", name := "worlds", desc := "(LTwoSlips$Talk;II)V" } : Jvm.MethodName)) ∈ lw_all := lw_g (lw_at lw_m2 170 rfl) rfl
theorem q516 : (Jvm.Cond.selects "TwoSlips$Course" ({ cls := "TwoSlips$Course", name := "worlds", desc := "(LTwoSlips$Talk;II)V" } : Jvm.MethodName) ({ cls := "TwoSlips$Course", name := "worlds", desc := "(LTwoSlips$Talk;II)V" } : Jvm.MethodName)) ∈ lw_all := lw_g (lw_at lw_m2 171 rfl) rfl
theorem q517 : (Jvm.Cond.code ({ cls := "TwoSlips$Course", name := "worlds", desc := "(LTwoSlips$Talk;II)V" } : Jvm.MethodName) prog_4_method_4_code (7 : Nat) (Option.none : Option Jvm.ClassFile.FieldType)) ∈ lw_all := lw_g (lw_at lw_m2 172 rfl) rfl
theorem q518 : (Jvm.Cond.methodLink "TwoSlips$Course" (52 : Nat) ({ cls := "java/util/Arrays", name := "fill", desc := "([JJ)V" } : Jvm.MethodName)) ∈ lw_all := lw_g (lw_at lw_m2 173 rfl) rfl
theorem q521 : (Jvm.Cond.methodLink "TwoSlips$Course" (71 : Nat) ({ cls := "java/util/ArrayList", name := "size", desc := "()I" } : Jvm.MethodName)) ∈ lw_all := lw_g (lw_at lw_m2 176 rfl) rfl
theorem q525 : (Jvm.Cond.methodLink "TwoSlips$Course" (77 : Nat) ({ cls := "TwoSlips$Talk", name := "speaker", desc := "(I)LTwoSlips$Speaker;" } : Jvm.MethodName)) ∈ lw_all := lw_g (lw_at lw_m2 180 rfl) rfl
theorem q544 : (Jvm.Cond.methodLink "TwoSlips$Course" (87 : Nat) ({ cls := "TwoSlips$Sight", name := "slip", desc := "(II)I" } : Jvm.MethodName)) ∈ lw_all := lw_g (lw_at lw_m2 199 rfl) rfl
theorem q574 : (Jvm.Cond.methodLinkNest "TwoSlips$Course" (93 : Nat) ({ cls := "TwoSlips", name := "puts", desc := "([JI)V" } : Jvm.MethodName) "TwoSlips") ∈ lw_tbl := lw_at lw_m2 229 rfl
theorem q577 : (Jvm.Cond.methodLink "TwoSlips$Course" (97 : Nat) ({ cls := "java/lang/System", name := "arraycopy", desc := "(Ljava/lang/Object;ILjava/lang/Object;II)V" } : Jvm.MethodName)) ∈ lw_all := lw_g (lw_at lw_m2 232 rfl) rfl
theorem q581 : (Jvm.Cond.instanceMethod ({ cls := "TwoSlips$Course", name := "goes", desc := "(II)LTwoSlips$Course;" } : Jvm.MethodName)) ∈ lw_all := lw_g (lw_at lw_m2 236 rfl) rfl
theorem q582 : (Jvm.Cond.selects "TwoSlips$Course" ({ cls := "TwoSlips$Course", name := "goes", desc := "(II)LTwoSlips$Course;" } : Jvm.MethodName) ({ cls := "TwoSlips$Course", name := "goes", desc := "(II)LTwoSlips$Course;" } : Jvm.MethodName)) ∈ lw_all := lw_g (lw_at lw_m2 237 rfl) rfl
theorem q583 : (Jvm.Cond.code ({ cls := "TwoSlips$Course", name := "goes", desc := "(II)LTwoSlips$Course;" } : Jvm.MethodName) prog_4_method_13_code (4 : Nat) (Option.some (Jvm.ClassFile.FieldType.object "TwoSlips$Course"))) ∈ lw_all := lw_g (lw_at lw_m2 238 rfl) rfl
theorem q584 : (Jvm.Cond.methodLink "TwoSlips$Course" (153 : Nat) ({ cls := "java/util/ArrayList", name := "get", desc := "(I)Ljava/lang/Object;" } : Jvm.MethodName)) ∈ lw_all := lw_g (lw_at lw_m2 239 rfl) rfl
theorem q585 : (Jvm.Cond.classLink "TwoSlips$Course" (157 : Nat) "TwoSlips$Turn") ∈ lw_all := lw_g (lw_at lw_m3 0 rfl) rfl
theorem q586 : (Jvm.Cond.methodLink "TwoSlips$Course" (165 : Nat) ({ cls := "TwoSlips$Course", name := "says", desc := "(ILTwoSlips$Saying;I)V" } : Jvm.MethodName)) ∈ lw_all := lw_g (lw_at lw_m3 1 rfl) rfl
theorem q587 : (Jvm.Cond.instanceMethod ({ cls := "TwoSlips$Course", name := "says", desc := "(ILTwoSlips$Saying;I)V" } : Jvm.MethodName)) ∈ lw_all := lw_g (lw_at lw_m3 2 rfl) rfl
theorem q588 : (Jvm.Cond.selects "TwoSlips$Course" ({ cls := "TwoSlips$Course", name := "says", desc := "(ILTwoSlips$Saying;I)V" } : Jvm.MethodName) ({ cls := "TwoSlips$Course", name := "says", desc := "(ILTwoSlips$Saying;I)V" } : Jvm.MethodName)) ∈ lw_all := lw_g (lw_at lw_m3 3 rfl) rfl
theorem q589 : (Jvm.Cond.code ({ cls := "TwoSlips$Course", name := "says", desc := "(ILTwoSlips$Saying;I)V" } : Jvm.MethodName) prog_4_method_12_code (6 : Nat) (Option.none : Option Jvm.ClassFile.FieldType)) ∈ lw_all := lw_g (lw_at lw_m3 4 rfl) rfl
theorem q590 : (Jvm.Cond.methodLink "TwoSlips$Course" (123 : Nat) ({ cls := "TwoSlips$Course", name := "taken", desc := "()[J" } : Jvm.MethodName)) ∈ lw_all := lw_g (lw_at lw_m3 5 rfl) rfl
theorem q591 : (Jvm.Cond.instanceMethod ({ cls := "TwoSlips$Course", name := "taken", desc := "()[J" } : Jvm.MethodName)) ∈ lw_all := lw_g (lw_at lw_m3 6 rfl) rfl
theorem q592 : (Jvm.Cond.selects "TwoSlips$Course" ({ cls := "TwoSlips$Course", name := "taken", desc := "()[J" } : Jvm.MethodName) ({ cls := "TwoSlips$Course", name := "taken", desc := "()[J" } : Jvm.MethodName)) ∈ lw_all := lw_g (lw_at lw_m3 7 rfl) rfl
theorem q593 : (Jvm.Cond.code ({ cls := "TwoSlips$Course", name := "taken", desc := "()[J" } : Jvm.MethodName) prog_4_method_2_code (1 : Nat) (Option.some (Jvm.ClassFile.FieldType.array Jvm.ClassFile.FieldType.long))) ∈ lw_all := lw_g (lw_at lw_m3 8 rfl) rfl
theorem q594 : (Jvm.Cond.methodLink "TwoSlips$Course" (147 : Nat) ({ cls := "TwoSlips$Course", name := "may", desc := "(ILTwoSlips$Saying;I[J)V" } : Jvm.MethodName)) ∈ lw_all := lw_g (lw_at lw_m3 9 rfl) rfl
theorem q595 : (Jvm.Cond.instanceMethod ({ cls := "TwoSlips$Course", name := "may", desc := "(ILTwoSlips$Saying;I[J)V" } : Jvm.MethodName)) ∈ lw_all := lw_g (lw_at lw_m3 10 rfl) rfl
theorem q596 : (Jvm.Cond.selects "TwoSlips$Course" ({ cls := "TwoSlips$Course", name := "may", desc := "(ILTwoSlips$Saying;I[J)V" } : Jvm.MethodName) ({ cls := "TwoSlips$Course", name := "may", desc := "(ILTwoSlips$Saying;I[J)V" } : Jvm.MethodName)) ∈ lw_all := lw_g (lw_at lw_m3 11 rfl) rfl
theorem q597 : (Jvm.Cond.code ({ cls := "TwoSlips$Course", name := "may", desc := "(ILTwoSlips$Saying;I[J)V" } : Jvm.MethodName) prog_4_method_11_code (6 : Nat) (Option.none : Option Jvm.ClassFile.FieldType)) ∈ lw_all := lw_g (lw_at lw_m3 12 rfl) rfl
theorem q598 : (Jvm.Cond.methodLink "TwoSlips$Course" (138 : Nat) ({ cls := "TwoSlips$Course", name := "sees", desc := "(ILTwoSlips$Saying;I[J)V" } : Jvm.MethodName)) ∈ lw_all := lw_g (lw_at lw_m3 13 rfl) rfl
theorem q599 : (Jvm.Cond.instanceMethod ({ cls := "TwoSlips$Course", name := "sees", desc := "(ILTwoSlips$Saying;I[J)V" } : Jvm.MethodName)) ∈ lw_all := lw_g (lw_at lw_m3 14 rfl) rfl
theorem q600 : (Jvm.Cond.selects "TwoSlips$Course" ({ cls := "TwoSlips$Course", name := "sees", desc := "(ILTwoSlips$Saying;I[J)V" } : Jvm.MethodName) ({ cls := "TwoSlips$Course", name := "sees", desc := "(ILTwoSlips$Saying;I[J)V" } : Jvm.MethodName)) ∈ lw_all := lw_g (lw_at lw_m3 15 rfl) rfl
theorem q601 : (Jvm.Cond.code ({ cls := "TwoSlips$Course", name := "sees", desc := "(ILTwoSlips$Saying;I[J)V" } : Jvm.MethodName) prog_4_method_9_code (8 : Nat) (Option.none : Option Jvm.ClassFile.FieldType)) ∈ lw_all := lw_g (lw_at lw_m3 16 rfl) rfl
theorem q602 : (Jvm.Cond.methodLink "TwoSlips$Course" (120 : Nat) ({ cls := "TwoSlips$Course", name := "heard", desc := "(II)I" } : Jvm.MethodName)) ∈ lw_all := lw_g (lw_at lw_m3 17 rfl) rfl
theorem q603 : (Jvm.Cond.instanceMethod ({ cls := "TwoSlips$Course", name := "heard", desc := "(II)I" } : Jvm.MethodName)) ∈ lw_all := lw_g (lw_at lw_m3 18 rfl) rfl
theorem q604 : (Jvm.Cond.selects "TwoSlips$Course" ({ cls := "TwoSlips$Course", name := "heard", desc := "(II)I" } : Jvm.MethodName) ({ cls := "TwoSlips$Course", name := "heard", desc := "(II)I" } : Jvm.MethodName)) ∈ lw_all := lw_g (lw_at lw_m3 19 rfl) rfl
theorem q605 : (Jvm.Cond.code ({ cls := "TwoSlips$Course", name := "heard", desc := "(II)I" } : Jvm.MethodName) prog_4_method_5_code (3 : Nat) (Option.some Jvm.ClassFile.FieldType.int)) ∈ lw_all := lw_g (lw_at lw_m3 20 rfl) rfl
theorem q606 : (Jvm.Cond.methodLink "TwoSlips$Course" (127 : Nat) ({ cls := "TwoSlips$Saying", name := "fill", desc := "(LTwoSlips$Course;I[J)V" } : Jvm.MethodName)) ∈ lw_all := lw_g (lw_at lw_m3 21 rfl) rfl
theorem q632 : (Jvm.Cond.instanceMethod ({ cls := "TwoSlips$Course", name := "knows", desc := "(II[J)V" } : Jvm.MethodName)) ∈ lw_all := lw_g (lw_at lw_m3 47 rfl) rfl
theorem q633 : (Jvm.Cond.selects "TwoSlips$Course" ({ cls := "TwoSlips$Course", name := "knows", desc := "(II[J)V" } : Jvm.MethodName) ({ cls := "TwoSlips$Course", name := "knows", desc := "(II[J)V" } : Jvm.MethodName)) ∈ lw_all := lw_g (lw_at lw_m3 48 rfl) rfl
theorem q634 : (Jvm.Cond.code ({ cls := "TwoSlips$Course", name := "knows", desc := "(II[J)V" } : Jvm.MethodName) prog_4_method_8_code (4 : Nat) (Option.none : Option Jvm.ClassFile.FieldType)) ∈ lw_all := lw_g (lw_at lw_m3 49 rfl) rfl
theorem q635 : (Jvm.Cond.methodLink "TwoSlips$Course" (116 : Nat) ({ cls := "TwoSlips$Course", name := "alone", desc := "(I[J[J)V" } : Jvm.MethodName)) ∈ lw_all := lw_g (lw_at lw_m3 50 rfl) rfl
theorem q636 : (Jvm.Cond.privateMethod ({ cls := "TwoSlips$Course", name := "alone", desc := "(I[J[J)V" } : Jvm.MethodName)) ∈ lw_tbl := lw_at lw_m3 51 rfl
theorem q637 : (Jvm.Cond.instanceMethod ({ cls := "TwoSlips$Course", name := "alone", desc := "(I[J[J)V" } : Jvm.MethodName)) ∈ lw_all := lw_g (lw_at lw_m3 52 rfl) rfl
theorem q638 : (Jvm.Cond.code ({ cls := "TwoSlips$Course", name := "alone", desc := "(I[J[J)V" } : Jvm.MethodName) prog_4_method_7_code (5 : Nat) (Option.none : Option Jvm.ClassFile.FieldType)) ∈ lw_all := lw_g (lw_at lw_m3 53 rfl) rfl
theorem q639 : (Jvm.Cond.methodLink "TwoSlips$Course" (113 : Nat) ({ cls := "TwoSlips$Course", name := "heaps", desc := "(I[J)V" } : Jvm.MethodName)) ∈ lw_all := lw_g (lw_at lw_m3 54 rfl) rfl
theorem q640 : (Jvm.Cond.privateMethod ({ cls := "TwoSlips$Course", name := "heaps", desc := "(I[J)V" } : Jvm.MethodName)) ∈ lw_tbl := lw_at lw_m3 55 rfl
theorem q641 : (Jvm.Cond.instanceMethod ({ cls := "TwoSlips$Course", name := "heaps", desc := "(I[J)V" } : Jvm.MethodName)) ∈ lw_all := lw_g (lw_at lw_m3 56 rfl) rfl
theorem q642 : (Jvm.Cond.code ({ cls := "TwoSlips$Course", name := "heaps", desc := "(I[J)V" } : Jvm.MethodName) prog_4_method_6_code (4 : Nat) (Option.none : Option Jvm.ClassFile.FieldType)) ∈ lw_all := lw_g (lw_at lw_m3 57 rfl) rfl
theorem q643 : (Jvm.Cond.methodLink "TwoSlips$Course" (106 : Nat) ({ cls := "java/util/Arrays", name := "fill", desc := "([II)V" } : Jvm.MethodName)) ∈ lw_all := lw_g (lw_at lw_m3 58 rfl) rfl
theorem q646 : (Jvm.Cond.methodLinkNest "TwoSlips$Course" (109 : Nat) ({ cls := "TwoSlips", name := "has", desc := "([JI)Z" } : Jvm.MethodName) "TwoSlips") ∈ lw_tbl := lw_at lw_m3 61 rfl
theorem q667 : (Jvm.Cond.instanceMethod ({ cls := "TwoSlips$Course", name := "given", desc := "()V" } : Jvm.MethodName)) ∈ lw_all := lw_g (lw_at lw_m3 82 rfl) rfl
theorem q668 : (Jvm.Cond.selects "TwoSlips$Course" ({ cls := "TwoSlips$Course", name := "given", desc := "()V" } : Jvm.MethodName) ({ cls := "TwoSlips$Course", name := "given", desc := "()V" } : Jvm.MethodName)) ∈ lw_all := lw_g (lw_at lw_m3 83 rfl) rfl
theorem q669 : (Jvm.Cond.code ({ cls := "TwoSlips$Course", name := "given", desc := "()V" } : Jvm.MethodName) prog_4_method_3_code (1 : Nat) (Option.none : Option Jvm.ClassFile.FieldType)) ∈ lw_all := lw_g (lw_at lw_m3 84 rfl) rfl
theorem q675 : (Jvm.Cond.methodLink "TwoSlips$Course" (132 : Nat) ({ cls := "TwoSlips$Course", name := "given", desc := "()V" } : Jvm.MethodName)) ∈ lw_all := lw_g (lw_at lw_m3 90 rfl) rfl
theorem q676 : (Jvm.Cond.methodLink "TwoSlips$Course" (142 : Nat) ({ cls := "TwoSlips$Course", name := "isLiar", desc := "(I)Z" } : Jvm.MethodName)) ∈ lw_all := lw_g (lw_at lw_m3 91 rfl) rfl
theorem q677 : (Jvm.Cond.privateMethod ({ cls := "TwoSlips$Course", name := "isLiar", desc := "(I)Z" } : Jvm.MethodName)) ∈ lw_tbl := lw_at lw_m3 92 rfl
theorem q678 : (Jvm.Cond.instanceMethod ({ cls := "TwoSlips$Course", name := "isLiar", desc := "(I)Z" } : Jvm.MethodName)) ∈ lw_all := lw_g (lw_at lw_m3 93 rfl) rfl
theorem q679 : (Jvm.Cond.code ({ cls := "TwoSlips$Course", name := "isLiar", desc := "(I)Z" } : Jvm.MethodName) prog_4_method_10_code (2 : Nat) (Option.some Jvm.ClassFile.FieldType.boolean)) ∈ lw_all := lw_g (lw_at lw_m3 94 rfl) rfl
theorem q680 : (Jvm.Cond.constantLong "TwoSlips$Course" (145 : Nat) (-1 : Int64)) ∈ lw_all := lw_g (lw_at lw_m3 95 rfl) rfl
theorem q690 : (Jvm.Cond.instanceMethod ({ cls := "TwoSlips$Course", name := "only", desc := "()I" } : Jvm.MethodName)) ∈ lw_all := lw_g (lw_at lw_m3 105 rfl) rfl
theorem q691 : (Jvm.Cond.selects "TwoSlips$Course" ({ cls := "TwoSlips$Course", name := "only", desc := "()I" } : Jvm.MethodName) ({ cls := "TwoSlips$Course", name := "only", desc := "()I" } : Jvm.MethodName)) ∈ lw_all := lw_g (lw_at lw_m3 106 rfl) rfl
theorem q692 : (Jvm.Cond.code ({ cls := "TwoSlips$Course", name := "only", desc := "()I" } : Jvm.MethodName) prog_4_method_15_code (1 : Nat) (Option.some Jvm.ClassFile.FieldType.int)) ∈ lw_all := lw_g (lw_at lw_m3 107 rfl) rfl
theorem q693 : (Jvm.Cond.methodLink "TwoSlips$Course" (173 : Nat) ({ cls := "TwoSlips$Course", name := "end", desc := "()I" } : Jvm.MethodName)) ∈ lw_all := lw_g (lw_at lw_m3 108 rfl) rfl
theorem q694 : (Jvm.Cond.instanceMethod ({ cls := "TwoSlips$Course", name := "end", desc := "()I" } : Jvm.MethodName)) ∈ lw_all := lw_g (lw_at lw_m3 109 rfl) rfl
theorem q695 : (Jvm.Cond.selects "TwoSlips$Course" ({ cls := "TwoSlips$Course", name := "end", desc := "()I" } : Jvm.MethodName) ({ cls := "TwoSlips$Course", name := "end", desc := "()I" } : Jvm.MethodName)) ∈ lw_all := lw_g (lw_at lw_m3 110 rfl) rfl
theorem q696 : (Jvm.Cond.code ({ cls := "TwoSlips$Course", name := "end", desc := "()I" } : Jvm.MethodName) prog_4_method_14_code (1 : Nat) (Option.some Jvm.ClassFile.FieldType.int)) ∈ lw_all := lw_g (lw_at lw_m3 111 rfl) rfl
theorem q697 : (Jvm.Cond.methodLinkNest "TwoSlips$Course" (169 : Nat) ({ cls := "TwoSlips", name := "count", desc := "([J)I" } : Jvm.MethodName) "TwoSlips") ∈ lw_tbl := lw_at lw_m3 112 rfl
theorem q706 : (Jvm.Cond.methodLinkNest "TwoSlips$Course" (176 : Nat) ({ cls := "TwoSlips", name := "at", desc := "([JII)I" } : Jvm.MethodName) "TwoSlips") ∈ lw_tbl := lw_at lw_m3 121 rfl
theorem q1108 : (Jvm.Cond.fieldLinkNest "TwoSlips$Course" (81 : Nat) "TwoSlips$Speaker" "sight" "LTwoSlips$Sight;" "TwoSlips") ∈ lw_tbl := lw_at lw_m5 43 rfl
theorem q1109 : (Jvm.Cond.fieldLinkNest "TwoSlips$Course" (135 : Nat) "TwoSlips$Speaker" "isLiar" "Z" "TwoSlips") ∈ lw_tbl := lw_at lw_m5 44 rfl
theorem q1112 : (Jvm.Cond.fieldLinkNest "TwoSlips$Course" (103 : Nat) "TwoSlips$Speaker" "isDeaf" "Z" "TwoSlips") ∈ lw_tbl := lw_at lw_m5 47 rfl
theorem q1159 : (Jvm.Cond.selects "TwoSlips$Course" ({ cls := "java/lang/Object", name := "getClass", desc := "()Ljava/lang/Class;" } : Jvm.MethodName) ({ cls := "java/lang/Object", name := "getClass", desc := "()Ljava/lang/Class;" } : Jvm.MethodName)) ∈ lw_all := lw_g (lw_at lw_m5 94 rfl) rfl
theorem q1345 : (Jvm.Cond.fieldLinkNest "TwoSlips$Course" (159 : Nat) "TwoSlips$Turn" "speaker" "I" "TwoSlips") ∈ lw_tbl := lw_at lw_m6 40 rfl
theorem q1349 : (Jvm.Cond.fieldLinkNest "TwoSlips$Course" (161 : Nat) "TwoSlips$Turn" "saying" "LTwoSlips$Saying;" "TwoSlips") ∈ lw_tbl := lw_at lw_m6 44 rfl
theorem q1489 : (Jvm.Cond.instanceMethod ({ cls := "TwoSlips$Course", name := "knowsIn", desc := "(II[J)Z" } : Jvm.MethodName)) ∈ lw_all := lw_g (lw_at lw_m6 184 rfl) rfl
theorem q1490 : (Jvm.Cond.selects "TwoSlips$Course" ({ cls := "TwoSlips$Course", name := "knowsIn", desc := "(II[J)Z" } : Jvm.MethodName) ({ cls := "TwoSlips$Course", name := "knowsIn", desc := "(II[J)Z" } : Jvm.MethodName)) ∈ lw_all := lw_g (lw_at lw_m6 185 rfl) rfl
theorem q1491 : (Jvm.Cond.code ({ cls := "TwoSlips$Course", name := "knowsIn", desc := "(II[J)Z" } : Jvm.MethodName) prog_4_method_17_code (6 : Nat) (Option.some Jvm.ClassFile.FieldType.boolean)) ∈ lw_all := lw_g (lw_at lw_m6 186 rfl) rfl
theorem q1552 : (Jvm.Cond.instanceMethod ({ cls := "TwoSlips$Course", name := "answers", desc := "(IZ[J[J)V" } : Jvm.MethodName)) ∈ lw_all := lw_g (lw_at lw_m7 7 rfl) rfl
theorem q1553 : (Jvm.Cond.selects "TwoSlips$Course" ({ cls := "TwoSlips$Course", name := "answers", desc := "(IZ[J[J)V" } : Jvm.MethodName) ({ cls := "TwoSlips$Course", name := "answers", desc := "(IZ[J[J)V" } : Jvm.MethodName)) ∈ lw_all := lw_g (lw_at lw_m7 8 rfl) rfl
theorem q1554 : (Jvm.Cond.code ({ cls := "TwoSlips$Course", name := "answers", desc := "(IZ[J[J)V" } : Jvm.MethodName) prog_4_method_16_code (6 : Nat) (Option.none : Option Jvm.ClassFile.FieldType)) ∈ lw_all := lw_g (lw_at lw_m7 9 rfl) rfl
theorem q2429 : (Jvm.Cond.castable "TwoSlips$Course" "java/lang/Object") ∈ lw_tbl := lw_at lw_m10 164 rfl
theorem in_X3 : ∀ w ∈ wsX30, w ∈ lw_all := lw_in wsX30 [280, 282, 284, 286, 288, 290, 292, 294, 296, 298, 300] (by decide +kernel) (by decide +kernel)

/-! TwoSlips$Mute -/
set_option maxRecDepth 100000
def RX4 : String := "TwoSlips$Mute"
def TX4 : u_T := fun k => match k with
  | 0 => ("TwoSlips$Mute", "when", "[I", true)
  | 1 => ("TwoSlips$Mute", "now", "[J", false)
  | 2 => ("TwoSlips$Mute", "then", "[J", false)
  | _ => ("TwoSlips$Mute", "this$0", "LTwoSlips;", true)
def tyX4 : Nat → FieldType := fun k => match k with
  | 0 => .array .int
  | 1 => .array .long
  | 2 => .array .long
  | _ => .object "TwoSlips"
abbrev wsX40 : List Cond := u_ws RX4 TX4 4
theorem nmX4 : ∀ a, a < 4 → ∀ b, b < 4 → a ≠ b → (TX4 a).2.1 ≠ (TX4 b).2.1 := by decide +kernel
theorem tyX4_ok : ∀ k, k < 4 → parseFieldDescriptor (TX4 k).2.2.1 = some (tyX4 k) := by decide +kernel
abbrev cX4_init : ByteArray := prog_10_method_1_code
def yX4_init : MethodName := ⟨RX4, "<init>", "(LTwoSlips;)V"⟩
def dkwX4_init_1 : List UInt8 := [181, 0, 19, 42, 16, 29, 188, 11, 181, 0, 23, 177]
abbrev dktX4_init_1 : List UInt8 := dkwX4_init_1 ++ []
def dkwX4_init_0 : List UInt8 := [42, 43, 181, 0, 3, 42, 183, 0, 9, 42, 17, 7, 38, 188, 10, 181, 0, 15, 42, 16, 29, 188, 11]
abbrev dktX4_init_0 : List UInt8 := dkwX4_init_0 ++ dktX4_init_1
theorem dksX4_init_0 : cX4_init.data.toList.drop 0 = dktX4_init_0 := by decide +kernel
theorem dksX4_init_1 : cX4_init.data.toList.drop 23 = dktX4_init_1 := dk_seg dksX4_init_0 23 rfl rfl
theorem dX4_init_0 : decode cX4_init 0 = .ok (.aload_n 0, 1) := dk_42 (dk_at dksX4_init_0 0 rfl rfl)
theorem dX4_init_1 : decode cX4_init 1 = .ok (.aload_n 1, 1) := dk_43 (dk_at dksX4_init_0 1 rfl rfl)
theorem dX4_init_2 : decode cX4_init 2 = .ok (.putfield 3, 3) := dk_181 0 3 (dk_at dksX4_init_0 2 rfl rfl)
theorem dX4_init_5 : decode cX4_init 5 = .ok (.aload_n 0, 1) := dk_42 (dk_at dksX4_init_0 5 rfl rfl)
theorem dX4_init_6 : decode cX4_init 6 = .ok (.invokespecial 9, 3) := dk_183 0 9 (dk_at dksX4_init_0 6 rfl rfl)
theorem dX4_init_9 : decode cX4_init 9 = .ok (.aload_n 0, 1) := dk_42 (dk_at dksX4_init_0 9 rfl rfl)
theorem dX4_init_10 : decode cX4_init 10 = .ok (.sipush 1830, 3) := dk_17 7 38 (dk_at dksX4_init_0 10 rfl rfl)
theorem dX4_init_13 : decode cX4_init 13 = .ok (.newarray .int, 2) := dk_188_10 (dk_at dksX4_init_0 13 rfl rfl)
theorem dX4_init_15 : decode cX4_init 15 = .ok (.putfield 15, 3) := dk_181 0 15 (dk_at dksX4_init_0 15 rfl rfl)
theorem dX4_init_18 : decode cX4_init 18 = .ok (.aload_n 0, 1) := dk_42 (dk_at dksX4_init_0 18 rfl rfl)
theorem dX4_init_19 : decode cX4_init 19 = .ok (.bipush 29, 2) := dk_16 29 (dk_at dksX4_init_0 19 rfl rfl)
theorem dX4_init_21 : decode cX4_init 21 = .ok (.newarray .long, 2) := dk_188_11 (dk_at dksX4_init_0 21 rfl rfl)
theorem dX4_init_23 : decode cX4_init 23 = .ok (.putfield 19, 3) := dk_181 0 19 (dk_at dksX4_init_1 0 rfl rfl)
theorem dX4_init_26 : decode cX4_init 26 = .ok (.aload_n 0, 1) := dk_42 (dk_at dksX4_init_1 3 rfl rfl)
theorem dX4_init_27 : decode cX4_init 27 = .ok (.bipush 29, 2) := dk_16 29 (dk_at dksX4_init_1 4 rfl rfl)
theorem dX4_init_29 : decode cX4_init 29 = .ok (.newarray .long, 2) := dk_188_11 (dk_at dksX4_init_1 6 rfl rfl)
theorem dX4_init_31 : decode cX4_init 31 = .ok (.putfield 23, 3) := dk_181 0 23 (dk_at dksX4_init_1 8 rfl rfl)
theorem dX4_init_34 : decode cX4_init 34 = .ok (.return_, 1) := dk_177 (dk_at dksX4_init_1 11 rfl rfl)
abbrev cX4_of : ByteArray := prog_10_method_2_code
def yX4_of : MethodName := ⟨RX4, "of", "(II)LTwoSlips$Mute;"⟩
def dkwX4_of_7 : List UInt8 := [167, 255, 130, 42, 176]
abbrev dktX4_of_7 : List UInt8 := dkwX4_of_7 ++ []
def dkwX4_of_6 : List UInt8 := [180, 0, 19, 58, 7, 42, 42, 180, 0, 23, 181, 0, 19, 42, 25, 7, 181, 0, 23, 132, 5, 1]
abbrev dktX4_of_6 : List UInt8 := dkwX4_of_6 ++ dktX4_of_7
def dkwX4_of_5 : List UInt8 := [54, 6, 132, 7, 1, 167, 255, 208, 21, 6, 153, 0, 10, 21, 4, 4, 96, 167, 0, 4, 3, 54, 4, 42]
abbrev dktX4_of_5 : List UInt8 := dkwX4_of_5 ++ dktX4_of_6
def dkwX4_of_4 : List UInt8 := [180, 0, 23, 21, 7, 184, 0, 55, 160, 0, 6, 167, 0, 15, 42, 180, 0, 15, 21, 7, 21, 5, 79, 3]
abbrev dktX4_of_4 : List UInt8 := dkwX4_of_4 ++ dktX4_of_5
def dkwX4_of_3 : List UInt8 := [54, 6, 3, 54, 7, 21, 7, 45, 180, 0, 51, 162, 0, 45, 42, 180, 0, 19, 21, 7, 184, 0, 55, 42]
abbrev dktX4_of_3 : List UInt8 := dkwX4_of_3 ++ dktX4_of_4
def dkwX4_of_2 : List UInt8 := [5, 112, 154, 0, 7, 27, 167, 0, 4, 28, 3, 42, 180, 0, 19, 42, 180, 0, 23, 182, 0, 47, 4]
abbrev dktX4_of_2 : List UInt8 := dkwX4_of_2 ++ dktX4_of_3
def dkwX4_of_1 : List UInt8 := [180, 0, 19, 3, 16, 29, 184, 0, 41, 3, 54, 4, 3, 54, 5, 21, 4, 5, 162, 0, 126, 45, 21, 5]
abbrev dktX4_of_1 : List UInt8 := dkwX4_of_1 ++ dktX4_of_2
def dkwX4_of_0 : List UInt8 := [42, 180, 0, 3, 182, 0, 26, 78, 42, 180, 0, 15, 2, 184, 0, 30, 45, 180, 0, 36, 3, 42]
abbrev dktX4_of_0 : List UInt8 := dkwX4_of_0 ++ dktX4_of_1
theorem dksX4_of_0 : cX4_of.data.toList.drop 0 = dktX4_of_0 := by decide +kernel
theorem dksX4_of_1 : cX4_of.data.toList.drop 22 = dktX4_of_1 := dk_seg dksX4_of_0 22 rfl rfl
theorem dksX4_of_2 : cX4_of.data.toList.drop 46 = dktX4_of_2 := dk_seg dksX4_of_1 24 rfl rfl
theorem dksX4_of_3 : cX4_of.data.toList.drop 69 = dktX4_of_3 := dk_seg dksX4_of_2 23 rfl rfl
theorem dksX4_of_4 : cX4_of.data.toList.drop 93 = dktX4_of_4 := dk_seg dksX4_of_3 24 rfl rfl
theorem dksX4_of_5 : cX4_of.data.toList.drop 117 = dktX4_of_5 := dk_seg dksX4_of_4 24 rfl rfl
theorem dksX4_of_6 : cX4_of.data.toList.drop 141 = dktX4_of_6 := dk_seg dksX4_of_5 24 rfl rfl
theorem dksX4_of_7 : cX4_of.data.toList.drop 163 = dktX4_of_7 := dk_seg dksX4_of_6 22 rfl rfl
theorem dX4_of_0 : decode cX4_of 0 = .ok (.aload_n 0, 1) := dk_42 (dk_at dksX4_of_0 0 rfl rfl)
theorem dX4_of_1 : decode cX4_of 1 = .ok (.getfield 3, 3) := dk_180 0 3 (dk_at dksX4_of_0 1 rfl rfl)
theorem dX4_of_4 : decode cX4_of 4 = .ok (.invokevirtual 26, 3) := dk_182 0 26 (dk_at dksX4_of_0 4 rfl rfl)
theorem dX4_of_7 : decode cX4_of 7 = .ok (.astore_n 3, 1) := dk_78 (dk_at dksX4_of_0 7 rfl rfl)
theorem dX4_of_8 : decode cX4_of 8 = .ok (.aload_n 0, 1) := dk_42 (dk_at dksX4_of_0 8 rfl rfl)
theorem dX4_of_9 : decode cX4_of 9 = .ok (.getfield 15, 3) := dk_180 0 15 (dk_at dksX4_of_0 9 rfl rfl)
theorem dX4_of_12 : decode cX4_of 12 = .ok (.iconst (-1), 1) := dk_2 (dk_at dksX4_of_0 12 rfl rfl)
theorem dX4_of_13 : decode cX4_of 13 = .ok (.invokestatic 30, 3) := dk_184 0 30 (dk_at dksX4_of_0 13 rfl rfl)
theorem dX4_of_16 : decode cX4_of 16 = .ok (.aload_n 3, 1) := dk_45 (dk_at dksX4_of_0 16 rfl rfl)
theorem dX4_of_17 : decode cX4_of 17 = .ok (.getfield 36, 3) := dk_180 0 36 (dk_at dksX4_of_0 17 rfl rfl)
theorem dX4_of_20 : decode cX4_of 20 = .ok (.iconst 0, 1) := dk_3 (dk_at dksX4_of_0 20 rfl rfl)
theorem dX4_of_21 : decode cX4_of 21 = .ok (.aload_n 0, 1) := dk_42 (dk_at dksX4_of_0 21 rfl rfl)
theorem dX4_of_22 : decode cX4_of 22 = .ok (.getfield 19, 3) := dk_180 0 19 (dk_at dksX4_of_1 0 rfl rfl)
theorem dX4_of_25 : decode cX4_of 25 = .ok (.iconst 0, 1) := dk_3 (dk_at dksX4_of_1 3 rfl rfl)
theorem dX4_of_26 : decode cX4_of 26 = .ok (.bipush 29, 2) := dk_16 29 (dk_at dksX4_of_1 4 rfl rfl)
theorem dX4_of_28 : decode cX4_of 28 = .ok (.invokestatic 41, 3) := dk_184 0 41 (dk_at dksX4_of_1 6 rfl rfl)
theorem dX4_of_31 : decode cX4_of 31 = .ok (.iconst 0, 1) := dk_3 (dk_at dksX4_of_1 9 rfl rfl)
theorem dX4_of_32 : decode cX4_of 32 = .ok (.istore 4, 2) := dk_54 4 (dk_at dksX4_of_1 10 rfl rfl)
theorem dX4_of_34 : decode cX4_of 34 = .ok (.iconst 0, 1) := dk_3 (dk_at dksX4_of_1 12 rfl rfl)
theorem dX4_of_35 : decode cX4_of 35 = .ok (.istore 5, 2) := dk_54 5 (dk_at dksX4_of_1 13 rfl rfl)
theorem dX4_of_37 : decode cX4_of 37 = .ok (.iload 4, 2) := dk_21 4 (dk_at dksX4_of_1 15 rfl rfl)
theorem dX4_of_39 : decode cX4_of 39 = .ok (.iconst 2, 1) := dk_5 (dk_at dksX4_of_1 17 rfl rfl)
theorem dX4_of_40 : decode cX4_of 40 = .ok (.if_icmp .ge 126, 3) := dk_162 0 126 (dk_at dksX4_of_1 18 rfl rfl)
theorem dX4_of_43 : decode cX4_of 43 = .ok (.aload_n 3, 1) := dk_45 (dk_at dksX4_of_1 21 rfl rfl)
theorem dX4_of_44 : decode cX4_of 44 = .ok (.iload 5, 2) := dk_21 5 (dk_at dksX4_of_1 22 rfl rfl)
theorem dX4_of_46 : decode cX4_of 46 = .ok (.iconst 2, 1) := dk_5 (dk_at dksX4_of_2 0 rfl rfl)
theorem dX4_of_47 : decode cX4_of 47 = .ok (.irem, 1) := dk_112 (dk_at dksX4_of_2 1 rfl rfl)
theorem dX4_of_48 : decode cX4_of 48 = .ok (.ifCond .ne 7, 3) := dk_154 0 7 (dk_at dksX4_of_2 2 rfl rfl)
theorem dX4_of_51 : decode cX4_of 51 = .ok (.iload_n 1, 1) := dk_27 (dk_at dksX4_of_2 5 rfl rfl)
theorem dX4_of_52 : decode cX4_of 52 = .ok (.goto 4, 3) := dk_167 0 4 (dk_at dksX4_of_2 6 rfl rfl)
theorem dX4_of_55 : decode cX4_of 55 = .ok (.iload_n 2, 1) := dk_28 (dk_at dksX4_of_2 9 rfl rfl)
theorem dX4_of_56 : decode cX4_of 56 = .ok (.iconst 0, 1) := dk_3 (dk_at dksX4_of_2 10 rfl rfl)
theorem dX4_of_57 : decode cX4_of 57 = .ok (.aload_n 0, 1) := dk_42 (dk_at dksX4_of_2 11 rfl rfl)
theorem dX4_of_58 : decode cX4_of 58 = .ok (.getfield 19, 3) := dk_180 0 19 (dk_at dksX4_of_2 12 rfl rfl)
theorem dX4_of_61 : decode cX4_of 61 = .ok (.aload_n 0, 1) := dk_42 (dk_at dksX4_of_2 15 rfl rfl)
theorem dX4_of_62 : decode cX4_of 62 = .ok (.getfield 23, 3) := dk_180 0 23 (dk_at dksX4_of_2 16 rfl rfl)
theorem dX4_of_65 : decode cX4_of 65 = .ok (.invokevirtual 47, 3) := dk_182 0 47 (dk_at dksX4_of_2 19 rfl rfl)
theorem dX4_of_68 : decode cX4_of 68 = .ok (.iconst 1, 1) := dk_4 (dk_at dksX4_of_2 22 rfl rfl)
theorem dX4_of_69 : decode cX4_of 69 = .ok (.istore 6, 2) := dk_54 6 (dk_at dksX4_of_3 0 rfl rfl)
theorem dX4_of_71 : decode cX4_of 71 = .ok (.iconst 0, 1) := dk_3 (dk_at dksX4_of_3 2 rfl rfl)
theorem dX4_of_72 : decode cX4_of 72 = .ok (.istore 7, 2) := dk_54 7 (dk_at dksX4_of_3 3 rfl rfl)
theorem dX4_of_74 : decode cX4_of 74 = .ok (.iload 7, 2) := dk_21 7 (dk_at dksX4_of_3 5 rfl rfl)
theorem dX4_of_76 : decode cX4_of 76 = .ok (.aload_n 3, 1) := dk_45 (dk_at dksX4_of_3 7 rfl rfl)
theorem dX4_of_77 : decode cX4_of 77 = .ok (.getfield 51, 3) := dk_180 0 51 (dk_at dksX4_of_3 8 rfl rfl)
theorem dX4_of_80 : decode cX4_of 80 = .ok (.if_icmp .ge 45, 3) := dk_162 0 45 (dk_at dksX4_of_3 11 rfl rfl)
theorem dX4_of_83 : decode cX4_of 83 = .ok (.aload_n 0, 1) := dk_42 (dk_at dksX4_of_3 14 rfl rfl)
theorem dX4_of_84 : decode cX4_of 84 = .ok (.getfield 19, 3) := dk_180 0 19 (dk_at dksX4_of_3 15 rfl rfl)
theorem dX4_of_87 : decode cX4_of 87 = .ok (.iload 7, 2) := dk_21 7 (dk_at dksX4_of_3 18 rfl rfl)
theorem dX4_of_89 : decode cX4_of 89 = .ok (.invokestatic 55, 3) := dk_184 0 55 (dk_at dksX4_of_3 20 rfl rfl)
theorem dX4_of_92 : decode cX4_of 92 = .ok (.aload_n 0, 1) := dk_42 (dk_at dksX4_of_3 23 rfl rfl)
theorem dX4_of_93 : decode cX4_of 93 = .ok (.getfield 23, 3) := dk_180 0 23 (dk_at dksX4_of_4 0 rfl rfl)
theorem dX4_of_96 : decode cX4_of 96 = .ok (.iload 7, 2) := dk_21 7 (dk_at dksX4_of_4 3 rfl rfl)
theorem dX4_of_98 : decode cX4_of 98 = .ok (.invokestatic 55, 3) := dk_184 0 55 (dk_at dksX4_of_4 5 rfl rfl)
theorem dX4_of_101 : decode cX4_of 101 = .ok (.if_icmp .ne 6, 3) := dk_160 0 6 (dk_at dksX4_of_4 8 rfl rfl)
theorem dX4_of_104 : decode cX4_of 104 = .ok (.goto 15, 3) := dk_167 0 15 (dk_at dksX4_of_4 11 rfl rfl)
theorem dX4_of_107 : decode cX4_of 107 = .ok (.aload_n 0, 1) := dk_42 (dk_at dksX4_of_4 14 rfl rfl)
theorem dX4_of_108 : decode cX4_of 108 = .ok (.getfield 15, 3) := dk_180 0 15 (dk_at dksX4_of_4 15 rfl rfl)
theorem dX4_of_111 : decode cX4_of 111 = .ok (.iload 7, 2) := dk_21 7 (dk_at dksX4_of_4 18 rfl rfl)
theorem dX4_of_113 : decode cX4_of 113 = .ok (.iload 5, 2) := dk_21 5 (dk_at dksX4_of_4 20 rfl rfl)
theorem dX4_of_115 : decode cX4_of 115 = .ok (.iastore, 1) := dk_79 (dk_at dksX4_of_4 22 rfl rfl)
theorem dX4_of_116 : decode cX4_of 116 = .ok (.iconst 0, 1) := dk_3 (dk_at dksX4_of_4 23 rfl rfl)
theorem dX4_of_117 : decode cX4_of 117 = .ok (.istore 6, 2) := dk_54 6 (dk_at dksX4_of_5 0 rfl rfl)
theorem dX4_of_119 : decode cX4_of 119 = .ok (.iinc 7 1, 3) := dk_132 7 1 (dk_at dksX4_of_5 2 rfl rfl)
theorem dX4_of_122 : decode cX4_of 122 = .ok (.goto (-48), 3) := dk_167 255 208 (dk_at dksX4_of_5 5 rfl rfl)
theorem dX4_of_125 : decode cX4_of 125 = .ok (.iload 6, 2) := dk_21 6 (dk_at dksX4_of_5 8 rfl rfl)
theorem dX4_of_127 : decode cX4_of 127 = .ok (.ifCond .eq 10, 3) := dk_153 0 10 (dk_at dksX4_of_5 10 rfl rfl)
theorem dX4_of_130 : decode cX4_of 130 = .ok (.iload 4, 2) := dk_21 4 (dk_at dksX4_of_5 13 rfl rfl)
theorem dX4_of_132 : decode cX4_of 132 = .ok (.iconst 1, 1) := dk_4 (dk_at dksX4_of_5 15 rfl rfl)
theorem dX4_of_133 : decode cX4_of 133 = .ok (.iadd, 1) := dk_96 (dk_at dksX4_of_5 16 rfl rfl)
theorem dX4_of_134 : decode cX4_of 134 = .ok (.goto 4, 3) := dk_167 0 4 (dk_at dksX4_of_5 17 rfl rfl)
theorem dX4_of_137 : decode cX4_of 137 = .ok (.iconst 0, 1) := dk_3 (dk_at dksX4_of_5 20 rfl rfl)
theorem dX4_of_138 : decode cX4_of 138 = .ok (.istore 4, 2) := dk_54 4 (dk_at dksX4_of_5 21 rfl rfl)
theorem dX4_of_140 : decode cX4_of 140 = .ok (.aload_n 0, 1) := dk_42 (dk_at dksX4_of_5 23 rfl rfl)
theorem dX4_of_141 : decode cX4_of 141 = .ok (.getfield 19, 3) := dk_180 0 19 (dk_at dksX4_of_6 0 rfl rfl)
theorem dX4_of_144 : decode cX4_of 144 = .ok (.astore 7, 2) := dk_58 7 (dk_at dksX4_of_6 3 rfl rfl)
theorem dX4_of_146 : decode cX4_of 146 = .ok (.aload_n 0, 1) := dk_42 (dk_at dksX4_of_6 5 rfl rfl)
theorem dX4_of_147 : decode cX4_of 147 = .ok (.aload_n 0, 1) := dk_42 (dk_at dksX4_of_6 6 rfl rfl)
theorem dX4_of_148 : decode cX4_of 148 = .ok (.getfield 23, 3) := dk_180 0 23 (dk_at dksX4_of_6 7 rfl rfl)
theorem dX4_of_151 : decode cX4_of 151 = .ok (.putfield 19, 3) := dk_181 0 19 (dk_at dksX4_of_6 10 rfl rfl)
theorem dX4_of_154 : decode cX4_of 154 = .ok (.aload_n 0, 1) := dk_42 (dk_at dksX4_of_6 13 rfl rfl)
theorem dX4_of_155 : decode cX4_of 155 = .ok (.aload 7, 2) := dk_25 7 (dk_at dksX4_of_6 14 rfl rfl)
theorem dX4_of_157 : decode cX4_of 157 = .ok (.putfield 23, 3) := dk_181 0 23 (dk_at dksX4_of_6 16 rfl rfl)
theorem dX4_of_160 : decode cX4_of 160 = .ok (.iinc 5 1, 3) := dk_132 5 1 (dk_at dksX4_of_6 19 rfl rfl)
theorem dX4_of_163 : decode cX4_of 163 = .ok (.goto (-126), 3) := dk_167 255 130 (dk_at dksX4_of_7 0 rfl rfl)
theorem dX4_of_166 : decode cX4_of 166 = .ok (.aload_n 0, 1) := dk_42 (dk_at dksX4_of_7 3 rfl rfl)
theorem dX4_of_167 : decode cX4_of 167 = .ok (.areturn, 1) := dk_176 (dk_at dksX4_of_7 4 rfl rfl)
theorem q112 : (Jvm.Cond.initialized "TwoSlips$Mute") ∈ lw_all := lw_g (lw_at lw_m1 7 rfl) rfl
theorem q264 : (Jvm.Cond.fieldLinkNest "TwoSlips$Mute" (36 : Nat) "TwoSlips$Course" "all" "[J" "TwoSlips") ∈ lw_tbl := lw_at lw_m1 159 rfl
theorem q273 : (Jvm.Cond.fieldLinkNest "TwoSlips$Mute" (51 : Nat) "TwoSlips$Course" "many" "I" "TwoSlips") ∈ lw_tbl := lw_at lw_m1 168 rfl
theorem q307 : (Jvm.Cond.instantiable "TwoSlips$Mute" (4 : Nat)) ∈ lw_all := lw_g (lw_at lw_m1 202 rfl) rfl
theorem q309 : (Jvm.Cond.instanceMethod ({ cls := "TwoSlips$Mute", name := "<init>", desc := "(LTwoSlips;)V" } : Jvm.MethodName)) ∈ lw_all := lw_g (lw_at lw_m1 204 rfl) rfl
theorem q310 : (Jvm.Cond.code ({ cls := "TwoSlips$Mute", name := "<init>", desc := "(LTwoSlips;)V" } : Jvm.MethodName) prog_10_method_1_code (2 : Nat) (Option.none : Option Jvm.ClassFile.FieldType)) ∈ lw_all := lw_g (lw_at lw_m1 205 rfl) rfl
theorem q311 : (Jvm.Cond.methodLink "TwoSlips$Mute" (9 : Nat) ({ cls := "java/lang/Object", name := "<init>", desc := "()V" } : Jvm.MethodName)) ∈ lw_all := lw_g (lw_at lw_m1 206 rfl) rfl
theorem q312 : (Jvm.Cond.fieldLink "TwoSlips$Mute" (15 : Nat) "TwoSlips$Mute" "when" "[I") ∈ lw_all := lw_g (lw_at lw_m1 207 rfl) rfl
theorem q314 : (Jvm.Cond.fieldLink "TwoSlips$Mute" (19 : Nat) "TwoSlips$Mute" "now" "[J") ∈ lw_all := lw_g (lw_at lw_m1 209 rfl) rfl
theorem q316 : (Jvm.Cond.fieldLink "TwoSlips$Mute" (23 : Nat) "TwoSlips$Mute" "then" "[J") ∈ lw_all := lw_g (lw_at lw_m1 211 rfl) rfl
theorem q317 : (Jvm.Cond.fieldLink "TwoSlips$Mute" (3 : Nat) "TwoSlips$Mute" "this$0" "LTwoSlips;") ∈ lw_all := lw_g (lw_at lw_m1 212 rfl) rfl
theorem q318 : (Jvm.Cond.laysFinal "TwoSlips$Mute" "TwoSlips$Mute" "when" "[I") ∈ lw_all := lw_g (lw_at lw_m1 213 rfl) rfl
theorem q319 : (Jvm.Cond.soleField "TwoSlips$Mute" "when") ∈ lw_all := lw_g (lw_at lw_m1 214 rfl) rfl
theorem q320 : (Jvm.Cond.lays "TwoSlips$Mute" "TwoSlips$Mute" "now" "[J") ∈ lw_all := lw_g (lw_at lw_m1 215 rfl) rfl
theorem q321 : (Jvm.Cond.soleField "TwoSlips$Mute" "now") ∈ lw_all := lw_g (lw_at lw_m1 216 rfl) rfl
theorem q322 : (Jvm.Cond.lays "TwoSlips$Mute" "TwoSlips$Mute" "then" "[J") ∈ lw_all := lw_g (lw_at lw_m1 217 rfl) rfl
theorem q323 : (Jvm.Cond.soleField "TwoSlips$Mute" "then") ∈ lw_all := lw_g (lw_at lw_m1 218 rfl) rfl
theorem q324 : (Jvm.Cond.laysFinal "TwoSlips$Mute" "TwoSlips$Mute" "this$0" "LTwoSlips;") ∈ lw_all := lw_g (lw_at lw_m1 219 rfl) rfl
theorem q325 : (Jvm.Cond.soleField "TwoSlips$Mute" "this$0") ∈ lw_all := lw_g (lw_at lw_m1 220 rfl) rfl
theorem q326 : (Jvm.Cond.superclass "TwoSlips$Mute" "java/lang/Object") ∈ lw_all := lw_g (lw_at lw_m1 221 rfl) rfl
theorem q1165 : (Jvm.Cond.selects "TwoSlips$Mute" ({ cls := "java/lang/Object", name := "getClass", desc := "()Ljava/lang/Class;" } : Jvm.MethodName) ({ cls := "java/lang/Object", name := "getClass", desc := "()Ljava/lang/Class;" } : Jvm.MethodName)) ∈ lw_all := lw_g (lw_at lw_m5 100 rfl) rfl
theorem q1545 : (Jvm.Cond.instanceMethod ({ cls := "TwoSlips$Mute", name := "of", desc := "(II)LTwoSlips$Mute;" } : Jvm.MethodName)) ∈ lw_all := lw_g (lw_at lw_m7 0 rfl) rfl
theorem q1546 : (Jvm.Cond.selects "TwoSlips$Mute" ({ cls := "TwoSlips$Mute", name := "of", desc := "(II)LTwoSlips$Mute;" } : Jvm.MethodName) ({ cls := "TwoSlips$Mute", name := "of", desc := "(II)LTwoSlips$Mute;" } : Jvm.MethodName)) ∈ lw_all := lw_g (lw_at lw_m7 1 rfl) rfl
theorem q1547 : (Jvm.Cond.code ({ cls := "TwoSlips$Mute", name := "of", desc := "(II)LTwoSlips$Mute;" } : Jvm.MethodName) prog_10_method_2_code (8 : Nat) (Option.some (Jvm.ClassFile.FieldType.object "TwoSlips$Mute"))) ∈ lw_all := lw_g (lw_at lw_m7 2 rfl) rfl
theorem q1548 : (Jvm.Cond.methodLinkNest "TwoSlips$Mute" (26 : Nat) ({ cls := "TwoSlips", name := "laid", desc := "()LTwoSlips$Course;" } : Jvm.MethodName) "TwoSlips") ∈ lw_tbl := lw_at lw_m7 3 rfl
theorem q1549 : (Jvm.Cond.methodLink "TwoSlips$Mute" (30 : Nat) ({ cls := "java/util/Arrays", name := "fill", desc := "([II)V" } : Jvm.MethodName)) ∈ lw_all := lw_g (lw_at lw_m7 4 rfl) rfl
theorem q1550 : (Jvm.Cond.methodLink "TwoSlips$Mute" (41 : Nat) ({ cls := "java/lang/System", name := "arraycopy", desc := "(Ljava/lang/Object;ILjava/lang/Object;II)V" } : Jvm.MethodName)) ∈ lw_all := lw_g (lw_at lw_m7 5 rfl) rfl
theorem q1551 : (Jvm.Cond.methodLink "TwoSlips$Mute" (47 : Nat) ({ cls := "TwoSlips$Course", name := "answers", desc := "(IZ[J[J)V" } : Jvm.MethodName)) ∈ lw_all := lw_g (lw_at lw_m7 6 rfl) rfl
theorem q1555 : (Jvm.Cond.methodLinkNest "TwoSlips$Mute" (55 : Nat) ({ cls := "TwoSlips", name := "has", desc := "([JI)Z" } : Jvm.MethodName) "TwoSlips") ∈ lw_tbl := lw_at lw_m7 10 rfl
theorem q2430 : (Jvm.Cond.castable "TwoSlips$Mute" "java/lang/Object") ∈ lw_tbl := lw_at lw_m10 165 rfl
theorem in_X4 : ∀ w ∈ wsX40, w ∈ lw_all := lw_in wsX40 [318, 320, 322, 324] (by decide +kernel) (by decide +kernel)

/-! TwoSlips$Rows -/
set_option maxRecDepth 100000
def RX5 : String := "TwoSlips$Rows"
abbrev cX5_init : ByteArray := prog_18_method_1_code
def yX5_init : MethodName := ⟨RX5, "<init>", "(LTwoSlips;)V"⟩
def dkwX5_init_1 : List UInt8 := [188, 10, 181, 0, 20, 42, 8, 188, 10, 181, 0, 24, 177]
abbrev dktX5_init_1 : List UInt8 := dkwX5_init_1 ++ []
def dkwX5_init_0 : List UInt8 := [42, 43, 181, 0, 3, 42, 183, 0, 9, 42, 16, 6, 16, 29, 197, 0, 15, 2, 181, 0, 17, 42, 8]
abbrev dktX5_init_0 : List UInt8 := dkwX5_init_0 ++ dktX5_init_1
theorem dksX5_init_0 : cX5_init.data.toList.drop 0 = dktX5_init_0 := by decide +kernel
theorem dksX5_init_1 : cX5_init.data.toList.drop 23 = dktX5_init_1 := dk_seg dksX5_init_0 23 rfl rfl
theorem dX5_init_0 : decode cX5_init 0 = .ok (.aload_n 0, 1) := dk_42 (dk_at dksX5_init_0 0 rfl rfl)
theorem dX5_init_1 : decode cX5_init 1 = .ok (.aload_n 1, 1) := dk_43 (dk_at dksX5_init_0 1 rfl rfl)
theorem dX5_init_2 : decode cX5_init 2 = .ok (.putfield 3, 3) := dk_181 0 3 (dk_at dksX5_init_0 2 rfl rfl)
theorem dX5_init_5 : decode cX5_init 5 = .ok (.aload_n 0, 1) := dk_42 (dk_at dksX5_init_0 5 rfl rfl)
theorem dX5_init_6 : decode cX5_init 6 = .ok (.invokespecial 9, 3) := dk_183 0 9 (dk_at dksX5_init_0 6 rfl rfl)
theorem dX5_init_9 : decode cX5_init 9 = .ok (.aload_n 0, 1) := dk_42 (dk_at dksX5_init_0 9 rfl rfl)
theorem dX5_init_10 : decode cX5_init 10 = .ok (.bipush 6, 2) := dk_16 6 (dk_at dksX5_init_0 10 rfl rfl)
theorem dX5_init_12 : decode cX5_init 12 = .ok (.bipush 29, 2) := dk_16 29 (dk_at dksX5_init_0 12 rfl rfl)
theorem dX5_init_14 : decode cX5_init 14 = .ok (.multianewarray 15 2, 4) := by decide +kernel
theorem dX5_init_18 : decode cX5_init 18 = .ok (.putfield 17, 3) := dk_181 0 17 (dk_at dksX5_init_0 18 rfl rfl)
theorem dX5_init_21 : decode cX5_init 21 = .ok (.aload_n 0, 1) := dk_42 (dk_at dksX5_init_0 21 rfl rfl)
theorem dX5_init_22 : decode cX5_init 22 = .ok (.iconst 5, 1) := dk_8 (dk_at dksX5_init_0 22 rfl rfl)
theorem dX5_init_23 : decode cX5_init 23 = .ok (.newarray .int, 2) := dk_188_10 (dk_at dksX5_init_1 0 rfl rfl)
theorem dX5_init_25 : decode cX5_init 25 = .ok (.putfield 20, 3) := dk_181 0 20 (dk_at dksX5_init_1 2 rfl rfl)
theorem dX5_init_28 : decode cX5_init 28 = .ok (.aload_n 0, 1) := dk_42 (dk_at dksX5_init_1 5 rfl rfl)
theorem dX5_init_29 : decode cX5_init 29 = .ok (.iconst 5, 1) := dk_8 (dk_at dksX5_init_1 6 rfl rfl)
theorem dX5_init_30 : decode cX5_init 30 = .ok (.newarray .int, 2) := dk_188_10 (dk_at dksX5_init_1 7 rfl rfl)
theorem dX5_init_32 : decode cX5_init 32 = .ok (.putfield 24, 3) := dk_181 0 24 (dk_at dksX5_init_1 9 rfl rfl)
theorem dX5_init_35 : decode cX5_init 35 = .ok (.return_, 1) := dk_177 (dk_at dksX5_init_1 12 rfl rfl)
abbrev cX5_finds : ByteArray := prog_18_method_7_code
def yX5_finds : MethodName := ⟨RX5, "finds", "(I)Z"⟩
def dkwX5_finds_3 : List UInt8 := [3, 172]
abbrev dktX5_finds_3 : List UInt8 := dkwX5_finds_3 ++ []
def dkwX5_finds_2 : List UInt8 := [180, 0, 66, 182, 0, 42, 153, 0, 5, 4, 172, 42, 89, 180, 0, 66, 4, 96, 181, 0, 66, 167, 255, 224]
abbrev dktX5_finds_2 : List UInt8 := dkwX5_finds_2 ++ dktX5_finds_3
def dkwX5_finds_1 : List UInt8 := [50, 3, 16, 29, 184, 0, 60, 42, 3, 181, 0, 66, 42, 180, 0, 66, 27, 163, 0, 30, 42, 3, 42]
abbrev dktX5_finds_1 : List UInt8 := dkwX5_finds_1 ++ dktX5_finds_2
def dkwX5_finds_0 : List UInt8 := [42, 42, 180, 0, 3, 182, 0, 46, 181, 0, 50, 42, 180, 0, 50, 180, 0, 54, 3, 42, 180, 0, 17, 3]
abbrev dktX5_finds_0 : List UInt8 := dkwX5_finds_0 ++ dktX5_finds_1
theorem dksX5_finds_0 : cX5_finds.data.toList.drop 0 = dktX5_finds_0 := by decide +kernel
theorem dksX5_finds_1 : cX5_finds.data.toList.drop 24 = dktX5_finds_1 := dk_seg dksX5_finds_0 24 rfl rfl
theorem dksX5_finds_2 : cX5_finds.data.toList.drop 47 = dktX5_finds_2 := dk_seg dksX5_finds_1 23 rfl rfl
theorem dksX5_finds_3 : cX5_finds.data.toList.drop 71 = dktX5_finds_3 := dk_seg dksX5_finds_2 24 rfl rfl
theorem dX5_finds_0 : decode cX5_finds 0 = .ok (.aload_n 0, 1) := dk_42 (dk_at dksX5_finds_0 0 rfl rfl)
theorem dX5_finds_1 : decode cX5_finds 1 = .ok (.aload_n 0, 1) := dk_42 (dk_at dksX5_finds_0 1 rfl rfl)
theorem dX5_finds_2 : decode cX5_finds 2 = .ok (.getfield 3, 3) := dk_180 0 3 (dk_at dksX5_finds_0 2 rfl rfl)
theorem dX5_finds_5 : decode cX5_finds 5 = .ok (.invokevirtual 46, 3) := dk_182 0 46 (dk_at dksX5_finds_0 5 rfl rfl)
theorem dX5_finds_8 : decode cX5_finds 8 = .ok (.putfield 50, 3) := dk_181 0 50 (dk_at dksX5_finds_0 8 rfl rfl)
theorem dX5_finds_11 : decode cX5_finds 11 = .ok (.aload_n 0, 1) := dk_42 (dk_at dksX5_finds_0 11 rfl rfl)
theorem dX5_finds_12 : decode cX5_finds 12 = .ok (.getfield 50, 3) := dk_180 0 50 (dk_at dksX5_finds_0 12 rfl rfl)
theorem dX5_finds_15 : decode cX5_finds 15 = .ok (.getfield 54, 3) := dk_180 0 54 (dk_at dksX5_finds_0 15 rfl rfl)
theorem dX5_finds_18 : decode cX5_finds 18 = .ok (.iconst 0, 1) := dk_3 (dk_at dksX5_finds_0 18 rfl rfl)
theorem dX5_finds_19 : decode cX5_finds 19 = .ok (.aload_n 0, 1) := dk_42 (dk_at dksX5_finds_0 19 rfl rfl)
theorem dX5_finds_20 : decode cX5_finds 20 = .ok (.getfield 17, 3) := dk_180 0 17 (dk_at dksX5_finds_0 20 rfl rfl)
theorem dX5_finds_23 : decode cX5_finds 23 = .ok (.iconst 0, 1) := dk_3 (dk_at dksX5_finds_0 23 rfl rfl)
theorem dX5_finds_24 : decode cX5_finds 24 = .ok (.aaload, 1) := dk_50 (dk_at dksX5_finds_1 0 rfl rfl)
theorem dX5_finds_25 : decode cX5_finds 25 = .ok (.iconst 0, 1) := dk_3 (dk_at dksX5_finds_1 1 rfl rfl)
theorem dX5_finds_26 : decode cX5_finds 26 = .ok (.bipush 29, 2) := dk_16 29 (dk_at dksX5_finds_1 2 rfl rfl)
theorem dX5_finds_28 : decode cX5_finds 28 = .ok (.invokestatic 60, 3) := dk_184 0 60 (dk_at dksX5_finds_1 4 rfl rfl)
theorem dX5_finds_31 : decode cX5_finds 31 = .ok (.aload_n 0, 1) := dk_42 (dk_at dksX5_finds_1 7 rfl rfl)
theorem dX5_finds_32 : decode cX5_finds 32 = .ok (.iconst 0, 1) := dk_3 (dk_at dksX5_finds_1 8 rfl rfl)
theorem dX5_finds_33 : decode cX5_finds 33 = .ok (.putfield 66, 3) := dk_181 0 66 (dk_at dksX5_finds_1 9 rfl rfl)
theorem dX5_finds_36 : decode cX5_finds 36 = .ok (.aload_n 0, 1) := dk_42 (dk_at dksX5_finds_1 12 rfl rfl)
theorem dX5_finds_37 : decode cX5_finds 37 = .ok (.getfield 66, 3) := dk_180 0 66 (dk_at dksX5_finds_1 13 rfl rfl)
theorem dX5_finds_40 : decode cX5_finds 40 = .ok (.iload_n 1, 1) := dk_27 (dk_at dksX5_finds_1 16 rfl rfl)
theorem dX5_finds_41 : decode cX5_finds 41 = .ok (.if_icmp .gt 30, 3) := dk_163 0 30 (dk_at dksX5_finds_1 17 rfl rfl)
theorem dX5_finds_44 : decode cX5_finds 44 = .ok (.aload_n 0, 1) := dk_42 (dk_at dksX5_finds_1 20 rfl rfl)
theorem dX5_finds_45 : decode cX5_finds 45 = .ok (.iconst 0, 1) := dk_3 (dk_at dksX5_finds_1 21 rfl rfl)
theorem dX5_finds_46 : decode cX5_finds 46 = .ok (.aload_n 0, 1) := dk_42 (dk_at dksX5_finds_1 22 rfl rfl)
theorem dX5_finds_47 : decode cX5_finds 47 = .ok (.getfield 66, 3) := dk_180 0 66 (dk_at dksX5_finds_2 0 rfl rfl)
theorem dX5_finds_50 : decode cX5_finds 50 = .ok (.invokevirtual 42, 3) := dk_182 0 42 (dk_at dksX5_finds_2 3 rfl rfl)
theorem dX5_finds_53 : decode cX5_finds 53 = .ok (.ifCond .eq 5, 3) := dk_153 0 5 (dk_at dksX5_finds_2 6 rfl rfl)
theorem dX5_finds_56 : decode cX5_finds 56 = .ok (.iconst 1, 1) := dk_4 (dk_at dksX5_finds_2 9 rfl rfl)
theorem dX5_finds_57 : decode cX5_finds 57 = .ok (.ireturn, 1) := dk_172 (dk_at dksX5_finds_2 10 rfl rfl)
theorem dX5_finds_58 : decode cX5_finds 58 = .ok (.aload_n 0, 1) := dk_42 (dk_at dksX5_finds_2 11 rfl rfl)
theorem dX5_finds_59 : decode cX5_finds 59 = .ok (.dup, 1) := dk_89 (dk_at dksX5_finds_2 12 rfl rfl)
theorem dX5_finds_60 : decode cX5_finds 60 = .ok (.getfield 66, 3) := dk_180 0 66 (dk_at dksX5_finds_2 13 rfl rfl)
theorem dX5_finds_63 : decode cX5_finds 63 = .ok (.iconst 1, 1) := dk_4 (dk_at dksX5_finds_2 16 rfl rfl)
theorem dX5_finds_64 : decode cX5_finds 64 = .ok (.iadd, 1) := dk_96 (dk_at dksX5_finds_2 17 rfl rfl)
theorem dX5_finds_65 : decode cX5_finds 65 = .ok (.putfield 66, 3) := dk_181 0 66 (dk_at dksX5_finds_2 18 rfl rfl)
theorem dX5_finds_68 : decode cX5_finds 68 = .ok (.goto (-32), 3) := dk_167 255 224 (dk_at dksX5_finds_2 21 rfl rfl)
theorem dX5_finds_71 : decode cX5_finds 71 = .ok (.iconst 0, 1) := dk_3 (dk_at dksX5_finds_3 0 rfl rfl)
theorem dX5_finds_72 : decode cX5_finds 72 = .ok (.ireturn, 1) := dk_172 (dk_at dksX5_finds_3 1 rfl rfl)
abbrev cX5_goes : ByteArray := prog_18_method_6_code
def yX5_goes : MethodName := ⟨RX5, "goes", "(II)Z"⟩
def dkwX5_goes_3 : List UInt8 := [132, 3, 1, 167, 255, 206, 3, 172]
abbrev dktX5_goes_3 : List UInt8 := dkwX5_goes_3 ++ []
def dkwX5_goes_2 : List UInt8 := [182, 0, 38, 42, 180, 0, 20, 27, 29, 79, 42, 27, 4, 96, 28, 182, 0, 42, 153, 0, 5, 4, 172]
abbrev dktX5_goes_2 : List UInt8 := dkwX5_goes_2 ++ dktX5_goes_3
def dkwX5_goes_1 : List UInt8 := [42, 182, 0, 34, 162, 0, 48, 42, 29, 42, 180, 0, 17, 27, 50, 42, 180, 0, 17, 27, 4, 96, 50]
abbrev dktX5_goes_1 : List UInt8 := dkwX5_goes_1 ++ dktX5_goes_2
def dkwX5_goes_0 : List UInt8 := [42, 27, 182, 0, 27, 154, 0, 5, 3, 172, 27, 28, 160, 0, 9, 42, 27, 182, 0, 31, 172, 3, 62, 29]
abbrev dktX5_goes_0 : List UInt8 := dkwX5_goes_0 ++ dktX5_goes_1
theorem dksX5_goes_0 : cX5_goes.data.toList.drop 0 = dktX5_goes_0 := by decide +kernel
theorem dksX5_goes_1 : cX5_goes.data.toList.drop 24 = dktX5_goes_1 := dk_seg dksX5_goes_0 24 rfl rfl
theorem dksX5_goes_2 : cX5_goes.data.toList.drop 47 = dktX5_goes_2 := dk_seg dksX5_goes_1 23 rfl rfl
theorem dksX5_goes_3 : cX5_goes.data.toList.drop 70 = dktX5_goes_3 := dk_seg dksX5_goes_2 23 rfl rfl
theorem dX5_goes_0 : decode cX5_goes 0 = .ok (.aload_n 0, 1) := dk_42 (dk_at dksX5_goes_0 0 rfl rfl)
theorem dX5_goes_1 : decode cX5_goes 1 = .ok (.iload_n 1, 1) := dk_27 (dk_at dksX5_goes_0 1 rfl rfl)
theorem dX5_goes_2 : decode cX5_goes 2 = .ok (.invokevirtual 27, 3) := dk_182 0 27 (dk_at dksX5_goes_0 2 rfl rfl)
theorem dX5_goes_5 : decode cX5_goes 5 = .ok (.ifCond .ne 5, 3) := dk_154 0 5 (dk_at dksX5_goes_0 5 rfl rfl)
theorem dX5_goes_8 : decode cX5_goes 8 = .ok (.iconst 0, 1) := dk_3 (dk_at dksX5_goes_0 8 rfl rfl)
theorem dX5_goes_9 : decode cX5_goes 9 = .ok (.ireturn, 1) := dk_172 (dk_at dksX5_goes_0 9 rfl rfl)
theorem dX5_goes_10 : decode cX5_goes 10 = .ok (.iload_n 1, 1) := dk_27 (dk_at dksX5_goes_0 10 rfl rfl)
theorem dX5_goes_11 : decode cX5_goes 11 = .ok (.iload_n 2, 1) := dk_28 (dk_at dksX5_goes_0 11 rfl rfl)
theorem dX5_goes_12 : decode cX5_goes 12 = .ok (.if_icmp .ne 9, 3) := dk_160 0 9 (dk_at dksX5_goes_0 12 rfl rfl)
theorem dX5_goes_15 : decode cX5_goes 15 = .ok (.aload_n 0, 1) := dk_42 (dk_at dksX5_goes_0 15 rfl rfl)
theorem dX5_goes_16 : decode cX5_goes 16 = .ok (.iload_n 1, 1) := dk_27 (dk_at dksX5_goes_0 16 rfl rfl)
theorem dX5_goes_17 : decode cX5_goes 17 = .ok (.invokevirtual 31, 3) := dk_182 0 31 (dk_at dksX5_goes_0 17 rfl rfl)
theorem dX5_goes_20 : decode cX5_goes 20 = .ok (.ireturn, 1) := dk_172 (dk_at dksX5_goes_0 20 rfl rfl)
theorem dX5_goes_21 : decode cX5_goes 21 = .ok (.iconst 0, 1) := dk_3 (dk_at dksX5_goes_0 21 rfl rfl)
theorem dX5_goes_22 : decode cX5_goes 22 = .ok (.istore_n 3, 1) := dk_62 (dk_at dksX5_goes_0 22 rfl rfl)
theorem dX5_goes_23 : decode cX5_goes 23 = .ok (.iload_n 3, 1) := dk_29 (dk_at dksX5_goes_0 23 rfl rfl)
theorem dX5_goes_24 : decode cX5_goes 24 = .ok (.aload_n 0, 1) := dk_42 (dk_at dksX5_goes_1 0 rfl rfl)
theorem dX5_goes_25 : decode cX5_goes 25 = .ok (.invokevirtual 34, 3) := dk_182 0 34 (dk_at dksX5_goes_1 1 rfl rfl)
theorem dX5_goes_28 : decode cX5_goes 28 = .ok (.if_icmp .ge 48, 3) := dk_162 0 48 (dk_at dksX5_goes_1 4 rfl rfl)
theorem dX5_goes_31 : decode cX5_goes 31 = .ok (.aload_n 0, 1) := dk_42 (dk_at dksX5_goes_1 7 rfl rfl)
theorem dX5_goes_32 : decode cX5_goes 32 = .ok (.iload_n 3, 1) := dk_29 (dk_at dksX5_goes_1 8 rfl rfl)
theorem dX5_goes_33 : decode cX5_goes 33 = .ok (.aload_n 0, 1) := dk_42 (dk_at dksX5_goes_1 9 rfl rfl)
theorem dX5_goes_34 : decode cX5_goes 34 = .ok (.getfield 17, 3) := dk_180 0 17 (dk_at dksX5_goes_1 10 rfl rfl)
theorem dX5_goes_37 : decode cX5_goes 37 = .ok (.iload_n 1, 1) := dk_27 (dk_at dksX5_goes_1 13 rfl rfl)
theorem dX5_goes_38 : decode cX5_goes 38 = .ok (.aaload, 1) := dk_50 (dk_at dksX5_goes_1 14 rfl rfl)
theorem dX5_goes_39 : decode cX5_goes 39 = .ok (.aload_n 0, 1) := dk_42 (dk_at dksX5_goes_1 15 rfl rfl)
theorem dX5_goes_40 : decode cX5_goes 40 = .ok (.getfield 17, 3) := dk_180 0 17 (dk_at dksX5_goes_1 16 rfl rfl)
theorem dX5_goes_43 : decode cX5_goes 43 = .ok (.iload_n 1, 1) := dk_27 (dk_at dksX5_goes_1 19 rfl rfl)
theorem dX5_goes_44 : decode cX5_goes 44 = .ok (.iconst 1, 1) := dk_4 (dk_at dksX5_goes_1 20 rfl rfl)
theorem dX5_goes_45 : decode cX5_goes 45 = .ok (.iadd, 1) := dk_96 (dk_at dksX5_goes_1 21 rfl rfl)
theorem dX5_goes_46 : decode cX5_goes 46 = .ok (.aaload, 1) := dk_50 (dk_at dksX5_goes_1 22 rfl rfl)
theorem dX5_goes_47 : decode cX5_goes 47 = .ok (.invokevirtual 38, 3) := dk_182 0 38 (dk_at dksX5_goes_2 0 rfl rfl)
theorem dX5_goes_50 : decode cX5_goes 50 = .ok (.aload_n 0, 1) := dk_42 (dk_at dksX5_goes_2 3 rfl rfl)
theorem dX5_goes_51 : decode cX5_goes 51 = .ok (.getfield 20, 3) := dk_180 0 20 (dk_at dksX5_goes_2 4 rfl rfl)
theorem dX5_goes_54 : decode cX5_goes 54 = .ok (.iload_n 1, 1) := dk_27 (dk_at dksX5_goes_2 7 rfl rfl)
theorem dX5_goes_55 : decode cX5_goes 55 = .ok (.iload_n 3, 1) := dk_29 (dk_at dksX5_goes_2 8 rfl rfl)
theorem dX5_goes_56 : decode cX5_goes 56 = .ok (.iastore, 1) := dk_79 (dk_at dksX5_goes_2 9 rfl rfl)
theorem dX5_goes_57 : decode cX5_goes 57 = .ok (.aload_n 0, 1) := dk_42 (dk_at dksX5_goes_2 10 rfl rfl)
theorem dX5_goes_58 : decode cX5_goes 58 = .ok (.iload_n 1, 1) := dk_27 (dk_at dksX5_goes_2 11 rfl rfl)
theorem dX5_goes_59 : decode cX5_goes 59 = .ok (.iconst 1, 1) := dk_4 (dk_at dksX5_goes_2 12 rfl rfl)
theorem dX5_goes_60 : decode cX5_goes 60 = .ok (.iadd, 1) := dk_96 (dk_at dksX5_goes_2 13 rfl rfl)
theorem dX5_goes_61 : decode cX5_goes 61 = .ok (.iload_n 2, 1) := dk_28 (dk_at dksX5_goes_2 14 rfl rfl)
theorem dX5_goes_62 : decode cX5_goes 62 = .ok (.invokevirtual 42, 3) := dk_182 0 42 (dk_at dksX5_goes_2 15 rfl rfl)
theorem dX5_goes_65 : decode cX5_goes 65 = .ok (.ifCond .eq 5, 3) := dk_153 0 5 (dk_at dksX5_goes_2 18 rfl rfl)
theorem dX5_goes_68 : decode cX5_goes 68 = .ok (.iconst 1, 1) := dk_4 (dk_at dksX5_goes_2 21 rfl rfl)
theorem dX5_goes_69 : decode cX5_goes 69 = .ok (.ireturn, 1) := dk_172 (dk_at dksX5_goes_2 22 rfl rfl)
theorem dX5_goes_70 : decode cX5_goes 70 = .ok (.iinc 3 1, 3) := dk_132 3 1 (dk_at dksX5_goes_3 0 rfl rfl)
theorem dX5_goes_73 : decode cX5_goes 73 = .ok (.goto (-50), 3) := dk_167 255 206 (dk_at dksX5_goes_3 3 rfl rfl)
theorem dX5_goes_76 : decode cX5_goes 76 = .ok (.iconst 0, 1) := dk_3 (dk_at dksX5_goes_3 6 rfl rfl)
theorem dX5_goes_77 : decode cX5_goes 77 = .ok (.ireturn, 1) := dk_172 (dk_at dksX5_goes_3 7 rfl rfl)
theorem q113 : (Jvm.Cond.initialized "TwoSlips$Rows") ∈ lw_all := lw_g (lw_at lw_m1 8 rfl) rfl
theorem q266 : (Jvm.Cond.fieldLinkNest "TwoSlips$Rows" (54 : Nat) "TwoSlips$Course" "all" "[J" "TwoSlips") ∈ lw_tbl := lw_at lw_m1 161 rfl
theorem q334 : (Jvm.Cond.instanceMethod ({ cls := "TwoSlips$Rows", name := "<init>", desc := "(LTwoSlips;)V" } : Jvm.MethodName)) ∈ lw_all := lw_g (lw_at lw_m1 229 rfl) rfl
theorem q335 : (Jvm.Cond.code ({ cls := "TwoSlips$Rows", name := "<init>", desc := "(LTwoSlips;)V" } : Jvm.MethodName) prog_18_method_1_code (2 : Nat) (Option.none : Option Jvm.ClassFile.FieldType)) ∈ lw_all := lw_g (lw_at lw_m1 230 rfl) rfl
theorem q336 : (Jvm.Cond.methodLink "TwoSlips$Rows" (9 : Nat) ({ cls := "java/lang/Object", name := "<init>", desc := "()V" } : Jvm.MethodName)) ∈ lw_all := lw_g (lw_at lw_m1 231 rfl) rfl
theorem q337 : (Jvm.Cond.classLink "TwoSlips$Rows" (15 : Nat) "[[J") ∈ lw_all := lw_g (lw_at lw_m1 232 rfl) rfl
theorem q345 : (Jvm.Cond.fieldLink "TwoSlips$Rows" (17 : Nat) "TwoSlips$Rows" "sets" "[[J") ∈ lw_all := lw_g (lw_at lw_m2 0 rfl) rfl
theorem q351 : (Jvm.Cond.fieldLink "TwoSlips$Rows" (20 : Nat) "TwoSlips$Rows" "row" "[I") ∈ lw_all := lw_g (lw_at lw_m2 6 rfl) rfl
theorem q356 : (Jvm.Cond.fieldLink "TwoSlips$Rows" (24 : Nat) "TwoSlips$Rows" "best" "[I") ∈ lw_all := lw_g (lw_at lw_m2 11 rfl) rfl
theorem q361 : (Jvm.Cond.fieldLink "TwoSlips$Rows" (50 : Nat) "TwoSlips$Rows" "in" "LTwoSlips$Course;") ∈ lw_all := lw_g (lw_at lw_m2 16 rfl) rfl
theorem q363 : (Jvm.Cond.fieldLink "TwoSlips$Rows" (66 : Nat) "TwoSlips$Rows" "many" "I") ∈ lw_all := lw_g (lw_at lw_m2 18 rfl) rfl
theorem q368 : (Jvm.Cond.fieldLink "TwoSlips$Rows" (3 : Nat) "TwoSlips$Rows" "this$0" "LTwoSlips;") ∈ lw_all := lw_g (lw_at lw_m2 23 rfl) rfl
theorem q378 : (Jvm.Cond.soleField "TwoSlips$Rows" "sets") ∈ lw_all := lw_g (lw_at lw_m2 33 rfl) rfl
theorem q380 : (Jvm.Cond.soleField "TwoSlips$Rows" "row") ∈ lw_all := lw_g (lw_at lw_m2 35 rfl) rfl
theorem q382 : (Jvm.Cond.soleField "TwoSlips$Rows" "best") ∈ lw_all := lw_g (lw_at lw_m2 37 rfl) rfl
theorem q384 : (Jvm.Cond.soleField "TwoSlips$Rows" "in") ∈ lw_all := lw_g (lw_at lw_m2 39 rfl) rfl
theorem q386 : (Jvm.Cond.soleField "TwoSlips$Rows" "many") ∈ lw_all := lw_g (lw_at lw_m2 41 rfl) rfl
theorem q388 : (Jvm.Cond.soleField "TwoSlips$Rows" "this$0") ∈ lw_all := lw_g (lw_at lw_m2 43 rfl) rfl
theorem q1579 : (Jvm.Cond.declares ({ cls := "TwoSlips$Rows", name := "finds", desc := "(I)Z" } : Jvm.MethodName)) ∈ lw_tbl := lw_at lw_m7 34 rfl
theorem q1581 : (Jvm.Cond.instanceMethod ({ cls := "TwoSlips$Rows", name := "finds", desc := "(I)Z" } : Jvm.MethodName)) ∈ lw_all := lw_g (lw_at lw_m7 36 rfl) rfl
theorem q1582 : (Jvm.Cond.code ({ cls := "TwoSlips$Rows", name := "finds", desc := "(I)Z" } : Jvm.MethodName) prog_18_method_7_code (2 : Nat) (Option.some Jvm.ClassFile.FieldType.boolean)) ∈ lw_all := lw_g (lw_at lw_m7 37 rfl) rfl
theorem q1583 : (Jvm.Cond.methodLinkNest "TwoSlips$Rows" (46 : Nat) ({ cls := "TwoSlips", name := "laid", desc := "()LTwoSlips$Course;" } : Jvm.MethodName) "TwoSlips") ∈ lw_tbl := lw_at lw_m7 38 rfl
theorem q1584 : (Jvm.Cond.methodLink "TwoSlips$Rows" (60 : Nat) ({ cls := "java/lang/System", name := "arraycopy", desc := "(Ljava/lang/Object;ILjava/lang/Object;II)V" } : Jvm.MethodName)) ∈ lw_all := lw_g (lw_at lw_m7 39 rfl) rfl
theorem q1585 : (Jvm.Cond.methodLink "TwoSlips$Rows" (42 : Nat) ({ cls := "TwoSlips$Rows", name := "goes", desc := "(II)Z" } : Jvm.MethodName)) ∈ lw_all := lw_g (lw_at lw_m7 40 rfl) rfl
theorem q1586 : (Jvm.Cond.privateMethod ({ cls := "TwoSlips$Rows", name := "goes", desc := "(II)Z" } : Jvm.MethodName)) ∈ lw_tbl := lw_at lw_m7 41 rfl
theorem q1587 : (Jvm.Cond.instanceMethod ({ cls := "TwoSlips$Rows", name := "goes", desc := "(II)Z" } : Jvm.MethodName)) ∈ lw_all := lw_g (lw_at lw_m7 42 rfl) rfl
theorem q1588 : (Jvm.Cond.code ({ cls := "TwoSlips$Rows", name := "goes", desc := "(II)Z" } : Jvm.MethodName) prog_18_method_6_code (4 : Nat) (Option.some Jvm.ClassFile.FieldType.boolean)) ∈ lw_all := lw_g (lw_at lw_m7 43 rfl) rfl
theorem q1589 : (Jvm.Cond.methodLink "TwoSlips$Rows" (27 : Nat) ({ cls := "TwoSlips$Rows", name := "isGood", desc := "(I)Z" } : Jvm.MethodName)) ∈ lw_all := lw_g (lw_at lw_m7 44 rfl) rfl
theorem q1590 : (Jvm.Cond.declares ({ cls := "TwoSlips$Rows", name := "isGood", desc := "(I)Z" } : Jvm.MethodName)) ∈ lw_tbl := lw_at lw_m7 45 rfl
theorem q1591 : (Jvm.Cond.sameMethod "TwoSlips$Rows" "TwoSlips$Rows" "isGood" "(I)Z") ∈ lw_all := lw_g (lw_at lw_m7 46 rfl) rfl
theorem q1609 : (Jvm.Cond.methodLink "TwoSlips$Rows" (31 : Nat) ({ cls := "TwoSlips$Rows", name := "isEnd", desc := "(I)Z" } : Jvm.MethodName)) ∈ lw_all := lw_g (lw_at lw_m7 64 rfl) rfl
theorem q1610 : (Jvm.Cond.declares ({ cls := "TwoSlips$Rows", name := "isEnd", desc := "(I)Z" } : Jvm.MethodName)) ∈ lw_tbl := lw_at lw_m7 65 rfl
theorem q1611 : (Jvm.Cond.sameMethod "TwoSlips$Rows" "TwoSlips$Rows" "isEnd" "(I)Z") ∈ lw_all := lw_g (lw_at lw_m7 66 rfl) rfl
theorem q1618 : (Jvm.Cond.methodLink "TwoSlips$Rows" (34 : Nat) ({ cls := "TwoSlips$Rows", name := "choices", desc := "()I" } : Jvm.MethodName)) ∈ lw_all := lw_g (lw_at lw_m7 73 rfl) rfl
theorem q1619 : (Jvm.Cond.declares ({ cls := "TwoSlips$Rows", name := "choices", desc := "()I" } : Jvm.MethodName)) ∈ lw_tbl := lw_at lw_m7 74 rfl
theorem q1620 : (Jvm.Cond.sameMethod "TwoSlips$Rows" "TwoSlips$Rows" "choices" "()I") ∈ lw_all := lw_g (lw_at lw_m7 75 rfl) rfl
theorem q1626 : (Jvm.Cond.methodLink "TwoSlips$Rows" (38 : Nat) ({ cls := "TwoSlips$Rows", name := "answers", desc := "(I[J[J)V" } : Jvm.MethodName)) ∈ lw_all := lw_g (lw_at lw_m7 81 rfl) rfl
theorem q1627 : (Jvm.Cond.declares ({ cls := "TwoSlips$Rows", name := "answers", desc := "(I[J[J)V" } : Jvm.MethodName)) ∈ lw_tbl := lw_at lw_m7 82 rfl
theorem q1628 : (Jvm.Cond.sameMethod "TwoSlips$Rows" "TwoSlips$Rows" "answers" "(I[J[J)V") ∈ lw_all := lw_g (lw_at lw_m7 83 rfl) rfl
theorem q2422 : (Jvm.Cond.sameMethod "TwoSlips$Rows" "TwoSlips$Rows" "goes" "(II)Z") ∈ lw_all := lw_g (lw_at lw_m10 157 rfl) rfl

/-! TwoSlips$Soonest -/
set_option maxRecDepth 100000
def RX6 : String := "TwoSlips$Soonest"
def TX6 : u_T := fun k => match k with
  | 0 => ("TwoSlips$Rows", "sets", "[[J", true)
  | 1 => ("TwoSlips$Rows", "row", "[I", true)
  | 2 => ("TwoSlips$Rows", "best", "[I", true)
  | 3 => ("TwoSlips$Rows", "in", "LTwoSlips$Course;", false)
  | 4 => ("TwoSlips$Rows", "many", "I", false)
  | 5 => ("TwoSlips$Rows", "this$0", "LTwoSlips;", true)
  | 6 => ("TwoSlips$Soonest", "world", "I", false)
  | 7 => ("TwoSlips$Soonest", "wanted", "I", false)
  | 8 => ("TwoSlips$Soonest", "hidden", "I", false)
  | _ => ("TwoSlips$Soonest", "this$0", "LTwoSlips;", true)
def tyX6 : Nat → FieldType := fun k => match k with
  | 0 => .array (.array .long)
  | 1 => .array .int
  | 2 => .array .int
  | 3 => .object "TwoSlips$Course"
  | 4 => .int
  | 5 => .object "TwoSlips"
  | 6 => .int
  | 7 => .int
  | 8 => .int
  | _ => .object "TwoSlips"
abbrev wsX60 : List Cond := u_ws RX6 TX6 10
-- two fields of one name: no nmX6
theorem tyX6_ok : ∀ k, k < 10 → parseFieldDescriptor (TX6 k).2.2.1 = some (tyX6 k) := by decide +kernel
abbrev cX6_init : ByteArray := prog_24_method_1_code
def yX6_init : MethodName := ⟨RX6, "<init>", "(LTwoSlips;)V"⟩
def dkwX6_init_0 : List UInt8 := [42, 43, 181, 0, 1, 42, 43, 183, 0, 7, 177]
abbrev dktX6_init_0 : List UInt8 := dkwX6_init_0 ++ []
theorem dksX6_init_0 : cX6_init.data.toList.drop 0 = dktX6_init_0 := by decide +kernel
theorem dX6_init_0 : decode cX6_init 0 = .ok (.aload_n 0, 1) := dk_42 (dk_at dksX6_init_0 0 rfl rfl)
theorem dX6_init_1 : decode cX6_init 1 = .ok (.aload_n 1, 1) := dk_43 (dk_at dksX6_init_0 1 rfl rfl)
theorem dX6_init_2 : decode cX6_init 2 = .ok (.putfield 1, 3) := dk_181 0 1 (dk_at dksX6_init_0 2 rfl rfl)
theorem dX6_init_5 : decode cX6_init 5 = .ok (.aload_n 0, 1) := dk_42 (dk_at dksX6_init_0 5 rfl rfl)
theorem dX6_init_6 : decode cX6_init 6 = .ok (.aload_n 1, 1) := dk_43 (dk_at dksX6_init_0 6 rfl rfl)
theorem dX6_init_7 : decode cX6_init 7 = .ok (.invokespecial 7, 3) := dk_183 0 7 (dk_at dksX6_init_0 7 rfl rfl)
theorem dX6_init_10 : decode cX6_init 10 = .ok (.return_, 1) := dk_177 (dk_at dksX6_init_0 10 rfl rfl)
abbrev cX6_isGood : ByteArray := prog_24_method_4_code
def yX6_isGood : MethodName := ⟨RX6, "isGood", "(I)Z"⟩
def dkwX6_isGood_0 : List UInt8 := [42, 42, 180, 0, 42, 27, 3, 182, 0, 38, 154, 0, 7, 4, 167, 0, 4, 3, 172]
abbrev dktX6_isGood_0 : List UInt8 := dkwX6_isGood_0 ++ []
theorem dksX6_isGood_0 : cX6_isGood.data.toList.drop 0 = dktX6_isGood_0 := by decide +kernel
theorem dX6_isGood_0 : decode cX6_isGood 0 = .ok (.aload_n 0, 1) := dk_42 (dk_at dksX6_isGood_0 0 rfl rfl)
theorem dX6_isGood_1 : decode cX6_isGood 1 = .ok (.aload_n 0, 1) := dk_42 (dk_at dksX6_isGood_0 1 rfl rfl)
theorem dX6_isGood_2 : decode cX6_isGood 2 = .ok (.getfield 42, 3) := dk_180 0 42 (dk_at dksX6_isGood_0 2 rfl rfl)
theorem dX6_isGood_5 : decode cX6_isGood 5 = .ok (.iload_n 1, 1) := dk_27 (dk_at dksX6_isGood_0 5 rfl rfl)
theorem dX6_isGood_6 : decode cX6_isGood 6 = .ok (.iconst 0, 1) := dk_3 (dk_at dksX6_isGood_0 6 rfl rfl)
theorem dX6_isGood_7 : decode cX6_isGood 7 = .ok (.invokevirtual 38, 3) := dk_182 0 38 (dk_at dksX6_isGood_0 7 rfl rfl)
theorem dX6_isGood_10 : decode cX6_isGood 10 = .ok (.ifCond .ne 7, 3) := dk_154 0 7 (dk_at dksX6_isGood_0 10 rfl rfl)
theorem dX6_isGood_13 : decode cX6_isGood 13 = .ok (.iconst 1, 1) := dk_4 (dk_at dksX6_isGood_0 13 rfl rfl)
theorem dX6_isGood_14 : decode cX6_isGood 14 = .ok (.goto 4, 3) := dk_167 0 4 (dk_at dksX6_isGood_0 14 rfl rfl)
theorem dX6_isGood_17 : decode cX6_isGood 17 = .ok (.iconst 0, 1) := dk_3 (dk_at dksX6_isGood_0 17 rfl rfl)
theorem dX6_isGood_18 : decode cX6_isGood 18 = .ok (.ireturn, 1) := dk_172 (dk_at dksX6_isGood_0 18 rfl rfl)
abbrev cX6_knowsAny : ByteArray := prog_24_method_2_code
def yX6_knowsAny : MethodName := ⟨RX6, "knowsAny", "(IIZ)Z"⟩
def dkwX6_knowsAny_2 : List UInt8 := [154, 0, 7, 4, 167, 0, 4, 3, 172, 132, 4, 1, 167, 255, 199, 29, 172]
abbrev dktX6_knowsAny_2 : List UInt8 := dkwX6_knowsAny_2 ++ []
def dkwX6_knowsAny_1 : List UInt8 := [42, 180, 0, 17, 21, 4, 42, 180, 0, 21, 42, 180, 0, 25, 28, 50, 182, 0, 29, 29, 159, 0, 13, 29]
abbrev dktX6_knowsAny_1 : List UInt8 := dkwX6_knowsAny_1 ++ dktX6_knowsAny_2
def dkwX6_knowsAny_0 : List UInt8 := [3, 54, 4, 21, 4, 42, 182, 0, 13, 162, 0, 54, 27, 21, 4, 122, 4, 126, 154, 0, 6, 167, 0, 36]
abbrev dktX6_knowsAny_0 : List UInt8 := dkwX6_knowsAny_0 ++ dktX6_knowsAny_1
theorem dksX6_knowsAny_0 : cX6_knowsAny.data.toList.drop 0 = dktX6_knowsAny_0 := by decide +kernel
theorem dksX6_knowsAny_1 : cX6_knowsAny.data.toList.drop 24 = dktX6_knowsAny_1 := dk_seg dksX6_knowsAny_0 24 rfl rfl
theorem dksX6_knowsAny_2 : cX6_knowsAny.data.toList.drop 48 = dktX6_knowsAny_2 := dk_seg dksX6_knowsAny_1 24 rfl rfl
theorem dX6_knowsAny_0 : decode cX6_knowsAny 0 = .ok (.iconst 0, 1) := dk_3 (dk_at dksX6_knowsAny_0 0 rfl rfl)
theorem dX6_knowsAny_1 : decode cX6_knowsAny 1 = .ok (.istore 4, 2) := dk_54 4 (dk_at dksX6_knowsAny_0 1 rfl rfl)
theorem dX6_knowsAny_3 : decode cX6_knowsAny 3 = .ok (.iload 4, 2) := dk_21 4 (dk_at dksX6_knowsAny_0 3 rfl rfl)
theorem dX6_knowsAny_5 : decode cX6_knowsAny 5 = .ok (.aload_n 0, 1) := dk_42 (dk_at dksX6_knowsAny_0 5 rfl rfl)
theorem dX6_knowsAny_6 : decode cX6_knowsAny 6 = .ok (.invokevirtual 13, 3) := dk_182 0 13 (dk_at dksX6_knowsAny_0 6 rfl rfl)
theorem dX6_knowsAny_9 : decode cX6_knowsAny 9 = .ok (.if_icmp .ge 54, 3) := dk_162 0 54 (dk_at dksX6_knowsAny_0 9 rfl rfl)
theorem dX6_knowsAny_12 : decode cX6_knowsAny 12 = .ok (.iload_n 1, 1) := dk_27 (dk_at dksX6_knowsAny_0 12 rfl rfl)
theorem dX6_knowsAny_13 : decode cX6_knowsAny 13 = .ok (.iload 4, 2) := dk_21 4 (dk_at dksX6_knowsAny_0 13 rfl rfl)
theorem dX6_knowsAny_15 : decode cX6_knowsAny 15 = .ok (.ishr, 1) := dk_122 (dk_at dksX6_knowsAny_0 15 rfl rfl)
theorem dX6_knowsAny_16 : decode cX6_knowsAny 16 = .ok (.iconst 1, 1) := dk_4 (dk_at dksX6_knowsAny_0 16 rfl rfl)
theorem dX6_knowsAny_17 : decode cX6_knowsAny 17 = .ok (.iand, 1) := dk_126 (dk_at dksX6_knowsAny_0 17 rfl rfl)
theorem dX6_knowsAny_18 : decode cX6_knowsAny 18 = .ok (.ifCond .ne 6, 3) := dk_154 0 6 (dk_at dksX6_knowsAny_0 18 rfl rfl)
theorem dX6_knowsAny_21 : decode cX6_knowsAny 21 = .ok (.goto 36, 3) := dk_167 0 36 (dk_at dksX6_knowsAny_0 21 rfl rfl)
theorem dX6_knowsAny_24 : decode cX6_knowsAny 24 = .ok (.aload_n 0, 1) := dk_42 (dk_at dksX6_knowsAny_1 0 rfl rfl)
theorem dX6_knowsAny_25 : decode cX6_knowsAny 25 = .ok (.getfield 17, 3) := dk_180 0 17 (dk_at dksX6_knowsAny_1 1 rfl rfl)
theorem dX6_knowsAny_28 : decode cX6_knowsAny 28 = .ok (.iload 4, 2) := dk_21 4 (dk_at dksX6_knowsAny_1 4 rfl rfl)
theorem dX6_knowsAny_30 : decode cX6_knowsAny 30 = .ok (.aload_n 0, 1) := dk_42 (dk_at dksX6_knowsAny_1 6 rfl rfl)
theorem dX6_knowsAny_31 : decode cX6_knowsAny 31 = .ok (.getfield 21, 3) := dk_180 0 21 (dk_at dksX6_knowsAny_1 7 rfl rfl)
theorem dX6_knowsAny_34 : decode cX6_knowsAny 34 = .ok (.aload_n 0, 1) := dk_42 (dk_at dksX6_knowsAny_1 10 rfl rfl)
theorem dX6_knowsAny_35 : decode cX6_knowsAny 35 = .ok (.getfield 25, 3) := dk_180 0 25 (dk_at dksX6_knowsAny_1 11 rfl rfl)
theorem dX6_knowsAny_38 : decode cX6_knowsAny 38 = .ok (.iload_n 2, 1) := dk_28 (dk_at dksX6_knowsAny_1 14 rfl rfl)
theorem dX6_knowsAny_39 : decode cX6_knowsAny 39 = .ok (.aaload, 1) := dk_50 (dk_at dksX6_knowsAny_1 15 rfl rfl)
theorem dX6_knowsAny_40 : decode cX6_knowsAny 40 = .ok (.invokevirtual 29, 3) := dk_182 0 29 (dk_at dksX6_knowsAny_1 16 rfl rfl)
theorem dX6_knowsAny_43 : decode cX6_knowsAny 43 = .ok (.iload_n 3, 1) := dk_29 (dk_at dksX6_knowsAny_1 19 rfl rfl)
theorem dX6_knowsAny_44 : decode cX6_knowsAny 44 = .ok (.if_icmp .eq 13, 3) := dk_159 0 13 (dk_at dksX6_knowsAny_1 20 rfl rfl)
theorem dX6_knowsAny_47 : decode cX6_knowsAny 47 = .ok (.iload_n 3, 1) := dk_29 (dk_at dksX6_knowsAny_1 23 rfl rfl)
theorem dX6_knowsAny_48 : decode cX6_knowsAny 48 = .ok (.ifCond .ne 7, 3) := dk_154 0 7 (dk_at dksX6_knowsAny_2 0 rfl rfl)
theorem dX6_knowsAny_51 : decode cX6_knowsAny 51 = .ok (.iconst 1, 1) := dk_4 (dk_at dksX6_knowsAny_2 3 rfl rfl)
theorem dX6_knowsAny_52 : decode cX6_knowsAny 52 = .ok (.goto 4, 3) := dk_167 0 4 (dk_at dksX6_knowsAny_2 4 rfl rfl)
theorem dX6_knowsAny_55 : decode cX6_knowsAny 55 = .ok (.iconst 0, 1) := dk_3 (dk_at dksX6_knowsAny_2 7 rfl rfl)
theorem dX6_knowsAny_56 : decode cX6_knowsAny 56 = .ok (.ireturn, 1) := dk_172 (dk_at dksX6_knowsAny_2 8 rfl rfl)
theorem dX6_knowsAny_57 : decode cX6_knowsAny 57 = .ok (.iinc 4 1, 3) := dk_132 4 1 (dk_at dksX6_knowsAny_2 9 rfl rfl)
theorem dX6_knowsAny_60 : decode cX6_knowsAny 60 = .ok (.goto (-57), 3) := dk_167 255 199 (dk_at dksX6_knowsAny_2 12 rfl rfl)
theorem dX6_knowsAny_63 : decode cX6_knowsAny 63 = .ok (.iload_n 3, 1) := dk_29 (dk_at dksX6_knowsAny_2 15 rfl rfl)
theorem dX6_knowsAny_64 : decode cX6_knowsAny 64 = .ok (.ireturn, 1) := dk_172 (dk_at dksX6_knowsAny_2 16 rfl rfl)
abbrev cX6_choices : ByteArray := prog_24_method_5_code
def yX6_choices : MethodName := ⟨RX6, "choices", "()I"⟩
def dkwX6_choices_0 : List UInt8 := [42, 180, 0, 1, 180, 0, 45, 180, 0, 51, 182, 0, 57, 172]
abbrev dktX6_choices_0 : List UInt8 := dkwX6_choices_0 ++ []
theorem dksX6_choices_0 : cX6_choices.data.toList.drop 0 = dktX6_choices_0 := by decide +kernel
theorem dX6_choices_0 : decode cX6_choices 0 = .ok (.aload_n 0, 1) := dk_42 (dk_at dksX6_choices_0 0 rfl rfl)
theorem dX6_choices_1 : decode cX6_choices 1 = .ok (.getfield 1, 3) := dk_180 0 1 (dk_at dksX6_choices_0 1 rfl rfl)
theorem dX6_choices_4 : decode cX6_choices 4 = .ok (.getfield 45, 3) := dk_180 0 45 (dk_at dksX6_choices_0 4 rfl rfl)
theorem dX6_choices_7 : decode cX6_choices 7 = .ok (.getfield 51, 3) := dk_180 0 51 (dk_at dksX6_choices_0 7 rfl rfl)
theorem dX6_choices_10 : decode cX6_choices 10 = .ok (.invokevirtual 57, 3) := dk_182 0 57 (dk_at dksX6_choices_0 10 rfl rfl)
theorem dX6_choices_13 : decode cX6_choices 13 = .ok (.ireturn, 1) := dk_172 (dk_at dksX6_choices_0 13 rfl rfl)
abbrev cX6_isEnd : ByteArray := prog_24_method_3_code
def yX6_isEnd : MethodName := ⟨RX6, "isEnd", "(I)Z"⟩
def dkwX6_isEnd_0 : List UInt8 := [42, 42, 180, 0, 35, 27, 4, 182, 0, 38, 172]
abbrev dktX6_isEnd_0 : List UInt8 := dkwX6_isEnd_0 ++ []
theorem dksX6_isEnd_0 : cX6_isEnd.data.toList.drop 0 = dktX6_isEnd_0 := by decide +kernel
theorem dX6_isEnd_0 : decode cX6_isEnd 0 = .ok (.aload_n 0, 1) := dk_42 (dk_at dksX6_isEnd_0 0 rfl rfl)
theorem dX6_isEnd_1 : decode cX6_isEnd 1 = .ok (.aload_n 0, 1) := dk_42 (dk_at dksX6_isEnd_0 1 rfl rfl)
theorem dX6_isEnd_2 : decode cX6_isEnd 2 = .ok (.getfield 35, 3) := dk_180 0 35 (dk_at dksX6_isEnd_0 2 rfl rfl)
theorem dX6_isEnd_5 : decode cX6_isEnd 5 = .ok (.iload_n 1, 1) := dk_27 (dk_at dksX6_isEnd_0 5 rfl rfl)
theorem dX6_isEnd_6 : decode cX6_isEnd 6 = .ok (.iconst 1, 1) := dk_4 (dk_at dksX6_isEnd_0 6 rfl rfl)
theorem dX6_isEnd_7 : decode cX6_isEnd 7 = .ok (.invokevirtual 38, 3) := dk_182 0 38 (dk_at dksX6_isEnd_0 7 rfl rfl)
theorem dX6_isEnd_10 : decode cX6_isEnd 10 = .ok (.ireturn, 1) := dk_172 (dk_at dksX6_isEnd_0 10 rfl rfl)
abbrev cX6_answers : ByteArray := prog_24_method_6_code
def yX6_answers : MethodName := ⟨RX6, "answers", "(I[J[J)V"⟩
def dkwX6_answers_0 : List UInt8 := [42, 180, 0, 17, 27, 42, 180, 0, 17, 27, 42, 180, 0, 21, 44, 182, 0, 29, 44, 45, 182, 0, 62, 177]
abbrev dktX6_answers_0 : List UInt8 := dkwX6_answers_0 ++ []
theorem dksX6_answers_0 : cX6_answers.data.toList.drop 0 = dktX6_answers_0 := by decide +kernel
theorem dX6_answers_0 : decode cX6_answers 0 = .ok (.aload_n 0, 1) := dk_42 (dk_at dksX6_answers_0 0 rfl rfl)
theorem dX6_answers_1 : decode cX6_answers 1 = .ok (.getfield 17, 3) := dk_180 0 17 (dk_at dksX6_answers_0 1 rfl rfl)
theorem dX6_answers_4 : decode cX6_answers 4 = .ok (.iload_n 1, 1) := dk_27 (dk_at dksX6_answers_0 4 rfl rfl)
theorem dX6_answers_5 : decode cX6_answers 5 = .ok (.aload_n 0, 1) := dk_42 (dk_at dksX6_answers_0 5 rfl rfl)
theorem dX6_answers_6 : decode cX6_answers 6 = .ok (.getfield 17, 3) := dk_180 0 17 (dk_at dksX6_answers_0 6 rfl rfl)
theorem dX6_answers_9 : decode cX6_answers 9 = .ok (.iload_n 1, 1) := dk_27 (dk_at dksX6_answers_0 9 rfl rfl)
theorem dX6_answers_10 : decode cX6_answers 10 = .ok (.aload_n 0, 1) := dk_42 (dk_at dksX6_answers_0 10 rfl rfl)
theorem dX6_answers_11 : decode cX6_answers 11 = .ok (.getfield 21, 3) := dk_180 0 21 (dk_at dksX6_answers_0 11 rfl rfl)
theorem dX6_answers_14 : decode cX6_answers 14 = .ok (.aload_n 2, 1) := dk_44 (dk_at dksX6_answers_0 14 rfl rfl)
theorem dX6_answers_15 : decode cX6_answers 15 = .ok (.invokevirtual 29, 3) := dk_182 0 29 (dk_at dksX6_answers_0 15 rfl rfl)
theorem dX6_answers_18 : decode cX6_answers 18 = .ok (.aload_n 2, 1) := dk_44 (dk_at dksX6_answers_0 18 rfl rfl)
theorem dX6_answers_19 : decode cX6_answers 19 = .ok (.aload_n 3, 1) := dk_45 (dk_at dksX6_answers_0 19 rfl rfl)
theorem dX6_answers_20 : decode cX6_answers 20 = .ok (.invokevirtual 62, 3) := dk_182 0 62 (dk_at dksX6_answers_0 20 rfl rfl)
theorem dX6_answers_23 : decode cX6_answers 23 = .ok (.return_, 1) := dk_177 (dk_at dksX6_answers_0 23 rfl rfl)
theorem q114 : (Jvm.Cond.initialized "TwoSlips$Soonest") ∈ lw_all := lw_g (lw_at lw_m1 9 rfl) rfl
theorem q205 : (Jvm.Cond.fieldLinkNest "TwoSlips$Soonest" (51 : Nat) "TwoSlips$Talk" "speakers" "Ljava/util/ArrayList;" "TwoSlips") ∈ lw_tbl := lw_at lw_m1 100 rfl
theorem q329 : (Jvm.Cond.instantiable "TwoSlips$Soonest" (10 : Nat)) ∈ lw_all := lw_g (lw_at lw_m1 224 rfl) rfl
theorem q331 : (Jvm.Cond.instanceMethod ({ cls := "TwoSlips$Soonest", name := "<init>", desc := "(LTwoSlips;)V" } : Jvm.MethodName)) ∈ lw_all := lw_g (lw_at lw_m1 226 rfl) rfl
theorem q332 : (Jvm.Cond.code ({ cls := "TwoSlips$Soonest", name := "<init>", desc := "(LTwoSlips;)V" } : Jvm.MethodName) prog_24_method_1_code (2 : Nat) (Option.none : Option Jvm.ClassFile.FieldType)) ∈ lw_all := lw_g (lw_at lw_m1 227 rfl) rfl
theorem q333 : (Jvm.Cond.methodLinkNest "TwoSlips$Soonest" (7 : Nat) ({ cls := "TwoSlips$Rows", name := "<init>", desc := "(LTwoSlips;)V" } : Jvm.MethodName) "TwoSlips") ∈ lw_tbl := lw_at lw_m1 228 rfl
theorem q338 : (Jvm.Cond.fieldLink "TwoSlips$Soonest" (21 : Nat) "TwoSlips$Soonest" "world" "I") ∈ lw_all := lw_g (lw_at lw_m1 233 rfl) rfl
theorem q340 : (Jvm.Cond.fieldLink "TwoSlips$Soonest" (35 : Nat) "TwoSlips$Soonest" "wanted" "I") ∈ lw_all := lw_g (lw_at lw_m1 235 rfl) rfl
theorem q342 : (Jvm.Cond.fieldLink "TwoSlips$Soonest" (42 : Nat) "TwoSlips$Soonest" "hidden" "I") ∈ lw_all := lw_g (lw_at lw_m1 237 rfl) rfl
theorem q344 : (Jvm.Cond.fieldLink "TwoSlips$Soonest" (1 : Nat) "TwoSlips$Soonest" "this$0" "LTwoSlips;") ∈ lw_all := lw_g (lw_at lw_m1 239 rfl) rfl
theorem q348 : (Jvm.Cond.fieldLink "TwoSlips$Soonest" (25 : Nat) "TwoSlips$Soonest" "sets" "[[J") ∈ lw_all := lw_g (lw_at lw_m2 3 rfl) rfl
theorem q349 : (Jvm.Cond.sameField "TwoSlips$Soonest" "TwoSlips$Rows" "sets" "[[J") ∈ lw_all := lw_g (lw_at lw_m2 4 rfl) rfl
theorem q353 : (Jvm.Cond.sameField "TwoSlips$Soonest" "TwoSlips$Rows" "row" "[I") ∈ lw_all := lw_g (lw_at lw_m2 8 rfl) rfl
theorem q357 : (Jvm.Cond.fieldLink "TwoSlips$Soonest" (17 : Nat) "TwoSlips$Soonest" "in" "LTwoSlips$Course;") ∈ lw_all := lw_g (lw_at lw_m2 12 rfl) rfl
theorem q358 : (Jvm.Cond.sameField "TwoSlips$Soonest" "TwoSlips$Rows" "in" "LTwoSlips$Course;") ∈ lw_all := lw_g (lw_at lw_m2 13 rfl) rfl
theorem q365 : (Jvm.Cond.sameField "TwoSlips$Soonest" "TwoSlips$Rows" "many" "I") ∈ lw_all := lw_g (lw_at lw_m2 20 rfl) rfl
theorem q369 : (Jvm.Cond.lays "TwoSlips$Soonest" "TwoSlips$Soonest" "world" "I") ∈ lw_all := lw_g (lw_at lw_m2 24 rfl) rfl
theorem q370 : (Jvm.Cond.soleField "TwoSlips$Soonest" "world") ∈ lw_all := lw_g (lw_at lw_m2 25 rfl) rfl
theorem q371 : (Jvm.Cond.lays "TwoSlips$Soonest" "TwoSlips$Soonest" "wanted" "I") ∈ lw_all := lw_g (lw_at lw_m2 26 rfl) rfl
theorem q372 : (Jvm.Cond.soleField "TwoSlips$Soonest" "wanted") ∈ lw_all := lw_g (lw_at lw_m2 27 rfl) rfl
theorem q373 : (Jvm.Cond.lays "TwoSlips$Soonest" "TwoSlips$Soonest" "hidden" "I") ∈ lw_all := lw_g (lw_at lw_m2 28 rfl) rfl
theorem q374 : (Jvm.Cond.soleField "TwoSlips$Soonest" "hidden") ∈ lw_all := lw_g (lw_at lw_m2 29 rfl) rfl
theorem q375 : (Jvm.Cond.laysFinal "TwoSlips$Soonest" "TwoSlips$Soonest" "this$0" "LTwoSlips;") ∈ lw_all := lw_g (lw_at lw_m2 30 rfl) rfl
theorem q376 : (Jvm.Cond.soleField "TwoSlips$Soonest" "this$0") ∈ lw_all := lw_g (lw_at lw_m2 31 rfl) rfl
theorem q377 : (Jvm.Cond.laysFinal "TwoSlips$Soonest" "TwoSlips$Rows" "sets" "[[J") ∈ lw_all := lw_g (lw_at lw_m2 32 rfl) rfl
theorem q379 : (Jvm.Cond.laysFinal "TwoSlips$Soonest" "TwoSlips$Rows" "row" "[I") ∈ lw_all := lw_g (lw_at lw_m2 34 rfl) rfl
theorem q381 : (Jvm.Cond.laysFinal "TwoSlips$Soonest" "TwoSlips$Rows" "best" "[I") ∈ lw_all := lw_g (lw_at lw_m2 36 rfl) rfl
theorem q383 : (Jvm.Cond.lays "TwoSlips$Soonest" "TwoSlips$Rows" "in" "LTwoSlips$Course;") ∈ lw_all := lw_g (lw_at lw_m2 38 rfl) rfl
theorem q385 : (Jvm.Cond.lays "TwoSlips$Soonest" "TwoSlips$Rows" "many" "I") ∈ lw_all := lw_g (lw_at lw_m2 40 rfl) rfl
theorem q387 : (Jvm.Cond.laysFinal "TwoSlips$Soonest" "TwoSlips$Rows" "this$0" "LTwoSlips;") ∈ lw_all := lw_g (lw_at lw_m2 42 rfl) rfl
theorem q389 : (Jvm.Cond.superclass "TwoSlips$Soonest" "TwoSlips$Rows") ∈ lw_all := lw_g (lw_at lw_m2 44 rfl) rfl
theorem q443 : (Jvm.Cond.fieldLinkNest "TwoSlips$Soonest" (45 : Nat) "TwoSlips" "talk" "LTwoSlips$Talk;" "TwoSlips") ∈ lw_tbl := lw_at lw_m2 98 rfl
theorem q1175 : (Jvm.Cond.selects "TwoSlips$Soonest" ({ cls := "java/lang/Object", name := "getClass", desc := "()Ljava/lang/Class;" } : Jvm.MethodName) ({ cls := "java/lang/Object", name := "getClass", desc := "()Ljava/lang/Class;" } : Jvm.MethodName)) ∈ lw_all := lw_g (lw_at lw_m5 110 rfl) rfl
theorem q1578 : (Jvm.Cond.sameMethod "TwoSlips$Soonest" "TwoSlips$Rows" "finds" "(I)Z") ∈ lw_all := lw_g (lw_at lw_m7 33 rfl) rfl
theorem q1580 : (Jvm.Cond.selects "TwoSlips$Soonest" ({ cls := "TwoSlips$Soonest", name := "finds", desc := "(I)Z" } : Jvm.MethodName) ({ cls := "TwoSlips$Rows", name := "finds", desc := "(I)Z" } : Jvm.MethodName)) ∈ lw_all := lw_g (lw_at lw_m7 35 rfl) rfl
theorem q1596 : (Jvm.Cond.selects "TwoSlips$Soonest" ({ cls := "TwoSlips$Rows", name := "isGood", desc := "(I)Z" } : Jvm.MethodName) ({ cls := "TwoSlips$Soonest", name := "isGood", desc := "(I)Z" } : Jvm.MethodName)) ∈ lw_all := lw_g (lw_at lw_m7 51 rfl) rfl
theorem q1597 : (Jvm.Cond.instanceMethod ({ cls := "TwoSlips$Soonest", name := "isGood", desc := "(I)Z" } : Jvm.MethodName)) ∈ lw_all := lw_g (lw_at lw_m7 52 rfl) rfl
theorem q1598 : (Jvm.Cond.code ({ cls := "TwoSlips$Soonest", name := "isGood", desc := "(I)Z" } : Jvm.MethodName) prog_24_method_4_code (2 : Nat) (Option.some Jvm.ClassFile.FieldType.boolean)) ∈ lw_all := lw_g (lw_at lw_m7 53 rfl) rfl
theorem q1599 : (Jvm.Cond.methodLink "TwoSlips$Soonest" (38 : Nat) ({ cls := "TwoSlips$Soonest", name := "knowsAny", desc := "(IIZ)Z" } : Jvm.MethodName)) ∈ lw_all := lw_g (lw_at lw_m7 54 rfl) rfl
theorem q1600 : (Jvm.Cond.privateMethod ({ cls := "TwoSlips$Soonest", name := "knowsAny", desc := "(IIZ)Z" } : Jvm.MethodName)) ∈ lw_tbl := lw_at lw_m7 55 rfl
theorem q1601 : (Jvm.Cond.instanceMethod ({ cls := "TwoSlips$Soonest", name := "knowsAny", desc := "(IIZ)Z" } : Jvm.MethodName)) ∈ lw_all := lw_g (lw_at lw_m7 56 rfl) rfl
theorem q1602 : (Jvm.Cond.code ({ cls := "TwoSlips$Soonest", name := "knowsAny", desc := "(IIZ)Z" } : Jvm.MethodName) prog_24_method_2_code (5 : Nat) (Option.some Jvm.ClassFile.FieldType.boolean)) ∈ lw_all := lw_g (lw_at lw_m7 57 rfl) rfl
theorem q1603 : (Jvm.Cond.methodLink "TwoSlips$Soonest" (13 : Nat) ({ cls := "TwoSlips$Soonest", name := "choices", desc := "()I" } : Jvm.MethodName)) ∈ lw_all := lw_g (lw_at lw_m7 58 rfl) rfl
theorem q1604 : (Jvm.Cond.instanceMethod ({ cls := "TwoSlips$Soonest", name := "choices", desc := "()I" } : Jvm.MethodName)) ∈ lw_all := lw_g (lw_at lw_m7 59 rfl) rfl
theorem q1605 : (Jvm.Cond.selects "TwoSlips$Soonest" ({ cls := "TwoSlips$Soonest", name := "choices", desc := "()I" } : Jvm.MethodName) ({ cls := "TwoSlips$Soonest", name := "choices", desc := "()I" } : Jvm.MethodName)) ∈ lw_all := lw_g (lw_at lw_m7 60 rfl) rfl
theorem q1606 : (Jvm.Cond.code ({ cls := "TwoSlips$Soonest", name := "choices", desc := "()I" } : Jvm.MethodName) prog_24_method_5_code (1 : Nat) (Option.some Jvm.ClassFile.FieldType.int)) ∈ lw_all := lw_g (lw_at lw_m7 61 rfl) rfl
theorem q1607 : (Jvm.Cond.methodLink "TwoSlips$Soonest" (57 : Nat) ({ cls := "java/util/ArrayList", name := "size", desc := "()I" } : Jvm.MethodName)) ∈ lw_all := lw_g (lw_at lw_m7 62 rfl) rfl
theorem q1608 : (Jvm.Cond.methodLink "TwoSlips$Soonest" (29 : Nat) ({ cls := "TwoSlips$Course", name := "knowsIn", desc := "(II[J)Z" } : Jvm.MethodName)) ∈ lw_all := lw_g (lw_at lw_m7 63 rfl) rfl
theorem q1615 : (Jvm.Cond.selects "TwoSlips$Soonest" ({ cls := "TwoSlips$Rows", name := "isEnd", desc := "(I)Z" } : Jvm.MethodName) ({ cls := "TwoSlips$Soonest", name := "isEnd", desc := "(I)Z" } : Jvm.MethodName)) ∈ lw_all := lw_g (lw_at lw_m7 70 rfl) rfl
theorem q1616 : (Jvm.Cond.instanceMethod ({ cls := "TwoSlips$Soonest", name := "isEnd", desc := "(I)Z" } : Jvm.MethodName)) ∈ lw_all := lw_g (lw_at lw_m7 71 rfl) rfl
theorem q1617 : (Jvm.Cond.code ({ cls := "TwoSlips$Soonest", name := "isEnd", desc := "(I)Z" } : Jvm.MethodName) prog_24_method_3_code (2 : Nat) (Option.some Jvm.ClassFile.FieldType.boolean)) ∈ lw_all := lw_g (lw_at lw_m7 72 rfl) rfl
theorem q1625 : (Jvm.Cond.selects "TwoSlips$Soonest" ({ cls := "TwoSlips$Rows", name := "choices", desc := "()I" } : Jvm.MethodName) ({ cls := "TwoSlips$Soonest", name := "choices", desc := "()I" } : Jvm.MethodName)) ∈ lw_all := lw_g (lw_at lw_m7 80 rfl) rfl
theorem q1633 : (Jvm.Cond.selects "TwoSlips$Soonest" ({ cls := "TwoSlips$Rows", name := "answers", desc := "(I[J[J)V" } : Jvm.MethodName) ({ cls := "TwoSlips$Soonest", name := "answers", desc := "(I[J[J)V" } : Jvm.MethodName)) ∈ lw_all := lw_g (lw_at lw_m7 88 rfl) rfl
theorem q1634 : (Jvm.Cond.instanceMethod ({ cls := "TwoSlips$Soonest", name := "answers", desc := "(I[J[J)V" } : Jvm.MethodName)) ∈ lw_all := lw_g (lw_at lw_m7 89 rfl) rfl
theorem q1635 : (Jvm.Cond.code ({ cls := "TwoSlips$Soonest", name := "answers", desc := "(I[J[J)V" } : Jvm.MethodName) prog_24_method_6_code (4 : Nat) (Option.none : Option Jvm.ClassFile.FieldType)) ∈ lw_all := lw_g (lw_at lw_m7 90 rfl) rfl
theorem q1636 : (Jvm.Cond.methodLink "TwoSlips$Soonest" (62 : Nat) ({ cls := "TwoSlips$Course", name := "answers", desc := "(IZ[J[J)V" } : Jvm.MethodName)) ∈ lw_all := lw_g (lw_at lw_m7 91 rfl) rfl
theorem q2431 : (Jvm.Cond.castable "TwoSlips$Soonest" "java/lang/Object") ∈ lw_tbl := lw_at lw_m10 166 rfl
theorem in_X6 : ∀ w ∈ wsX60, w ∈ lw_all := lw_in wsX60 [377, 379, 381, 383, 385, 387, 369, 371, 373, 375] (by decide +kernel) (by decide +kernel)

/-! TwoSlips$Shortest -/
set_option maxRecDepth 100000
def RX7 : String := "TwoSlips$Shortest"
def TX7 : u_T := fun k => match k with
  | 0 => ("TwoSlips$Rows", "sets", "[[J", true)
  | 1 => ("TwoSlips$Rows", "row", "[I", true)
  | 2 => ("TwoSlips$Rows", "best", "[I", true)
  | 3 => ("TwoSlips$Rows", "in", "LTwoSlips$Course;", false)
  | 4 => ("TwoSlips$Rows", "many", "I", false)
  | 5 => ("TwoSlips$Rows", "this$0", "LTwoSlips;", true)
  | _ => ("TwoSlips$Shortest", "this$0", "LTwoSlips;", true)
def tyX7 : Nat → FieldType := fun k => match k with
  | 0 => .array (.array .long)
  | 1 => .array .int
  | 2 => .array .int
  | 3 => .object "TwoSlips$Course"
  | 4 => .int
  | 5 => .object "TwoSlips"
  | _ => .object "TwoSlips"
abbrev wsX70 : List Cond := u_ws RX7 TX7 7
-- two fields of one name: no nmX7
theorem tyX7_ok : ∀ k, k < 7 → parseFieldDescriptor (TX7 k).2.2.1 = some (tyX7 k) := by decide +kernel
abbrev cX7_init : ByteArray := prog_22_method_1_code
def yX7_init : MethodName := ⟨RX7, "<init>", "(LTwoSlips;)V"⟩
def dkwX7_init_0 : List UInt8 := [42, 43, 181, 0, 1, 42, 43, 183, 0, 7, 177]
abbrev dktX7_init_0 : List UInt8 := dkwX7_init_0 ++ []
theorem dksX7_init_0 : cX7_init.data.toList.drop 0 = dktX7_init_0 := by decide +kernel
theorem dX7_init_0 : decode cX7_init 0 = .ok (.aload_n 0, 1) := dk_42 (dk_at dksX7_init_0 0 rfl rfl)
theorem dX7_init_1 : decode cX7_init 1 = .ok (.aload_n 1, 1) := dk_43 (dk_at dksX7_init_0 1 rfl rfl)
theorem dX7_init_2 : decode cX7_init 2 = .ok (.putfield 1, 3) := dk_181 0 1 (dk_at dksX7_init_0 2 rfl rfl)
theorem dX7_init_5 : decode cX7_init 5 = .ok (.aload_n 0, 1) := dk_42 (dk_at dksX7_init_0 5 rfl rfl)
theorem dX7_init_6 : decode cX7_init 6 = .ok (.aload_n 1, 1) := dk_43 (dk_at dksX7_init_0 6 rfl rfl)
theorem dX7_init_7 : decode cX7_init 7 = .ok (.invokespecial 7, 3) := dk_183 0 7 (dk_at dksX7_init_0 7 rfl rfl)
theorem dX7_init_10 : decode cX7_init 10 = .ok (.return_, 1) := dk_177 (dk_at dksX7_init_0 10 rfl rfl)
abbrev cX7_isGood : ByteArray := prog_22_method_3_code
def yX7_isGood : MethodName := ⟨RX7, "isGood", "(I)Z"⟩
def dkwX7_isGood_0 : List UInt8 := [42, 180, 0, 13, 27, 50, 184, 0, 17, 158, 0, 7, 4, 167, 0, 4, 3, 172]
abbrev dktX7_isGood_0 : List UInt8 := dkwX7_isGood_0 ++ []
theorem dksX7_isGood_0 : cX7_isGood.data.toList.drop 0 = dktX7_isGood_0 := by decide +kernel
theorem dX7_isGood_0 : decode cX7_isGood 0 = .ok (.aload_n 0, 1) := dk_42 (dk_at dksX7_isGood_0 0 rfl rfl)
theorem dX7_isGood_1 : decode cX7_isGood 1 = .ok (.getfield 13, 3) := dk_180 0 13 (dk_at dksX7_isGood_0 1 rfl rfl)
theorem dX7_isGood_4 : decode cX7_isGood 4 = .ok (.iload_n 1, 1) := dk_27 (dk_at dksX7_isGood_0 4 rfl rfl)
theorem dX7_isGood_5 : decode cX7_isGood 5 = .ok (.aaload, 1) := dk_50 (dk_at dksX7_isGood_0 5 rfl rfl)
theorem dX7_isGood_6 : decode cX7_isGood 6 = .ok (.invokestatic 17, 3) := dk_184 0 17 (dk_at dksX7_isGood_0 6 rfl rfl)
theorem dX7_isGood_9 : decode cX7_isGood 9 = .ok (.ifCond .le 7, 3) := dk_158 0 7 (dk_at dksX7_isGood_0 9 rfl rfl)
theorem dX7_isGood_12 : decode cX7_isGood 12 = .ok (.iconst 1, 1) := dk_4 (dk_at dksX7_isGood_0 12 rfl rfl)
theorem dX7_isGood_13 : decode cX7_isGood 13 = .ok (.goto 4, 3) := dk_167 0 4 (dk_at dksX7_isGood_0 13 rfl rfl)
theorem dX7_isGood_16 : decode cX7_isGood 16 = .ok (.iconst 0, 1) := dk_3 (dk_at dksX7_isGood_0 16 rfl rfl)
theorem dX7_isGood_17 : decode cX7_isGood 17 = .ok (.ireturn, 1) := dk_172 (dk_at dksX7_isGood_0 17 rfl rfl)
abbrev cX7_isEnd : ByteArray := prog_22_method_2_code
def yX7_isEnd : MethodName := ⟨RX7, "isEnd", "(I)Z"⟩
def dkwX7_isEnd_0 : List UInt8 := [42, 180, 0, 13, 27, 50, 184, 0, 17, 4, 160, 0, 7, 4, 167, 0, 4, 3, 172]
abbrev dktX7_isEnd_0 : List UInt8 := dkwX7_isEnd_0 ++ []
theorem dksX7_isEnd_0 : cX7_isEnd.data.toList.drop 0 = dktX7_isEnd_0 := by decide +kernel
theorem dX7_isEnd_0 : decode cX7_isEnd 0 = .ok (.aload_n 0, 1) := dk_42 (dk_at dksX7_isEnd_0 0 rfl rfl)
theorem dX7_isEnd_1 : decode cX7_isEnd 1 = .ok (.getfield 13, 3) := dk_180 0 13 (dk_at dksX7_isEnd_0 1 rfl rfl)
theorem dX7_isEnd_4 : decode cX7_isEnd 4 = .ok (.iload_n 1, 1) := dk_27 (dk_at dksX7_isEnd_0 4 rfl rfl)
theorem dX7_isEnd_5 : decode cX7_isEnd 5 = .ok (.aaload, 1) := dk_50 (dk_at dksX7_isEnd_0 5 rfl rfl)
theorem dX7_isEnd_6 : decode cX7_isEnd 6 = .ok (.invokestatic 17, 3) := dk_184 0 17 (dk_at dksX7_isEnd_0 6 rfl rfl)
theorem dX7_isEnd_9 : decode cX7_isEnd 9 = .ok (.iconst 1, 1) := dk_4 (dk_at dksX7_isEnd_0 9 rfl rfl)
theorem dX7_isEnd_10 : decode cX7_isEnd 10 = .ok (.if_icmp .ne 7, 3) := dk_160 0 7 (dk_at dksX7_isEnd_0 10 rfl rfl)
theorem dX7_isEnd_13 : decode cX7_isEnd 13 = .ok (.iconst 1, 1) := dk_4 (dk_at dksX7_isEnd_0 13 rfl rfl)
theorem dX7_isEnd_14 : decode cX7_isEnd 14 = .ok (.goto 4, 3) := dk_167 0 4 (dk_at dksX7_isEnd_0 14 rfl rfl)
theorem dX7_isEnd_17 : decode cX7_isEnd 17 = .ok (.iconst 0, 1) := dk_3 (dk_at dksX7_isEnd_0 17 rfl rfl)
theorem dX7_isEnd_18 : decode cX7_isEnd 18 = .ok (.ireturn, 1) := dk_172 (dk_at dksX7_isEnd_0 18 rfl rfl)
abbrev cX7_choices : ByteArray := prog_22_method_4_code
def yX7_choices : MethodName := ⟨RX7, "choices", "()I"⟩
def dkwX7_choices_0 : List UInt8 := [5, 42, 180, 0, 1, 180, 0, 23, 180, 0, 27, 182, 0, 33, 104, 172]
abbrev dktX7_choices_0 : List UInt8 := dkwX7_choices_0 ++ []
theorem dksX7_choices_0 : cX7_choices.data.toList.drop 0 = dktX7_choices_0 := by decide +kernel
theorem dX7_choices_0 : decode cX7_choices 0 = .ok (.iconst 2, 1) := dk_5 (dk_at dksX7_choices_0 0 rfl rfl)
theorem dX7_choices_1 : decode cX7_choices 1 = .ok (.aload_n 0, 1) := dk_42 (dk_at dksX7_choices_0 1 rfl rfl)
theorem dX7_choices_2 : decode cX7_choices 2 = .ok (.getfield 1, 3) := dk_180 0 1 (dk_at dksX7_choices_0 2 rfl rfl)
theorem dX7_choices_5 : decode cX7_choices 5 = .ok (.getfield 23, 3) := dk_180 0 23 (dk_at dksX7_choices_0 5 rfl rfl)
theorem dX7_choices_8 : decode cX7_choices 8 = .ok (.getfield 27, 3) := dk_180 0 27 (dk_at dksX7_choices_0 8 rfl rfl)
theorem dX7_choices_11 : decode cX7_choices 11 = .ok (.invokevirtual 33, 3) := dk_182 0 33 (dk_at dksX7_choices_0 11 rfl rfl)
theorem dX7_choices_14 : decode cX7_choices 14 = .ok (.imul, 1) := dk_104 (dk_at dksX7_choices_0 14 rfl rfl)
theorem dX7_choices_15 : decode cX7_choices 15 = .ok (.ireturn, 1) := dk_172 (dk_at dksX7_choices_0 15 rfl rfl)
abbrev cX7_answers : ByteArray := prog_22_method_5_code
def yX7_answers : MethodName := ⟨RX7, "answers", "(I[J[J)V"⟩
def dkwX7_answers_1 : List UInt8 := [177]
abbrev dktX7_answers_1 : List UInt8 := dkwX7_answers_1 ++ []
def dkwX7_answers_0 : List UInt8 := [42, 180, 0, 39, 27, 5, 108, 27, 5, 112, 4, 160, 0, 7, 4, 167, 0, 4, 3, 44, 45, 182, 0, 43]
abbrev dktX7_answers_0 : List UInt8 := dkwX7_answers_0 ++ dktX7_answers_1
theorem dksX7_answers_0 : cX7_answers.data.toList.drop 0 = dktX7_answers_0 := by decide +kernel
theorem dksX7_answers_1 : cX7_answers.data.toList.drop 24 = dktX7_answers_1 := dk_seg dksX7_answers_0 24 rfl rfl
theorem dX7_answers_0 : decode cX7_answers 0 = .ok (.aload_n 0, 1) := dk_42 (dk_at dksX7_answers_0 0 rfl rfl)
theorem dX7_answers_1 : decode cX7_answers 1 = .ok (.getfield 39, 3) := dk_180 0 39 (dk_at dksX7_answers_0 1 rfl rfl)
theorem dX7_answers_4 : decode cX7_answers 4 = .ok (.iload_n 1, 1) := dk_27 (dk_at dksX7_answers_0 4 rfl rfl)
theorem dX7_answers_5 : decode cX7_answers 5 = .ok (.iconst 2, 1) := dk_5 (dk_at dksX7_answers_0 5 rfl rfl)
theorem dX7_answers_6 : decode cX7_answers 6 = .ok (.idiv, 1) := dk_108 (dk_at dksX7_answers_0 6 rfl rfl)
theorem dX7_answers_7 : decode cX7_answers 7 = .ok (.iload_n 1, 1) := dk_27 (dk_at dksX7_answers_0 7 rfl rfl)
theorem dX7_answers_8 : decode cX7_answers 8 = .ok (.iconst 2, 1) := dk_5 (dk_at dksX7_answers_0 8 rfl rfl)
theorem dX7_answers_9 : decode cX7_answers 9 = .ok (.irem, 1) := dk_112 (dk_at dksX7_answers_0 9 rfl rfl)
theorem dX7_answers_10 : decode cX7_answers 10 = .ok (.iconst 1, 1) := dk_4 (dk_at dksX7_answers_0 10 rfl rfl)
theorem dX7_answers_11 : decode cX7_answers 11 = .ok (.if_icmp .ne 7, 3) := dk_160 0 7 (dk_at dksX7_answers_0 11 rfl rfl)
theorem dX7_answers_14 : decode cX7_answers 14 = .ok (.iconst 1, 1) := dk_4 (dk_at dksX7_answers_0 14 rfl rfl)
theorem dX7_answers_15 : decode cX7_answers 15 = .ok (.goto 4, 3) := dk_167 0 4 (dk_at dksX7_answers_0 15 rfl rfl)
theorem dX7_answers_18 : decode cX7_answers 18 = .ok (.iconst 0, 1) := dk_3 (dk_at dksX7_answers_0 18 rfl rfl)
theorem dX7_answers_19 : decode cX7_answers 19 = .ok (.aload_n 2, 1) := dk_44 (dk_at dksX7_answers_0 19 rfl rfl)
theorem dX7_answers_20 : decode cX7_answers 20 = .ok (.aload_n 3, 1) := dk_45 (dk_at dksX7_answers_0 20 rfl rfl)
theorem dX7_answers_21 : decode cX7_answers 21 = .ok (.invokevirtual 43, 3) := dk_182 0 43 (dk_at dksX7_answers_0 21 rfl rfl)
theorem dX7_answers_24 : decode cX7_answers 24 = .ok (.return_, 1) := dk_177 (dk_at dksX7_answers_1 0 rfl rfl)
theorem q115 : (Jvm.Cond.initialized "TwoSlips$Shortest") ∈ lw_all := lw_g (lw_at lw_m1 10 rfl) rfl
theorem q203 : (Jvm.Cond.fieldLinkNest "TwoSlips$Shortest" (27 : Nat) "TwoSlips$Talk" "speakers" "Ljava/util/ArrayList;" "TwoSlips") ∈ lw_tbl := lw_at lw_m1 98 rfl
theorem q346 : (Jvm.Cond.fieldLink "TwoSlips$Shortest" (13 : Nat) "TwoSlips$Shortest" "sets" "[[J") ∈ lw_all := lw_g (lw_at lw_m2 1 rfl) rfl
theorem q347 : (Jvm.Cond.sameField "TwoSlips$Shortest" "TwoSlips$Rows" "sets" "[[J") ∈ lw_all := lw_g (lw_at lw_m2 2 rfl) rfl
theorem q355 : (Jvm.Cond.sameField "TwoSlips$Shortest" "TwoSlips$Rows" "row" "[I") ∈ lw_all := lw_g (lw_at lw_m2 10 rfl) rfl
theorem q359 : (Jvm.Cond.fieldLink "TwoSlips$Shortest" (39 : Nat) "TwoSlips$Shortest" "in" "LTwoSlips$Course;") ∈ lw_all := lw_g (lw_at lw_m2 14 rfl) rfl
theorem q360 : (Jvm.Cond.sameField "TwoSlips$Shortest" "TwoSlips$Rows" "in" "LTwoSlips$Course;") ∈ lw_all := lw_g (lw_at lw_m2 15 rfl) rfl
theorem q367 : (Jvm.Cond.sameField "TwoSlips$Shortest" "TwoSlips$Rows" "many" "I") ∈ lw_all := lw_g (lw_at lw_m2 22 rfl) rfl
theorem q391 : (Jvm.Cond.instantiable "TwoSlips$Shortest" (7 : Nat)) ∈ lw_all := lw_g (lw_at lw_m2 46 rfl) rfl
theorem q393 : (Jvm.Cond.instanceMethod ({ cls := "TwoSlips$Shortest", name := "<init>", desc := "(LTwoSlips;)V" } : Jvm.MethodName)) ∈ lw_all := lw_g (lw_at lw_m2 48 rfl) rfl
theorem q394 : (Jvm.Cond.code ({ cls := "TwoSlips$Shortest", name := "<init>", desc := "(LTwoSlips;)V" } : Jvm.MethodName) prog_22_method_1_code (2 : Nat) (Option.none : Option Jvm.ClassFile.FieldType)) ∈ lw_all := lw_g (lw_at lw_m2 49 rfl) rfl
theorem q395 : (Jvm.Cond.methodLinkNest "TwoSlips$Shortest" (7 : Nat) ({ cls := "TwoSlips$Rows", name := "<init>", desc := "(LTwoSlips;)V" } : Jvm.MethodName) "TwoSlips") ∈ lw_tbl := lw_at lw_m2 50 rfl
theorem q396 : (Jvm.Cond.fieldLink "TwoSlips$Shortest" (1 : Nat) "TwoSlips$Shortest" "this$0" "LTwoSlips;") ∈ lw_all := lw_g (lw_at lw_m2 51 rfl) rfl
theorem q397 : (Jvm.Cond.laysFinal "TwoSlips$Shortest" "TwoSlips$Shortest" "this$0" "LTwoSlips;") ∈ lw_all := lw_g (lw_at lw_m2 52 rfl) rfl
theorem q398 : (Jvm.Cond.soleField "TwoSlips$Shortest" "this$0") ∈ lw_all := lw_g (lw_at lw_m2 53 rfl) rfl
theorem q399 : (Jvm.Cond.laysFinal "TwoSlips$Shortest" "TwoSlips$Rows" "sets" "[[J") ∈ lw_all := lw_g (lw_at lw_m2 54 rfl) rfl
theorem q400 : (Jvm.Cond.laysFinal "TwoSlips$Shortest" "TwoSlips$Rows" "row" "[I") ∈ lw_all := lw_g (lw_at lw_m2 55 rfl) rfl
theorem q401 : (Jvm.Cond.laysFinal "TwoSlips$Shortest" "TwoSlips$Rows" "best" "[I") ∈ lw_all := lw_g (lw_at lw_m2 56 rfl) rfl
theorem q402 : (Jvm.Cond.lays "TwoSlips$Shortest" "TwoSlips$Rows" "in" "LTwoSlips$Course;") ∈ lw_all := lw_g (lw_at lw_m2 57 rfl) rfl
theorem q403 : (Jvm.Cond.lays "TwoSlips$Shortest" "TwoSlips$Rows" "many" "I") ∈ lw_all := lw_g (lw_at lw_m2 58 rfl) rfl
theorem q404 : (Jvm.Cond.laysFinal "TwoSlips$Shortest" "TwoSlips$Rows" "this$0" "LTwoSlips;") ∈ lw_all := lw_g (lw_at lw_m2 59 rfl) rfl
theorem q405 : (Jvm.Cond.superclass "TwoSlips$Shortest" "TwoSlips$Rows") ∈ lw_all := lw_g (lw_at lw_m2 60 rfl) rfl
theorem q442 : (Jvm.Cond.fieldLinkNest "TwoSlips$Shortest" (23 : Nat) "TwoSlips" "talk" "LTwoSlips$Talk;" "TwoSlips") ∈ lw_tbl := lw_at lw_m2 97 rfl
theorem q1174 : (Jvm.Cond.selects "TwoSlips$Shortest" ({ cls := "java/lang/Object", name := "getClass", desc := "()Ljava/lang/Class;" } : Jvm.MethodName) ({ cls := "java/lang/Object", name := "getClass", desc := "()Ljava/lang/Class;" } : Jvm.MethodName)) ∈ lw_all := lw_g (lw_at lw_m5 109 rfl) rfl
theorem q1592 : (Jvm.Cond.selects "TwoSlips$Shortest" ({ cls := "TwoSlips$Rows", name := "isGood", desc := "(I)Z" } : Jvm.MethodName) ({ cls := "TwoSlips$Shortest", name := "isGood", desc := "(I)Z" } : Jvm.MethodName)) ∈ lw_all := lw_g (lw_at lw_m7 47 rfl) rfl
theorem q1593 : (Jvm.Cond.instanceMethod ({ cls := "TwoSlips$Shortest", name := "isGood", desc := "(I)Z" } : Jvm.MethodName)) ∈ lw_all := lw_g (lw_at lw_m7 48 rfl) rfl
theorem q1594 : (Jvm.Cond.code ({ cls := "TwoSlips$Shortest", name := "isGood", desc := "(I)Z" } : Jvm.MethodName) prog_22_method_3_code (2 : Nat) (Option.some Jvm.ClassFile.FieldType.boolean)) ∈ lw_all := lw_g (lw_at lw_m7 49 rfl) rfl
theorem q1595 : (Jvm.Cond.methodLinkNest "TwoSlips$Shortest" (17 : Nat) ({ cls := "TwoSlips", name := "count", desc := "([J)I" } : Jvm.MethodName) "TwoSlips") ∈ lw_tbl := lw_at lw_m7 50 rfl
theorem q1612 : (Jvm.Cond.selects "TwoSlips$Shortest" ({ cls := "TwoSlips$Rows", name := "isEnd", desc := "(I)Z" } : Jvm.MethodName) ({ cls := "TwoSlips$Shortest", name := "isEnd", desc := "(I)Z" } : Jvm.MethodName)) ∈ lw_all := lw_g (lw_at lw_m7 67 rfl) rfl
theorem q1613 : (Jvm.Cond.instanceMethod ({ cls := "TwoSlips$Shortest", name := "isEnd", desc := "(I)Z" } : Jvm.MethodName)) ∈ lw_all := lw_g (lw_at lw_m7 68 rfl) rfl
theorem q1614 : (Jvm.Cond.code ({ cls := "TwoSlips$Shortest", name := "isEnd", desc := "(I)Z" } : Jvm.MethodName) prog_22_method_2_code (2 : Nat) (Option.some Jvm.ClassFile.FieldType.boolean)) ∈ lw_all := lw_g (lw_at lw_m7 69 rfl) rfl
theorem q1621 : (Jvm.Cond.selects "TwoSlips$Shortest" ({ cls := "TwoSlips$Rows", name := "choices", desc := "()I" } : Jvm.MethodName) ({ cls := "TwoSlips$Shortest", name := "choices", desc := "()I" } : Jvm.MethodName)) ∈ lw_all := lw_g (lw_at lw_m7 76 rfl) rfl
theorem q1622 : (Jvm.Cond.instanceMethod ({ cls := "TwoSlips$Shortest", name := "choices", desc := "()I" } : Jvm.MethodName)) ∈ lw_all := lw_g (lw_at lw_m7 77 rfl) rfl
theorem q1623 : (Jvm.Cond.code ({ cls := "TwoSlips$Shortest", name := "choices", desc := "()I" } : Jvm.MethodName) prog_22_method_4_code (1 : Nat) (Option.some Jvm.ClassFile.FieldType.int)) ∈ lw_all := lw_g (lw_at lw_m7 78 rfl) rfl
theorem q1624 : (Jvm.Cond.methodLink "TwoSlips$Shortest" (33 : Nat) ({ cls := "java/util/ArrayList", name := "size", desc := "()I" } : Jvm.MethodName)) ∈ lw_all := lw_g (lw_at lw_m7 79 rfl) rfl
theorem q1629 : (Jvm.Cond.selects "TwoSlips$Shortest" ({ cls := "TwoSlips$Rows", name := "answers", desc := "(I[J[J)V" } : Jvm.MethodName) ({ cls := "TwoSlips$Shortest", name := "answers", desc := "(I[J[J)V" } : Jvm.MethodName)) ∈ lw_all := lw_g (lw_at lw_m7 84 rfl) rfl
theorem q1630 : (Jvm.Cond.instanceMethod ({ cls := "TwoSlips$Shortest", name := "answers", desc := "(I[J[J)V" } : Jvm.MethodName)) ∈ lw_all := lw_g (lw_at lw_m7 85 rfl) rfl
theorem q1631 : (Jvm.Cond.code ({ cls := "TwoSlips$Shortest", name := "answers", desc := "(I[J[J)V" } : Jvm.MethodName) prog_22_method_5_code (4 : Nat) (Option.none : Option Jvm.ClassFile.FieldType)) ∈ lw_all := lw_g (lw_at lw_m7 86 rfl) rfl
theorem q1632 : (Jvm.Cond.methodLink "TwoSlips$Shortest" (43 : Nat) ({ cls := "TwoSlips$Course", name := "answers", desc := "(IZ[J[J)V" } : Jvm.MethodName)) ∈ lw_all := lw_g (lw_at lw_m7 87 rfl) rfl
theorem q1648 : (Jvm.Cond.sameMethod "TwoSlips$Shortest" "TwoSlips$Rows" "finds" "(I)Z") ∈ lw_all := lw_g (lw_at lw_m7 103 rfl) rfl
theorem q1649 : (Jvm.Cond.selects "TwoSlips$Shortest" ({ cls := "TwoSlips$Shortest", name := "finds", desc := "(I)Z" } : Jvm.MethodName) ({ cls := "TwoSlips$Rows", name := "finds", desc := "(I)Z" } : Jvm.MethodName)) ∈ lw_all := lw_g (lw_at lw_m7 104 rfl) rfl
theorem q2432 : (Jvm.Cond.castable "TwoSlips$Shortest" "java/lang/Object") ∈ lw_tbl := lw_at lw_m10 167 rfl
theorem in_X7 : ∀ w ∈ wsX70, w ∈ lw_all := lw_in wsX70 [399, 400, 401, 402, 403, 404, 397] (by decide +kernel) (by decide +kernel)

/-! TwoSlips$Orders -/
set_option maxRecDepth 100000
def RX8 : String := "TwoSlips$Orders"
def TX8 : u_T := fun k => match k with
  | 0 => ("TwoSlips$Orders", "now", "[I", true)
  | 1 => ("TwoSlips$Orders", "first", "[I", true)
  | 2 => ("TwoSlips$Orders", "found", "I", false)
  | 3 => ("TwoSlips$Orders", "world", "I", false)
  | _ => ("TwoSlips$Orders", "this$0", "LTwoSlips;", true)
def tyX8 : Nat → FieldType := fun k => match k with
  | 0 => .array .int
  | 1 => .array .int
  | 2 => .int
  | 3 => .int
  | _ => .object "TwoSlips"
abbrev wsX80 : List Cond := u_ws RX8 TX8 5
theorem nmX8 : ∀ a, a < 5 → ∀ b, b < 5 → a ≠ b → (TX8 a).2.1 ≠ (TX8 b).2.1 := by decide +kernel
theorem tyX8_ok : ∀ k, k < 5 → parseFieldDescriptor (TX8 k).2.2.1 = some (tyX8 k) := by decide +kernel
abbrev cX8_init : ByteArray := prog_12_method_1_code
def yX8_init : MethodName := ⟨RX8, "<init>", "(LTwoSlips;)V"⟩
def dkwX8_init_1 : List UInt8 := [181, 0, 19, 177]
abbrev dktX8_init_1 : List UInt8 := dkwX8_init_1 ++ []
def dkwX8_init_0 : List UInt8 := [42, 43, 181, 0, 3, 42, 183, 0, 9, 42, 16, 6, 188, 10, 181, 0, 15, 42, 16, 6, 188, 10]
abbrev dktX8_init_0 : List UInt8 := dkwX8_init_0 ++ dktX8_init_1
theorem dksX8_init_0 : cX8_init.data.toList.drop 0 = dktX8_init_0 := by decide +kernel
theorem dksX8_init_1 : cX8_init.data.toList.drop 22 = dktX8_init_1 := dk_seg dksX8_init_0 22 rfl rfl
theorem dX8_init_0 : decode cX8_init 0 = .ok (.aload_n 0, 1) := dk_42 (dk_at dksX8_init_0 0 rfl rfl)
theorem dX8_init_1 : decode cX8_init 1 = .ok (.aload_n 1, 1) := dk_43 (dk_at dksX8_init_0 1 rfl rfl)
theorem dX8_init_2 : decode cX8_init 2 = .ok (.putfield 3, 3) := dk_181 0 3 (dk_at dksX8_init_0 2 rfl rfl)
theorem dX8_init_5 : decode cX8_init 5 = .ok (.aload_n 0, 1) := dk_42 (dk_at dksX8_init_0 5 rfl rfl)
theorem dX8_init_6 : decode cX8_init 6 = .ok (.invokespecial 9, 3) := dk_183 0 9 (dk_at dksX8_init_0 6 rfl rfl)
theorem dX8_init_9 : decode cX8_init 9 = .ok (.aload_n 0, 1) := dk_42 (dk_at dksX8_init_0 9 rfl rfl)
theorem dX8_init_10 : decode cX8_init 10 = .ok (.bipush 6, 2) := dk_16 6 (dk_at dksX8_init_0 10 rfl rfl)
theorem dX8_init_12 : decode cX8_init 12 = .ok (.newarray .int, 2) := dk_188_10 (dk_at dksX8_init_0 12 rfl rfl)
theorem dX8_init_14 : decode cX8_init 14 = .ok (.putfield 15, 3) := dk_181 0 15 (dk_at dksX8_init_0 14 rfl rfl)
theorem dX8_init_17 : decode cX8_init 17 = .ok (.aload_n 0, 1) := dk_42 (dk_at dksX8_init_0 17 rfl rfl)
theorem dX8_init_18 : decode cX8_init 18 = .ok (.bipush 6, 2) := dk_16 6 (dk_at dksX8_init_0 18 rfl rfl)
theorem dX8_init_20 : decode cX8_init 20 = .ok (.newarray .int, 2) := dk_188_10 (dk_at dksX8_init_0 20 rfl rfl)
theorem dX8_init_22 : decode cX8_init 22 = .ok (.putfield 19, 3) := dk_181 0 19 (dk_at dksX8_init_1 0 rfl rfl)
theorem dX8_init_25 : decode cX8_init 25 = .ok (.return_, 1) := dk_177 (dk_at dksX8_init_1 3 rfl rfl)
abbrev cX8_finds : ByteArray := prog_12_method_3_code
def yX8_finds : MethodName := ⟨RX8, "finds", "(I)I"⟩
def dkwX8_finds_1 : List UInt8 := [42, 180, 0, 56, 172]
abbrev dktX8_finds_1 : List UInt8 := dkwX8_finds_1 ++ []
def dkwX8_finds_0 : List UInt8 := [42, 3, 181, 0, 56, 42, 27, 181, 0, 48, 42, 180, 0, 3, 182, 0, 86, 87, 42, 3, 3, 182, 0, 82]
abbrev dktX8_finds_0 : List UInt8 := dkwX8_finds_0 ++ dktX8_finds_1
theorem dksX8_finds_0 : cX8_finds.data.toList.drop 0 = dktX8_finds_0 := by decide +kernel
theorem dksX8_finds_1 : cX8_finds.data.toList.drop 24 = dktX8_finds_1 := dk_seg dksX8_finds_0 24 rfl rfl
theorem dX8_finds_0 : decode cX8_finds 0 = .ok (.aload_n 0, 1) := dk_42 (dk_at dksX8_finds_0 0 rfl rfl)
theorem dX8_finds_1 : decode cX8_finds 1 = .ok (.iconst 0, 1) := dk_3 (dk_at dksX8_finds_0 1 rfl rfl)
theorem dX8_finds_2 : decode cX8_finds 2 = .ok (.putfield 56, 3) := dk_181 0 56 (dk_at dksX8_finds_0 2 rfl rfl)
theorem dX8_finds_5 : decode cX8_finds 5 = .ok (.aload_n 0, 1) := dk_42 (dk_at dksX8_finds_0 5 rfl rfl)
theorem dX8_finds_6 : decode cX8_finds 6 = .ok (.iload_n 1, 1) := dk_27 (dk_at dksX8_finds_0 6 rfl rfl)
theorem dX8_finds_7 : decode cX8_finds 7 = .ok (.putfield 48, 3) := dk_181 0 48 (dk_at dksX8_finds_0 7 rfl rfl)
theorem dX8_finds_10 : decode cX8_finds 10 = .ok (.aload_n 0, 1) := dk_42 (dk_at dksX8_finds_0 10 rfl rfl)
theorem dX8_finds_11 : decode cX8_finds 11 = .ok (.getfield 3, 3) := dk_180 0 3 (dk_at dksX8_finds_0 11 rfl rfl)
theorem dX8_finds_14 : decode cX8_finds 14 = .ok (.invokevirtual 86, 3) := dk_182 0 86 (dk_at dksX8_finds_0 14 rfl rfl)
theorem dX8_finds_17 : decode cX8_finds 17 = .ok (.pop, 1) := dk_87 (dk_at dksX8_finds_0 17 rfl rfl)
theorem dX8_finds_18 : decode cX8_finds 18 = .ok (.aload_n 0, 1) := dk_42 (dk_at dksX8_finds_0 18 rfl rfl)
theorem dX8_finds_19 : decode cX8_finds 19 = .ok (.iconst 0, 1) := dk_3 (dk_at dksX8_finds_0 19 rfl rfl)
theorem dX8_finds_20 : decode cX8_finds 20 = .ok (.iconst 0, 1) := dk_3 (dk_at dksX8_finds_0 20 rfl rfl)
theorem dX8_finds_21 : decode cX8_finds 21 = .ok (.invokevirtual 82, 3) := dk_182 0 82 (dk_at dksX8_finds_0 21 rfl rfl)
theorem dX8_finds_24 : decode cX8_finds 24 = .ok (.aload_n 0, 1) := dk_42 (dk_at dksX8_finds_1 0 rfl rfl)
theorem dX8_finds_25 : decode cX8_finds 25 = .ok (.getfield 56, 3) := dk_180 0 56 (dk_at dksX8_finds_1 1 rfl rfl)
theorem dX8_finds_28 : decode cX8_finds 28 = .ok (.ireturn, 1) := dk_172 (dk_at dksX8_finds_1 4 rfl rfl)
abbrev cX8_goes : ByteArray := prog_12_method_2_code
def yX8_goes : MethodName := ⟨RX8, "goes", "(II)V"⟩
def dkwX8_goes_7 : List UInt8 := [21, 4, 120, 128, 182, 0, 82, 132, 4, 1, 167, 255, 160, 177]
abbrev dktX8_goes_7 : List UInt8 := dkwX8_goes_7 ++ []
def dkwX8_goes_6 : List UInt8 := [192, 0, 69, 180, 0, 74, 27, 182, 0, 78, 42, 180, 0, 15, 27, 21, 4, 79, 42, 27, 4, 96, 28, 4]
abbrev dktX8_goes_6 : List UInt8 := dkwX8_goes_6 ++ dktX8_goes_7
def dkwX8_goes_5 : List UInt8 := [182, 0, 65, 192, 0, 69, 180, 0, 71, 42, 180, 0, 3, 180, 0, 22, 180, 0, 26, 21, 4, 182, 0, 65]
abbrev dktX8_goes_5 : List UInt8 := dkwX8_goes_5 ++ dktX8_goes_6
def dkwX8_goes_4 : List UInt8 := [167, 0, 77, 42, 180, 0, 3, 180, 0, 38, 42, 180, 0, 3, 180, 0, 22, 180, 0, 26, 21, 4]
abbrev dktX8_goes_4 : List UInt8 := dkwX8_goes_4 ++ dktX8_goes_5
def dkwX8_goes_3 : List UInt8 := [96, 181, 0, 56, 177, 3, 54, 4, 21, 4, 29, 162, 0, 96, 28, 21, 4, 122, 4, 126, 4, 160, 0, 6]
abbrev dktX8_goes_3 : List UInt8 := dkwX8_goes_3 ++ dktX8_goes_4
def dkwX8_goes_2 : List UInt8 := [154, 0, 18, 42, 180, 0, 15, 3, 42, 180, 0, 19, 3, 16, 6, 184, 0, 59, 42, 89, 180, 0, 56, 4]
abbrev dktX8_goes_2 : List UInt8 := dkwX8_goes_2 ++ dktX8_goes_3
def dkwX8_goes_1 : List UInt8 := [27, 50, 42, 180, 0, 48, 184, 0, 52, 154, 0, 4, 177, 27, 29, 160, 0, 36, 42, 180, 0, 56]
abbrev dktX8_goes_1 : List UInt8 := dkwX8_goes_1 ++ dktX8_goes_2
def dkwX8_goes_0 : List UInt8 := [42, 180, 0, 3, 180, 0, 22, 180, 0, 26, 182, 0, 32, 62, 42, 180, 0, 3, 180, 0, 38, 180, 0, 42]
abbrev dktX8_goes_0 : List UInt8 := dkwX8_goes_0 ++ dktX8_goes_1
theorem dksX8_goes_0 : cX8_goes.data.toList.drop 0 = dktX8_goes_0 := by decide +kernel
theorem dksX8_goes_1 : cX8_goes.data.toList.drop 24 = dktX8_goes_1 := dk_seg dksX8_goes_0 24 rfl rfl
theorem dksX8_goes_2 : cX8_goes.data.toList.drop 46 = dktX8_goes_2 := dk_seg dksX8_goes_1 22 rfl rfl
theorem dksX8_goes_3 : cX8_goes.data.toList.drop 70 = dktX8_goes_3 := dk_seg dksX8_goes_2 24 rfl rfl
theorem dksX8_goes_4 : cX8_goes.data.toList.drop 94 = dktX8_goes_4 := dk_seg dksX8_goes_3 24 rfl rfl
theorem dksX8_goes_5 : cX8_goes.data.toList.drop 116 = dktX8_goes_5 := dk_seg dksX8_goes_4 22 rfl rfl
theorem dksX8_goes_6 : cX8_goes.data.toList.drop 140 = dktX8_goes_6 := dk_seg dksX8_goes_5 24 rfl rfl
theorem dksX8_goes_7 : cX8_goes.data.toList.drop 164 = dktX8_goes_7 := dk_seg dksX8_goes_6 24 rfl rfl
theorem dX8_goes_0 : decode cX8_goes 0 = .ok (.aload_n 0, 1) := dk_42 (dk_at dksX8_goes_0 0 rfl rfl)
theorem dX8_goes_1 : decode cX8_goes 1 = .ok (.getfield 3, 3) := dk_180 0 3 (dk_at dksX8_goes_0 1 rfl rfl)
theorem dX8_goes_4 : decode cX8_goes 4 = .ok (.getfield 22, 3) := dk_180 0 22 (dk_at dksX8_goes_0 4 rfl rfl)
theorem dX8_goes_7 : decode cX8_goes 7 = .ok (.getfield 26, 3) := dk_180 0 26 (dk_at dksX8_goes_0 7 rfl rfl)
theorem dX8_goes_10 : decode cX8_goes 10 = .ok (.invokevirtual 32, 3) := dk_182 0 32 (dk_at dksX8_goes_0 10 rfl rfl)
theorem dX8_goes_13 : decode cX8_goes 13 = .ok (.istore_n 3, 1) := dk_62 (dk_at dksX8_goes_0 13 rfl rfl)
theorem dX8_goes_14 : decode cX8_goes 14 = .ok (.aload_n 0, 1) := dk_42 (dk_at dksX8_goes_0 14 rfl rfl)
theorem dX8_goes_15 : decode cX8_goes 15 = .ok (.getfield 3, 3) := dk_180 0 3 (dk_at dksX8_goes_0 15 rfl rfl)
theorem dX8_goes_18 : decode cX8_goes 18 = .ok (.getfield 38, 3) := dk_180 0 38 (dk_at dksX8_goes_0 18 rfl rfl)
theorem dX8_goes_21 : decode cX8_goes 21 = .ok (.getfield 42, 3) := dk_180 0 42 (dk_at dksX8_goes_0 21 rfl rfl)
theorem dX8_goes_24 : decode cX8_goes 24 = .ok (.iload_n 1, 1) := dk_27 (dk_at dksX8_goes_1 0 rfl rfl)
theorem dX8_goes_25 : decode cX8_goes 25 = .ok (.aaload, 1) := dk_50 (dk_at dksX8_goes_1 1 rfl rfl)
theorem dX8_goes_26 : decode cX8_goes 26 = .ok (.aload_n 0, 1) := dk_42 (dk_at dksX8_goes_1 2 rfl rfl)
theorem dX8_goes_27 : decode cX8_goes 27 = .ok (.getfield 48, 3) := dk_180 0 48 (dk_at dksX8_goes_1 3 rfl rfl)
theorem dX8_goes_30 : decode cX8_goes 30 = .ok (.invokestatic 52, 3) := dk_184 0 52 (dk_at dksX8_goes_1 6 rfl rfl)
theorem dX8_goes_33 : decode cX8_goes 33 = .ok (.ifCond .ne 4, 3) := dk_154 0 4 (dk_at dksX8_goes_1 9 rfl rfl)
theorem dX8_goes_36 : decode cX8_goes 36 = .ok (.return_, 1) := dk_177 (dk_at dksX8_goes_1 12 rfl rfl)
theorem dX8_goes_37 : decode cX8_goes 37 = .ok (.iload_n 1, 1) := dk_27 (dk_at dksX8_goes_1 13 rfl rfl)
theorem dX8_goes_38 : decode cX8_goes 38 = .ok (.iload_n 3, 1) := dk_29 (dk_at dksX8_goes_1 14 rfl rfl)
theorem dX8_goes_39 : decode cX8_goes 39 = .ok (.if_icmp .ne 36, 3) := dk_160 0 36 (dk_at dksX8_goes_1 15 rfl rfl)
theorem dX8_goes_42 : decode cX8_goes 42 = .ok (.aload_n 0, 1) := dk_42 (dk_at dksX8_goes_1 18 rfl rfl)
theorem dX8_goes_43 : decode cX8_goes 43 = .ok (.getfield 56, 3) := dk_180 0 56 (dk_at dksX8_goes_1 19 rfl rfl)
theorem dX8_goes_46 : decode cX8_goes 46 = .ok (.ifCond .ne 18, 3) := dk_154 0 18 (dk_at dksX8_goes_2 0 rfl rfl)
theorem dX8_goes_49 : decode cX8_goes 49 = .ok (.aload_n 0, 1) := dk_42 (dk_at dksX8_goes_2 3 rfl rfl)
theorem dX8_goes_50 : decode cX8_goes 50 = .ok (.getfield 15, 3) := dk_180 0 15 (dk_at dksX8_goes_2 4 rfl rfl)
theorem dX8_goes_53 : decode cX8_goes 53 = .ok (.iconst 0, 1) := dk_3 (dk_at dksX8_goes_2 7 rfl rfl)
theorem dX8_goes_54 : decode cX8_goes 54 = .ok (.aload_n 0, 1) := dk_42 (dk_at dksX8_goes_2 8 rfl rfl)
theorem dX8_goes_55 : decode cX8_goes 55 = .ok (.getfield 19, 3) := dk_180 0 19 (dk_at dksX8_goes_2 9 rfl rfl)
theorem dX8_goes_58 : decode cX8_goes 58 = .ok (.iconst 0, 1) := dk_3 (dk_at dksX8_goes_2 12 rfl rfl)
theorem dX8_goes_59 : decode cX8_goes 59 = .ok (.bipush 6, 2) := dk_16 6 (dk_at dksX8_goes_2 13 rfl rfl)
theorem dX8_goes_61 : decode cX8_goes 61 = .ok (.invokestatic 59, 3) := dk_184 0 59 (dk_at dksX8_goes_2 15 rfl rfl)
theorem dX8_goes_64 : decode cX8_goes 64 = .ok (.aload_n 0, 1) := dk_42 (dk_at dksX8_goes_2 18 rfl rfl)
theorem dX8_goes_65 : decode cX8_goes 65 = .ok (.dup, 1) := dk_89 (dk_at dksX8_goes_2 19 rfl rfl)
theorem dX8_goes_66 : decode cX8_goes 66 = .ok (.getfield 56, 3) := dk_180 0 56 (dk_at dksX8_goes_2 20 rfl rfl)
theorem dX8_goes_69 : decode cX8_goes 69 = .ok (.iconst 1, 1) := dk_4 (dk_at dksX8_goes_2 23 rfl rfl)
theorem dX8_goes_70 : decode cX8_goes 70 = .ok (.iadd, 1) := dk_96 (dk_at dksX8_goes_3 0 rfl rfl)
theorem dX8_goes_71 : decode cX8_goes 71 = .ok (.putfield 56, 3) := dk_181 0 56 (dk_at dksX8_goes_3 1 rfl rfl)
theorem dX8_goes_74 : decode cX8_goes 74 = .ok (.return_, 1) := dk_177 (dk_at dksX8_goes_3 4 rfl rfl)
theorem dX8_goes_75 : decode cX8_goes 75 = .ok (.iconst 0, 1) := dk_3 (dk_at dksX8_goes_3 5 rfl rfl)
theorem dX8_goes_76 : decode cX8_goes 76 = .ok (.istore 4, 2) := dk_54 4 (dk_at dksX8_goes_3 6 rfl rfl)
theorem dX8_goes_78 : decode cX8_goes 78 = .ok (.iload 4, 2) := dk_21 4 (dk_at dksX8_goes_3 8 rfl rfl)
theorem dX8_goes_80 : decode cX8_goes 80 = .ok (.iload_n 3, 1) := dk_29 (dk_at dksX8_goes_3 10 rfl rfl)
theorem dX8_goes_81 : decode cX8_goes 81 = .ok (.if_icmp .ge 96, 3) := dk_162 0 96 (dk_at dksX8_goes_3 11 rfl rfl)
theorem dX8_goes_84 : decode cX8_goes 84 = .ok (.iload_n 2, 1) := dk_28 (dk_at dksX8_goes_3 14 rfl rfl)
theorem dX8_goes_85 : decode cX8_goes 85 = .ok (.iload 4, 2) := dk_21 4 (dk_at dksX8_goes_3 15 rfl rfl)
theorem dX8_goes_87 : decode cX8_goes 87 = .ok (.ishr, 1) := dk_122 (dk_at dksX8_goes_3 17 rfl rfl)
theorem dX8_goes_88 : decode cX8_goes 88 = .ok (.iconst 1, 1) := dk_4 (dk_at dksX8_goes_3 18 rfl rfl)
theorem dX8_goes_89 : decode cX8_goes 89 = .ok (.iand, 1) := dk_126 (dk_at dksX8_goes_3 19 rfl rfl)
theorem dX8_goes_90 : decode cX8_goes 90 = .ok (.iconst 1, 1) := dk_4 (dk_at dksX8_goes_3 20 rfl rfl)
theorem dX8_goes_91 : decode cX8_goes 91 = .ok (.if_icmp .ne 6, 3) := dk_160 0 6 (dk_at dksX8_goes_3 21 rfl rfl)
theorem dX8_goes_94 : decode cX8_goes 94 = .ok (.goto 77, 3) := dk_167 0 77 (dk_at dksX8_goes_4 0 rfl rfl)
theorem dX8_goes_97 : decode cX8_goes 97 = .ok (.aload_n 0, 1) := dk_42 (dk_at dksX8_goes_4 3 rfl rfl)
theorem dX8_goes_98 : decode cX8_goes 98 = .ok (.getfield 3, 3) := dk_180 0 3 (dk_at dksX8_goes_4 4 rfl rfl)
theorem dX8_goes_101 : decode cX8_goes 101 = .ok (.getfield 38, 3) := dk_180 0 38 (dk_at dksX8_goes_4 7 rfl rfl)
theorem dX8_goes_104 : decode cX8_goes 104 = .ok (.aload_n 0, 1) := dk_42 (dk_at dksX8_goes_4 10 rfl rfl)
theorem dX8_goes_105 : decode cX8_goes 105 = .ok (.getfield 3, 3) := dk_180 0 3 (dk_at dksX8_goes_4 11 rfl rfl)
theorem dX8_goes_108 : decode cX8_goes 108 = .ok (.getfield 22, 3) := dk_180 0 22 (dk_at dksX8_goes_4 14 rfl rfl)
theorem dX8_goes_111 : decode cX8_goes 111 = .ok (.getfield 26, 3) := dk_180 0 26 (dk_at dksX8_goes_4 17 rfl rfl)
theorem dX8_goes_114 : decode cX8_goes 114 = .ok (.iload 4, 2) := dk_21 4 (dk_at dksX8_goes_4 20 rfl rfl)
theorem dX8_goes_116 : decode cX8_goes 116 = .ok (.invokevirtual 65, 3) := dk_182 0 65 (dk_at dksX8_goes_5 0 rfl rfl)
theorem dX8_goes_119 : decode cX8_goes 119 = .ok (.checkcast 69, 3) := dk_192 0 69 (dk_at dksX8_goes_5 3 rfl rfl)
theorem dX8_goes_122 : decode cX8_goes 122 = .ok (.getfield 71, 3) := dk_180 0 71 (dk_at dksX8_goes_5 6 rfl rfl)
theorem dX8_goes_125 : decode cX8_goes 125 = .ok (.aload_n 0, 1) := dk_42 (dk_at dksX8_goes_5 9 rfl rfl)
theorem dX8_goes_126 : decode cX8_goes 126 = .ok (.getfield 3, 3) := dk_180 0 3 (dk_at dksX8_goes_5 10 rfl rfl)
theorem dX8_goes_129 : decode cX8_goes 129 = .ok (.getfield 22, 3) := dk_180 0 22 (dk_at dksX8_goes_5 13 rfl rfl)
theorem dX8_goes_132 : decode cX8_goes 132 = .ok (.getfield 26, 3) := dk_180 0 26 (dk_at dksX8_goes_5 16 rfl rfl)
theorem dX8_goes_135 : decode cX8_goes 135 = .ok (.iload 4, 2) := dk_21 4 (dk_at dksX8_goes_5 19 rfl rfl)
theorem dX8_goes_137 : decode cX8_goes 137 = .ok (.invokevirtual 65, 3) := dk_182 0 65 (dk_at dksX8_goes_5 21 rfl rfl)
theorem dX8_goes_140 : decode cX8_goes 140 = .ok (.checkcast 69, 3) := dk_192 0 69 (dk_at dksX8_goes_6 0 rfl rfl)
theorem dX8_goes_143 : decode cX8_goes 143 = .ok (.getfield 74, 3) := dk_180 0 74 (dk_at dksX8_goes_6 3 rfl rfl)
theorem dX8_goes_146 : decode cX8_goes 146 = .ok (.iload_n 1, 1) := dk_27 (dk_at dksX8_goes_6 6 rfl rfl)
theorem dX8_goes_147 : decode cX8_goes 147 = .ok (.invokevirtual 78, 3) := dk_182 0 78 (dk_at dksX8_goes_6 7 rfl rfl)
theorem dX8_goes_150 : decode cX8_goes 150 = .ok (.aload_n 0, 1) := dk_42 (dk_at dksX8_goes_6 10 rfl rfl)
theorem dX8_goes_151 : decode cX8_goes 151 = .ok (.getfield 15, 3) := dk_180 0 15 (dk_at dksX8_goes_6 11 rfl rfl)
theorem dX8_goes_154 : decode cX8_goes 154 = .ok (.iload_n 1, 1) := dk_27 (dk_at dksX8_goes_6 14 rfl rfl)
theorem dX8_goes_155 : decode cX8_goes 155 = .ok (.iload 4, 2) := dk_21 4 (dk_at dksX8_goes_6 15 rfl rfl)
theorem dX8_goes_157 : decode cX8_goes 157 = .ok (.iastore, 1) := dk_79 (dk_at dksX8_goes_6 17 rfl rfl)
theorem dX8_goes_158 : decode cX8_goes 158 = .ok (.aload_n 0, 1) := dk_42 (dk_at dksX8_goes_6 18 rfl rfl)
theorem dX8_goes_159 : decode cX8_goes 159 = .ok (.iload_n 1, 1) := dk_27 (dk_at dksX8_goes_6 19 rfl rfl)
theorem dX8_goes_160 : decode cX8_goes 160 = .ok (.iconst 1, 1) := dk_4 (dk_at dksX8_goes_6 20 rfl rfl)
theorem dX8_goes_161 : decode cX8_goes 161 = .ok (.iadd, 1) := dk_96 (dk_at dksX8_goes_6 21 rfl rfl)
theorem dX8_goes_162 : decode cX8_goes 162 = .ok (.iload_n 2, 1) := dk_28 (dk_at dksX8_goes_6 22 rfl rfl)
theorem dX8_goes_163 : decode cX8_goes 163 = .ok (.iconst 1, 1) := dk_4 (dk_at dksX8_goes_6 23 rfl rfl)
theorem dX8_goes_164 : decode cX8_goes 164 = .ok (.iload 4, 2) := dk_21 4 (dk_at dksX8_goes_7 0 rfl rfl)
theorem dX8_goes_166 : decode cX8_goes 166 = .ok (.ishl, 1) := dk_120 (dk_at dksX8_goes_7 2 rfl rfl)
theorem dX8_goes_167 : decode cX8_goes 167 = .ok (.ior, 1) := dk_128 (dk_at dksX8_goes_7 3 rfl rfl)
theorem dX8_goes_168 : decode cX8_goes 168 = .ok (.invokevirtual 82, 3) := dk_182 0 82 (dk_at dksX8_goes_7 4 rfl rfl)
theorem dX8_goes_171 : decode cX8_goes 171 = .ok (.iinc 4 1, 3) := dk_132 4 1 (dk_at dksX8_goes_7 7 rfl rfl)
theorem dX8_goes_174 : decode cX8_goes 174 = .ok (.goto (-96), 3) := dk_167 255 160 (dk_at dksX8_goes_7 10 rfl rfl)
theorem dX8_goes_177 : decode cX8_goes 177 = .ok (.return_, 1) := dk_177 (dk_at dksX8_goes_7 13 rfl rfl)
theorem q116 : (Jvm.Cond.initialized "TwoSlips$Orders") ∈ lw_all := lw_g (lw_at lw_m1 11 rfl) rfl
theorem q209 : (Jvm.Cond.fieldLinkNest "TwoSlips$Orders" (26 : Nat) "TwoSlips$Talk" "turns" "Ljava/util/ArrayList;" "TwoSlips") ∈ lw_tbl := lw_at lw_m1 104 rfl
theorem q269 : (Jvm.Cond.fieldLinkNest "TwoSlips$Orders" (42 : Nat) "TwoSlips$Course" "left" "[[J" "TwoSlips") ∈ lw_tbl := lw_at lw_m1 164 rfl
theorem q407 : (Jvm.Cond.instantiable "TwoSlips$Orders" (5 : Nat)) ∈ lw_all := lw_g (lw_at lw_m2 62 rfl) rfl
theorem q409 : (Jvm.Cond.instanceMethod ({ cls := "TwoSlips$Orders", name := "<init>", desc := "(LTwoSlips;)V" } : Jvm.MethodName)) ∈ lw_all := lw_g (lw_at lw_m2 64 rfl) rfl
theorem q410 : (Jvm.Cond.code ({ cls := "TwoSlips$Orders", name := "<init>", desc := "(LTwoSlips;)V" } : Jvm.MethodName) prog_12_method_1_code (2 : Nat) (Option.none : Option Jvm.ClassFile.FieldType)) ∈ lw_all := lw_g (lw_at lw_m2 65 rfl) rfl
theorem q411 : (Jvm.Cond.methodLink "TwoSlips$Orders" (9 : Nat) ({ cls := "java/lang/Object", name := "<init>", desc := "()V" } : Jvm.MethodName)) ∈ lw_all := lw_g (lw_at lw_m2 66 rfl) rfl
theorem q412 : (Jvm.Cond.fieldLink "TwoSlips$Orders" (15 : Nat) "TwoSlips$Orders" "now" "[I") ∈ lw_all := lw_g (lw_at lw_m2 67 rfl) rfl
theorem q413 : (Jvm.Cond.fieldLink "TwoSlips$Orders" (19 : Nat) "TwoSlips$Orders" "first" "[I") ∈ lw_all := lw_g (lw_at lw_m2 68 rfl) rfl
theorem q415 : (Jvm.Cond.fieldLink "TwoSlips$Orders" (56 : Nat) "TwoSlips$Orders" "found" "I") ∈ lw_all := lw_g (lw_at lw_m2 70 rfl) rfl
theorem q416 : (Jvm.Cond.fieldLink "TwoSlips$Orders" (48 : Nat) "TwoSlips$Orders" "world" "I") ∈ lw_all := lw_g (lw_at lw_m2 71 rfl) rfl
theorem q417 : (Jvm.Cond.fieldLink "TwoSlips$Orders" (3 : Nat) "TwoSlips$Orders" "this$0" "LTwoSlips;") ∈ lw_all := lw_g (lw_at lw_m2 72 rfl) rfl
theorem q418 : (Jvm.Cond.laysFinal "TwoSlips$Orders" "TwoSlips$Orders" "now" "[I") ∈ lw_all := lw_g (lw_at lw_m2 73 rfl) rfl
theorem q419 : (Jvm.Cond.soleField "TwoSlips$Orders" "now") ∈ lw_all := lw_g (lw_at lw_m2 74 rfl) rfl
theorem q420 : (Jvm.Cond.laysFinal "TwoSlips$Orders" "TwoSlips$Orders" "first" "[I") ∈ lw_all := lw_g (lw_at lw_m2 75 rfl) rfl
theorem q421 : (Jvm.Cond.soleField "TwoSlips$Orders" "first") ∈ lw_all := lw_g (lw_at lw_m2 76 rfl) rfl
theorem q422 : (Jvm.Cond.lays "TwoSlips$Orders" "TwoSlips$Orders" "found" "I") ∈ lw_all := lw_g (lw_at lw_m2 77 rfl) rfl
theorem q423 : (Jvm.Cond.soleField "TwoSlips$Orders" "found") ∈ lw_all := lw_g (lw_at lw_m2 78 rfl) rfl
theorem q424 : (Jvm.Cond.lays "TwoSlips$Orders" "TwoSlips$Orders" "world" "I") ∈ lw_all := lw_g (lw_at lw_m2 79 rfl) rfl
theorem q425 : (Jvm.Cond.soleField "TwoSlips$Orders" "world") ∈ lw_all := lw_g (lw_at lw_m2 80 rfl) rfl
theorem q426 : (Jvm.Cond.laysFinal "TwoSlips$Orders" "TwoSlips$Orders" "this$0" "LTwoSlips;") ∈ lw_all := lw_g (lw_at lw_m2 81 rfl) rfl
theorem q427 : (Jvm.Cond.soleField "TwoSlips$Orders" "this$0") ∈ lw_all := lw_g (lw_at lw_m2 82 rfl) rfl
theorem q428 : (Jvm.Cond.superclass "TwoSlips$Orders" "java/lang/Object") ∈ lw_all := lw_g (lw_at lw_m2 83 rfl) rfl
theorem q441 : (Jvm.Cond.fieldLinkNest "TwoSlips$Orders" (22 : Nat) "TwoSlips" "talk" "LTwoSlips$Talk;" "TwoSlips") ∈ lw_tbl := lw_at lw_m2 96 rfl
theorem q446 : (Jvm.Cond.fieldLinkNest "TwoSlips$Orders" (38 : Nat) "TwoSlips" "tried" "LTwoSlips$Course;" "TwoSlips") ∈ lw_tbl := lw_at lw_m2 101 rfl
theorem q1167 : (Jvm.Cond.selects "TwoSlips$Orders" ({ cls := "java/lang/Object", name := "getClass", desc := "()Ljava/lang/Class;" } : Jvm.MethodName) ({ cls := "java/lang/Object", name := "getClass", desc := "()Ljava/lang/Class;" } : Jvm.MethodName)) ∈ lw_all := lw_g (lw_at lw_m5 102 rfl) rfl
theorem q1344 : (Jvm.Cond.fieldLinkNest "TwoSlips$Orders" (71 : Nat) "TwoSlips$Turn" "speaker" "I" "TwoSlips") ∈ lw_tbl := lw_at lw_m6 39 rfl
theorem q1348 : (Jvm.Cond.fieldLinkNest "TwoSlips$Orders" (74 : Nat) "TwoSlips$Turn" "saying" "LTwoSlips$Saying;" "TwoSlips") ∈ lw_tbl := lw_at lw_m6 43 rfl
theorem q1665 : (Jvm.Cond.instanceMethod ({ cls := "TwoSlips$Orders", name := "finds", desc := "(I)I" } : Jvm.MethodName)) ∈ lw_all := lw_g (lw_at lw_m7 120 rfl) rfl
theorem q1666 : (Jvm.Cond.selects "TwoSlips$Orders" ({ cls := "TwoSlips$Orders", name := "finds", desc := "(I)I" } : Jvm.MethodName) ({ cls := "TwoSlips$Orders", name := "finds", desc := "(I)I" } : Jvm.MethodName)) ∈ lw_all := lw_g (lw_at lw_m7 121 rfl) rfl
theorem q1667 : (Jvm.Cond.code ({ cls := "TwoSlips$Orders", name := "finds", desc := "(I)I" } : Jvm.MethodName) prog_12_method_3_code (2 : Nat) (Option.some Jvm.ClassFile.FieldType.int)) ∈ lw_all := lw_g (lw_at lw_m7 122 rfl) rfl
theorem q1668 : (Jvm.Cond.methodLinkNest "TwoSlips$Orders" (86 : Nat) ({ cls := "TwoSlips", name := "fresh", desc := "()LTwoSlips$Course;" } : Jvm.MethodName) "TwoSlips") ∈ lw_tbl := lw_at lw_m7 123 rfl
theorem q1669 : (Jvm.Cond.methodLink "TwoSlips$Orders" (82 : Nat) ({ cls := "TwoSlips$Orders", name := "goes", desc := "(II)V" } : Jvm.MethodName)) ∈ lw_all := lw_g (lw_at lw_m7 124 rfl) rfl
theorem q1670 : (Jvm.Cond.privateMethod ({ cls := "TwoSlips$Orders", name := "goes", desc := "(II)V" } : Jvm.MethodName)) ∈ lw_tbl := lw_at lw_m7 125 rfl
theorem q1671 : (Jvm.Cond.instanceMethod ({ cls := "TwoSlips$Orders", name := "goes", desc := "(II)V" } : Jvm.MethodName)) ∈ lw_all := lw_g (lw_at lw_m7 126 rfl) rfl
theorem q1672 : (Jvm.Cond.code ({ cls := "TwoSlips$Orders", name := "goes", desc := "(II)V" } : Jvm.MethodName) prog_12_method_2_code (5 : Nat) (Option.none : Option Jvm.ClassFile.FieldType)) ∈ lw_all := lw_g (lw_at lw_m7 127 rfl) rfl
theorem q1673 : (Jvm.Cond.methodLink "TwoSlips$Orders" (32 : Nat) ({ cls := "java/util/ArrayList", name := "size", desc := "()I" } : Jvm.MethodName)) ∈ lw_all := lw_g (lw_at lw_m7 128 rfl) rfl
theorem q1674 : (Jvm.Cond.methodLinkNest "TwoSlips$Orders" (52 : Nat) ({ cls := "TwoSlips", name := "has", desc := "([JI)Z" } : Jvm.MethodName) "TwoSlips") ∈ lw_tbl := lw_at lw_m7 129 rfl
theorem q1675 : (Jvm.Cond.methodLink "TwoSlips$Orders" (59 : Nat) ({ cls := "java/lang/System", name := "arraycopy", desc := "(Ljava/lang/Object;ILjava/lang/Object;II)V" } : Jvm.MethodName)) ∈ lw_all := lw_g (lw_at lw_m7 130 rfl) rfl
theorem q1676 : (Jvm.Cond.methodLink "TwoSlips$Orders" (65 : Nat) ({ cls := "java/util/ArrayList", name := "get", desc := "(I)Ljava/lang/Object;" } : Jvm.MethodName)) ∈ lw_all := lw_g (lw_at lw_m7 131 rfl) rfl
theorem q1677 : (Jvm.Cond.classLink "TwoSlips$Orders" (69 : Nat) "TwoSlips$Turn") ∈ lw_all := lw_g (lw_at lw_m7 132 rfl) rfl
theorem q1678 : (Jvm.Cond.methodLink "TwoSlips$Orders" (78 : Nat) ({ cls := "TwoSlips$Course", name := "says", desc := "(ILTwoSlips$Saying;I)V" } : Jvm.MethodName)) ∈ lw_all := lw_g (lw_at lw_m7 133 rfl) rfl
theorem q2433 : (Jvm.Cond.castable "TwoSlips$Orders" "java/lang/Object") ∈ lw_tbl := lw_at lw_m10 168 rfl
theorem in_X8 : ∀ w ∈ wsX80, w ∈ lw_all := lw_in wsX80 [418, 420, 422, 424, 426] (by decide +kernel) (by decide +kernel)

/-! TwoSlips$Tray -/
set_option maxRecDepth 100000
def RX9 : String := "TwoSlips$Tray"
def TX9 : u_T := fun k => match k with
  | _ => ("TwoSlips$Tray", "row", "Ljava/lang/Object;", false)
def tyX9 : Nat → FieldType := fun k => match k with
  | _ => .object "java/lang/Object"
abbrev wsX90 : List Cond := u_ws RX9 TX9 1
theorem nmX9 : ∀ a, a < 1 → ∀ b, b < 1 → a ≠ b → (TX9 a).2.1 ≠ (TX9 b).2.1 := by decide +kernel
theorem tyX9_ok : ∀ k, k < 1 → parseFieldDescriptor (TX9 k).2.2.1 = some (tyX9 k) := by decide +kernel
abbrev cX9_init : ByteArray := prog_29_method_1_code
def yX9_init : MethodName := ⟨RX9, "<init>", "()V"⟩
theorem dX9_init_0 : decode cX9_init 0 = .ok (.aload_n 0, 1) := by decide +kernel
theorem dX9_init_1 : decode cX9_init 1 = .ok (.invokespecial 1, 3) := by decide +kernel
theorem dX9_init_4 : decode cX9_init 4 = .ok (.return_, 1) := by decide +kernel
abbrev cX9_size : ByteArray := prog_29_method_5_code
def yX9_size : MethodName := ⟨RX9, "size", "()I"⟩
def dkwX9_size_2 : List UInt8 := [153, 0, 12, 42, 180, 0, 7, 192, 0, 17, 190, 172, 42, 180, 0, 7, 192, 0, 19, 190, 172]
abbrev dktX9_size_2 : List UInt8 := dkwX9_size_2 ++ []
def dkwX9_size_1 : List UInt8 := [193, 0, 15, 153, 0, 12, 42, 180, 0, 7, 192, 0, 15, 190, 172, 42, 180, 0, 7, 193, 0, 17]
abbrev dktX9_size_1 : List UInt8 := dkwX9_size_1 ++ dktX9_size_2
def dkwX9_size_0 : List UInt8 := [42, 180, 0, 7, 193, 0, 13, 153, 0, 12, 42, 180, 0, 7, 192, 0, 13, 190, 172, 42, 180, 0, 7]
abbrev dktX9_size_0 : List UInt8 := dkwX9_size_0 ++ dktX9_size_1
theorem dksX9_size_0 : cX9_size.data.toList.drop 0 = dktX9_size_0 := by decide +kernel
theorem dksX9_size_1 : cX9_size.data.toList.drop 23 = dktX9_size_1 := dk_seg dksX9_size_0 23 rfl rfl
theorem dksX9_size_2 : cX9_size.data.toList.drop 45 = dktX9_size_2 := dk_seg dksX9_size_1 22 rfl rfl
theorem dX9_size_0 : decode cX9_size 0 = .ok (.aload_n 0, 1) := dk_42 (dk_at dksX9_size_0 0 rfl rfl)
theorem dX9_size_1 : decode cX9_size 1 = .ok (.getfield 7, 3) := dk_180 0 7 (dk_at dksX9_size_0 1 rfl rfl)
theorem dX9_size_4 : decode cX9_size 4 = .ok (.instanceof 13, 3) := dk_193 0 13 (dk_at dksX9_size_0 4 rfl rfl)
theorem dX9_size_7 : decode cX9_size 7 = .ok (.ifCond .eq 12, 3) := dk_153 0 12 (dk_at dksX9_size_0 7 rfl rfl)
theorem dX9_size_10 : decode cX9_size 10 = .ok (.aload_n 0, 1) := dk_42 (dk_at dksX9_size_0 10 rfl rfl)
theorem dX9_size_11 : decode cX9_size 11 = .ok (.getfield 7, 3) := dk_180 0 7 (dk_at dksX9_size_0 11 rfl rfl)
theorem dX9_size_14 : decode cX9_size 14 = .ok (.checkcast 13, 3) := dk_192 0 13 (dk_at dksX9_size_0 14 rfl rfl)
theorem dX9_size_17 : decode cX9_size 17 = .ok (.arraylength, 1) := dk_190 (dk_at dksX9_size_0 17 rfl rfl)
theorem dX9_size_18 : decode cX9_size 18 = .ok (.ireturn, 1) := dk_172 (dk_at dksX9_size_0 18 rfl rfl)
theorem dX9_size_19 : decode cX9_size 19 = .ok (.aload_n 0, 1) := dk_42 (dk_at dksX9_size_0 19 rfl rfl)
theorem dX9_size_20 : decode cX9_size 20 = .ok (.getfield 7, 3) := dk_180 0 7 (dk_at dksX9_size_0 20 rfl rfl)
theorem dX9_size_23 : decode cX9_size 23 = .ok (.instanceof 15, 3) := dk_193 0 15 (dk_at dksX9_size_1 0 rfl rfl)
theorem dX9_size_26 : decode cX9_size 26 = .ok (.ifCond .eq 12, 3) := dk_153 0 12 (dk_at dksX9_size_1 3 rfl rfl)
theorem dX9_size_29 : decode cX9_size 29 = .ok (.aload_n 0, 1) := dk_42 (dk_at dksX9_size_1 6 rfl rfl)
theorem dX9_size_30 : decode cX9_size 30 = .ok (.getfield 7, 3) := dk_180 0 7 (dk_at dksX9_size_1 7 rfl rfl)
theorem dX9_size_33 : decode cX9_size 33 = .ok (.checkcast 15, 3) := dk_192 0 15 (dk_at dksX9_size_1 10 rfl rfl)
theorem dX9_size_36 : decode cX9_size 36 = .ok (.arraylength, 1) := dk_190 (dk_at dksX9_size_1 13 rfl rfl)
theorem dX9_size_37 : decode cX9_size 37 = .ok (.ireturn, 1) := dk_172 (dk_at dksX9_size_1 14 rfl rfl)
theorem dX9_size_38 : decode cX9_size 38 = .ok (.aload_n 0, 1) := dk_42 (dk_at dksX9_size_1 15 rfl rfl)
theorem dX9_size_39 : decode cX9_size 39 = .ok (.getfield 7, 3) := dk_180 0 7 (dk_at dksX9_size_1 16 rfl rfl)
theorem dX9_size_42 : decode cX9_size 42 = .ok (.instanceof 17, 3) := dk_193 0 17 (dk_at dksX9_size_1 19 rfl rfl)
theorem dX9_size_45 : decode cX9_size 45 = .ok (.ifCond .eq 12, 3) := dk_153 0 12 (dk_at dksX9_size_2 0 rfl rfl)
theorem dX9_size_48 : decode cX9_size 48 = .ok (.aload_n 0, 1) := dk_42 (dk_at dksX9_size_2 3 rfl rfl)
theorem dX9_size_49 : decode cX9_size 49 = .ok (.getfield 7, 3) := dk_180 0 7 (dk_at dksX9_size_2 4 rfl rfl)
theorem dX9_size_52 : decode cX9_size 52 = .ok (.checkcast 17, 3) := dk_192 0 17 (dk_at dksX9_size_2 7 rfl rfl)
theorem dX9_size_55 : decode cX9_size 55 = .ok (.arraylength, 1) := dk_190 (dk_at dksX9_size_2 10 rfl rfl)
theorem dX9_size_56 : decode cX9_size 56 = .ok (.ireturn, 1) := dk_172 (dk_at dksX9_size_2 11 rfl rfl)
theorem dX9_size_57 : decode cX9_size 57 = .ok (.aload_n 0, 1) := dk_42 (dk_at dksX9_size_2 12 rfl rfl)
theorem dX9_size_58 : decode cX9_size 58 = .ok (.getfield 7, 3) := dk_180 0 7 (dk_at dksX9_size_2 13 rfl rfl)
theorem dX9_size_61 : decode cX9_size 61 = .ok (.checkcast 19, 3) := dk_192 0 19 (dk_at dksX9_size_2 16 rfl rfl)
theorem dX9_size_64 : decode cX9_size 64 = .ok (.arraylength, 1) := dk_190 (dk_at dksX9_size_2 19 rfl rfl)
theorem dX9_size_65 : decode cX9_size 65 = .ok (.ireturn, 1) := dk_172 (dk_at dksX9_size_2 20 rfl rfl)
abbrev cX9_at : ByteArray := prog_29_method_3_code
def yX9_at : MethodName := ⟨RX9, "at", "(I)J"⟩
def dkwX9_at_3 : List UInt8 := [27, 47, 173]
abbrev dktX9_at_3 : List UInt8 := dkwX9_at_3 ++ []
def dkwX9_at_2 : List UInt8 := [193, 0, 17, 153, 0, 14, 42, 180, 0, 7, 192, 0, 17, 27, 46, 133, 173, 42, 180, 0, 7, 192, 0, 19]
abbrev dktX9_at_2 : List UInt8 := dkwX9_at_2 ++ dktX9_at_3
def dkwX9_at_1 : List UInt8 := [180, 0, 7, 193, 0, 15, 153, 0, 14, 42, 180, 0, 7, 192, 0, 15, 27, 53, 133, 173, 42, 180, 0, 7]
abbrev dktX9_at_1 : List UInt8 := dkwX9_at_1 ++ dktX9_at_2
def dkwX9_at_0 : List UInt8 := [42, 180, 0, 7, 193, 0, 13, 153, 0, 14, 42, 180, 0, 7, 192, 0, 13, 27, 51, 133, 173, 42]
abbrev dktX9_at_0 : List UInt8 := dkwX9_at_0 ++ dktX9_at_1
theorem dksX9_at_0 : cX9_at.data.toList.drop 0 = dktX9_at_0 := by decide +kernel
theorem dksX9_at_1 : cX9_at.data.toList.drop 22 = dktX9_at_1 := dk_seg dksX9_at_0 22 rfl rfl
theorem dksX9_at_2 : cX9_at.data.toList.drop 46 = dktX9_at_2 := dk_seg dksX9_at_1 24 rfl rfl
theorem dksX9_at_3 : cX9_at.data.toList.drop 70 = dktX9_at_3 := dk_seg dksX9_at_2 24 rfl rfl
theorem dX9_at_0 : decode cX9_at 0 = .ok (.aload_n 0, 1) := dk_42 (dk_at dksX9_at_0 0 rfl rfl)
theorem dX9_at_1 : decode cX9_at 1 = .ok (.getfield 7, 3) := dk_180 0 7 (dk_at dksX9_at_0 1 rfl rfl)
theorem dX9_at_4 : decode cX9_at 4 = .ok (.instanceof 13, 3) := dk_193 0 13 (dk_at dksX9_at_0 4 rfl rfl)
theorem dX9_at_7 : decode cX9_at 7 = .ok (.ifCond .eq 14, 3) := dk_153 0 14 (dk_at dksX9_at_0 7 rfl rfl)
theorem dX9_at_10 : decode cX9_at 10 = .ok (.aload_n 0, 1) := dk_42 (dk_at dksX9_at_0 10 rfl rfl)
theorem dX9_at_11 : decode cX9_at 11 = .ok (.getfield 7, 3) := dk_180 0 7 (dk_at dksX9_at_0 11 rfl rfl)
theorem dX9_at_14 : decode cX9_at 14 = .ok (.checkcast 13, 3) := dk_192 0 13 (dk_at dksX9_at_0 14 rfl rfl)
theorem dX9_at_17 : decode cX9_at 17 = .ok (.iload_n 1, 1) := dk_27 (dk_at dksX9_at_0 17 rfl rfl)
theorem dX9_at_18 : decode cX9_at 18 = .ok (.baload, 1) := dk_51 (dk_at dksX9_at_0 18 rfl rfl)
theorem dX9_at_19 : decode cX9_at 19 = .ok (.i2l, 1) := dk_133 (dk_at dksX9_at_0 19 rfl rfl)
theorem dX9_at_20 : decode cX9_at 20 = .ok (.lreturn, 1) := dk_173 (dk_at dksX9_at_0 20 rfl rfl)
theorem dX9_at_21 : decode cX9_at 21 = .ok (.aload_n 0, 1) := dk_42 (dk_at dksX9_at_0 21 rfl rfl)
theorem dX9_at_22 : decode cX9_at 22 = .ok (.getfield 7, 3) := dk_180 0 7 (dk_at dksX9_at_1 0 rfl rfl)
theorem dX9_at_25 : decode cX9_at 25 = .ok (.instanceof 15, 3) := dk_193 0 15 (dk_at dksX9_at_1 3 rfl rfl)
theorem dX9_at_28 : decode cX9_at 28 = .ok (.ifCond .eq 14, 3) := dk_153 0 14 (dk_at dksX9_at_1 6 rfl rfl)
theorem dX9_at_31 : decode cX9_at 31 = .ok (.aload_n 0, 1) := dk_42 (dk_at dksX9_at_1 9 rfl rfl)
theorem dX9_at_32 : decode cX9_at 32 = .ok (.getfield 7, 3) := dk_180 0 7 (dk_at dksX9_at_1 10 rfl rfl)
theorem dX9_at_35 : decode cX9_at 35 = .ok (.checkcast 15, 3) := dk_192 0 15 (dk_at dksX9_at_1 13 rfl rfl)
theorem dX9_at_38 : decode cX9_at 38 = .ok (.iload_n 1, 1) := dk_27 (dk_at dksX9_at_1 16 rfl rfl)
theorem dX9_at_39 : decode cX9_at 39 = .ok (.saload, 1) := dk_53 (dk_at dksX9_at_1 17 rfl rfl)
theorem dX9_at_40 : decode cX9_at 40 = .ok (.i2l, 1) := dk_133 (dk_at dksX9_at_1 18 rfl rfl)
theorem dX9_at_41 : decode cX9_at 41 = .ok (.lreturn, 1) := dk_173 (dk_at dksX9_at_1 19 rfl rfl)
theorem dX9_at_42 : decode cX9_at 42 = .ok (.aload_n 0, 1) := dk_42 (dk_at dksX9_at_1 20 rfl rfl)
theorem dX9_at_43 : decode cX9_at 43 = .ok (.getfield 7, 3) := dk_180 0 7 (dk_at dksX9_at_1 21 rfl rfl)
theorem dX9_at_46 : decode cX9_at 46 = .ok (.instanceof 17, 3) := dk_193 0 17 (dk_at dksX9_at_2 0 rfl rfl)
theorem dX9_at_49 : decode cX9_at 49 = .ok (.ifCond .eq 14, 3) := dk_153 0 14 (dk_at dksX9_at_2 3 rfl rfl)
theorem dX9_at_52 : decode cX9_at 52 = .ok (.aload_n 0, 1) := dk_42 (dk_at dksX9_at_2 6 rfl rfl)
theorem dX9_at_53 : decode cX9_at 53 = .ok (.getfield 7, 3) := dk_180 0 7 (dk_at dksX9_at_2 7 rfl rfl)
theorem dX9_at_56 : decode cX9_at 56 = .ok (.checkcast 17, 3) := dk_192 0 17 (dk_at dksX9_at_2 10 rfl rfl)
theorem dX9_at_59 : decode cX9_at 59 = .ok (.iload_n 1, 1) := dk_27 (dk_at dksX9_at_2 13 rfl rfl)
theorem dX9_at_60 : decode cX9_at 60 = .ok (.iaload, 1) := dk_46 (dk_at dksX9_at_2 14 rfl rfl)
theorem dX9_at_61 : decode cX9_at 61 = .ok (.i2l, 1) := dk_133 (dk_at dksX9_at_2 15 rfl rfl)
theorem dX9_at_62 : decode cX9_at 62 = .ok (.lreturn, 1) := dk_173 (dk_at dksX9_at_2 16 rfl rfl)
theorem dX9_at_63 : decode cX9_at 63 = .ok (.aload_n 0, 1) := dk_42 (dk_at dksX9_at_2 17 rfl rfl)
theorem dX9_at_64 : decode cX9_at 64 = .ok (.getfield 7, 3) := dk_180 0 7 (dk_at dksX9_at_2 18 rfl rfl)
theorem dX9_at_67 : decode cX9_at 67 = .ok (.checkcast 19, 3) := dk_192 0 19 (dk_at dksX9_at_2 21 rfl rfl)
theorem dX9_at_70 : decode cX9_at 70 = .ok (.iload_n 1, 1) := dk_27 (dk_at dksX9_at_3 0 rfl rfl)
theorem dX9_at_71 : decode cX9_at 71 = .ok (.laload, 1) := dk_47 (dk_at dksX9_at_3 1 rfl rfl)
theorem dX9_at_72 : decode cX9_at 72 = .ok (.lreturn, 1) := dk_173 (dk_at dksX9_at_3 2 rfl rfl)
abbrev cX9_make : ByteArray := prog_29_method_2_code
def yX9_make : MethodName := ⟨RX9, "make", "(II)V"⟩
def dkwX9_make_1 : List UInt8 := [160, 0, 9, 28, 188, 10, 167, 0, 6, 28, 188, 11, 181, 0, 7, 177]
abbrev dktX9_make_1 : List UInt8 := dkwX9_make_1 ++ []
def dkwX9_make_0 : List UInt8 := [42, 27, 154, 0, 9, 28, 188, 8, 167, 0, 28, 27, 4, 160, 0, 9, 28, 188, 9, 167, 0, 17, 27, 5]
abbrev dktX9_make_0 : List UInt8 := dkwX9_make_0 ++ dktX9_make_1
theorem dksX9_make_0 : cX9_make.data.toList.drop 0 = dktX9_make_0 := by decide +kernel
theorem dksX9_make_1 : cX9_make.data.toList.drop 24 = dktX9_make_1 := dk_seg dksX9_make_0 24 rfl rfl
theorem dX9_make_0 : decode cX9_make 0 = .ok (.aload_n 0, 1) := dk_42 (dk_at dksX9_make_0 0 rfl rfl)
theorem dX9_make_1 : decode cX9_make 1 = .ok (.iload_n 1, 1) := dk_27 (dk_at dksX9_make_0 1 rfl rfl)
theorem dX9_make_2 : decode cX9_make 2 = .ok (.ifCond .ne 9, 3) := dk_154 0 9 (dk_at dksX9_make_0 2 rfl rfl)
theorem dX9_make_5 : decode cX9_make 5 = .ok (.iload_n 2, 1) := dk_28 (dk_at dksX9_make_0 5 rfl rfl)
theorem dX9_make_6 : decode cX9_make 6 = .ok (.newarray .byte, 2) := dk_188_8 (dk_at dksX9_make_0 6 rfl rfl)
theorem dX9_make_8 : decode cX9_make 8 = .ok (.goto 28, 3) := dk_167 0 28 (dk_at dksX9_make_0 8 rfl rfl)
theorem dX9_make_11 : decode cX9_make 11 = .ok (.iload_n 1, 1) := dk_27 (dk_at dksX9_make_0 11 rfl rfl)
theorem dX9_make_12 : decode cX9_make 12 = .ok (.iconst 1, 1) := dk_4 (dk_at dksX9_make_0 12 rfl rfl)
theorem dX9_make_13 : decode cX9_make 13 = .ok (.if_icmp .ne 9, 3) := dk_160 0 9 (dk_at dksX9_make_0 13 rfl rfl)
theorem dX9_make_16 : decode cX9_make 16 = .ok (.iload_n 2, 1) := dk_28 (dk_at dksX9_make_0 16 rfl rfl)
theorem dX9_make_17 : decode cX9_make 17 = .ok (.newarray .short, 2) := dk_188_9 (dk_at dksX9_make_0 17 rfl rfl)
theorem dX9_make_19 : decode cX9_make 19 = .ok (.goto 17, 3) := dk_167 0 17 (dk_at dksX9_make_0 19 rfl rfl)
theorem dX9_make_22 : decode cX9_make 22 = .ok (.iload_n 1, 1) := dk_27 (dk_at dksX9_make_0 22 rfl rfl)
theorem dX9_make_23 : decode cX9_make 23 = .ok (.iconst 2, 1) := dk_5 (dk_at dksX9_make_0 23 rfl rfl)
theorem dX9_make_24 : decode cX9_make 24 = .ok (.if_icmp .ne 9, 3) := dk_160 0 9 (dk_at dksX9_make_1 0 rfl rfl)
theorem dX9_make_27 : decode cX9_make 27 = .ok (.iload_n 2, 1) := dk_28 (dk_at dksX9_make_1 3 rfl rfl)
theorem dX9_make_28 : decode cX9_make 28 = .ok (.newarray .int, 2) := dk_188_10 (dk_at dksX9_make_1 4 rfl rfl)
theorem dX9_make_30 : decode cX9_make 30 = .ok (.goto 6, 3) := dk_167 0 6 (dk_at dksX9_make_1 6 rfl rfl)
theorem dX9_make_33 : decode cX9_make 33 = .ok (.iload_n 2, 1) := dk_28 (dk_at dksX9_make_1 9 rfl rfl)
theorem dX9_make_34 : decode cX9_make 34 = .ok (.newarray .long, 2) := dk_188_11 (dk_at dksX9_make_1 10 rfl rfl)
theorem dX9_make_36 : decode cX9_make 36 = .ok (.putfield 7, 3) := dk_181 0 7 (dk_at dksX9_make_1 12 rfl rfl)
theorem dX9_make_39 : decode cX9_make 39 = .ok (.return_, 1) := dk_177 (dk_at dksX9_make_1 15 rfl rfl)
abbrev cX9_put : ByteArray := prog_29_method_4_code
def yX9_put : MethodName := ⟨RX9, "put", "(IJ)V"⟩
def dkwX9_put_3 : List UInt8 := [79, 167, 0, 13, 42, 180, 0, 7, 192, 0, 19, 27, 32, 80, 177]
abbrev dktX9_put_3 : List UInt8 := dkwX9_put_3 ++ []
def dkwX9_put_2 : List UInt8 := [86, 167, 0, 37, 42, 180, 0, 7, 193, 0, 17, 153, 0, 17, 42, 180, 0, 7, 192, 0, 17, 27, 32, 136]
abbrev dktX9_put_2 : List UInt8 := dkwX9_put_2 ++ dktX9_put_3
def dkwX9_put_1 : List UInt8 := [167, 0, 62, 42, 180, 0, 7, 193, 0, 15, 153, 0, 18, 42, 180, 0, 7, 192, 0, 15, 27, 32, 136, 147]
abbrev dktX9_put_1 : List UInt8 := dkwX9_put_1 ++ dktX9_put_2
def dkwX9_put_0 : List UInt8 := [42, 180, 0, 7, 193, 0, 13, 153, 0, 18, 42, 180, 0, 7, 192, 0, 13, 27, 32, 136, 145, 84]
abbrev dktX9_put_0 : List UInt8 := dkwX9_put_0 ++ dktX9_put_1
theorem dksX9_put_0 : cX9_put.data.toList.drop 0 = dktX9_put_0 := by decide +kernel
theorem dksX9_put_1 : cX9_put.data.toList.drop 22 = dktX9_put_1 := dk_seg dksX9_put_0 22 rfl rfl
theorem dksX9_put_2 : cX9_put.data.toList.drop 46 = dktX9_put_2 := dk_seg dksX9_put_1 24 rfl rfl
theorem dksX9_put_3 : cX9_put.data.toList.drop 70 = dktX9_put_3 := dk_seg dksX9_put_2 24 rfl rfl
theorem dX9_put_0 : decode cX9_put 0 = .ok (.aload_n 0, 1) := dk_42 (dk_at dksX9_put_0 0 rfl rfl)
theorem dX9_put_1 : decode cX9_put 1 = .ok (.getfield 7, 3) := dk_180 0 7 (dk_at dksX9_put_0 1 rfl rfl)
theorem dX9_put_4 : decode cX9_put 4 = .ok (.instanceof 13, 3) := dk_193 0 13 (dk_at dksX9_put_0 4 rfl rfl)
theorem dX9_put_7 : decode cX9_put 7 = .ok (.ifCond .eq 18, 3) := dk_153 0 18 (dk_at dksX9_put_0 7 rfl rfl)
theorem dX9_put_10 : decode cX9_put 10 = .ok (.aload_n 0, 1) := dk_42 (dk_at dksX9_put_0 10 rfl rfl)
theorem dX9_put_11 : decode cX9_put 11 = .ok (.getfield 7, 3) := dk_180 0 7 (dk_at dksX9_put_0 11 rfl rfl)
theorem dX9_put_14 : decode cX9_put 14 = .ok (.checkcast 13, 3) := dk_192 0 13 (dk_at dksX9_put_0 14 rfl rfl)
theorem dX9_put_17 : decode cX9_put 17 = .ok (.iload_n 1, 1) := dk_27 (dk_at dksX9_put_0 17 rfl rfl)
theorem dX9_put_18 : decode cX9_put 18 = .ok (.lload_n 2, 1) := dk_32 (dk_at dksX9_put_0 18 rfl rfl)
theorem dX9_put_19 : decode cX9_put 19 = .ok (.l2i, 1) := dk_136 (dk_at dksX9_put_0 19 rfl rfl)
theorem dX9_put_20 : decode cX9_put 20 = .ok (.i2b, 1) := dk_145 (dk_at dksX9_put_0 20 rfl rfl)
theorem dX9_put_21 : decode cX9_put 21 = .ok (.bastore, 1) := dk_84 (dk_at dksX9_put_0 21 rfl rfl)
theorem dX9_put_22 : decode cX9_put 22 = .ok (.goto 62, 3) := dk_167 0 62 (dk_at dksX9_put_1 0 rfl rfl)
theorem dX9_put_25 : decode cX9_put 25 = .ok (.aload_n 0, 1) := dk_42 (dk_at dksX9_put_1 3 rfl rfl)
theorem dX9_put_26 : decode cX9_put 26 = .ok (.getfield 7, 3) := dk_180 0 7 (dk_at dksX9_put_1 4 rfl rfl)
theorem dX9_put_29 : decode cX9_put 29 = .ok (.instanceof 15, 3) := dk_193 0 15 (dk_at dksX9_put_1 7 rfl rfl)
theorem dX9_put_32 : decode cX9_put 32 = .ok (.ifCond .eq 18, 3) := dk_153 0 18 (dk_at dksX9_put_1 10 rfl rfl)
theorem dX9_put_35 : decode cX9_put 35 = .ok (.aload_n 0, 1) := dk_42 (dk_at dksX9_put_1 13 rfl rfl)
theorem dX9_put_36 : decode cX9_put 36 = .ok (.getfield 7, 3) := dk_180 0 7 (dk_at dksX9_put_1 14 rfl rfl)
theorem dX9_put_39 : decode cX9_put 39 = .ok (.checkcast 15, 3) := dk_192 0 15 (dk_at dksX9_put_1 17 rfl rfl)
theorem dX9_put_42 : decode cX9_put 42 = .ok (.iload_n 1, 1) := dk_27 (dk_at dksX9_put_1 20 rfl rfl)
theorem dX9_put_43 : decode cX9_put 43 = .ok (.lload_n 2, 1) := dk_32 (dk_at dksX9_put_1 21 rfl rfl)
theorem dX9_put_44 : decode cX9_put 44 = .ok (.l2i, 1) := dk_136 (dk_at dksX9_put_1 22 rfl rfl)
theorem dX9_put_45 : decode cX9_put 45 = .ok (.i2s, 1) := dk_147 (dk_at dksX9_put_1 23 rfl rfl)
theorem dX9_put_46 : decode cX9_put 46 = .ok (.sastore, 1) := dk_86 (dk_at dksX9_put_2 0 rfl rfl)
theorem dX9_put_47 : decode cX9_put 47 = .ok (.goto 37, 3) := dk_167 0 37 (dk_at dksX9_put_2 1 rfl rfl)
theorem dX9_put_50 : decode cX9_put 50 = .ok (.aload_n 0, 1) := dk_42 (dk_at dksX9_put_2 4 rfl rfl)
theorem dX9_put_51 : decode cX9_put 51 = .ok (.getfield 7, 3) := dk_180 0 7 (dk_at dksX9_put_2 5 rfl rfl)
theorem dX9_put_54 : decode cX9_put 54 = .ok (.instanceof 17, 3) := dk_193 0 17 (dk_at dksX9_put_2 8 rfl rfl)
theorem dX9_put_57 : decode cX9_put 57 = .ok (.ifCond .eq 17, 3) := dk_153 0 17 (dk_at dksX9_put_2 11 rfl rfl)
theorem dX9_put_60 : decode cX9_put 60 = .ok (.aload_n 0, 1) := dk_42 (dk_at dksX9_put_2 14 rfl rfl)
theorem dX9_put_61 : decode cX9_put 61 = .ok (.getfield 7, 3) := dk_180 0 7 (dk_at dksX9_put_2 15 rfl rfl)
theorem dX9_put_64 : decode cX9_put 64 = .ok (.checkcast 17, 3) := dk_192 0 17 (dk_at dksX9_put_2 18 rfl rfl)
theorem dX9_put_67 : decode cX9_put 67 = .ok (.iload_n 1, 1) := dk_27 (dk_at dksX9_put_2 21 rfl rfl)
theorem dX9_put_68 : decode cX9_put 68 = .ok (.lload_n 2, 1) := dk_32 (dk_at dksX9_put_2 22 rfl rfl)
theorem dX9_put_69 : decode cX9_put 69 = .ok (.l2i, 1) := dk_136 (dk_at dksX9_put_2 23 rfl rfl)
theorem dX9_put_70 : decode cX9_put 70 = .ok (.iastore, 1) := dk_79 (dk_at dksX9_put_3 0 rfl rfl)
theorem dX9_put_71 : decode cX9_put 71 = .ok (.goto 13, 3) := dk_167 0 13 (dk_at dksX9_put_3 1 rfl rfl)
theorem dX9_put_74 : decode cX9_put 74 = .ok (.aload_n 0, 1) := dk_42 (dk_at dksX9_put_3 4 rfl rfl)
theorem dX9_put_75 : decode cX9_put 75 = .ok (.getfield 7, 3) := dk_180 0 7 (dk_at dksX9_put_3 5 rfl rfl)
theorem dX9_put_78 : decode cX9_put 78 = .ok (.checkcast 19, 3) := dk_192 0 19 (dk_at dksX9_put_3 8 rfl rfl)
theorem dX9_put_81 : decode cX9_put 81 = .ok (.iload_n 1, 1) := dk_27 (dk_at dksX9_put_3 11 rfl rfl)
theorem dX9_put_82 : decode cX9_put 82 = .ok (.lload_n 2, 1) := dk_32 (dk_at dksX9_put_3 12 rfl rfl)
theorem dX9_put_83 : decode cX9_put 83 = .ok (.lastore, 1) := dk_80 (dk_at dksX9_put_3 13 rfl rfl)
theorem dX9_put_84 : decode cX9_put 84 = .ok (.return_, 1) := dk_177 (dk_at dksX9_put_3 14 rfl rfl)
theorem q117 : (Jvm.Cond.initialized "TwoSlips$Tray") ∈ lw_all := lw_g (lw_at lw_m1 12 rfl) rfl
theorem q431 : (Jvm.Cond.instantiable "TwoSlips$Tray" (1 : Nat)) ∈ lw_all := lw_g (lw_at lw_m2 86 rfl) rfl
theorem q433 : (Jvm.Cond.instanceMethod ({ cls := "TwoSlips$Tray", name := "<init>", desc := "()V" } : Jvm.MethodName)) ∈ lw_all := lw_g (lw_at lw_m2 88 rfl) rfl
theorem q434 : (Jvm.Cond.code ({ cls := "TwoSlips$Tray", name := "<init>", desc := "()V" } : Jvm.MethodName) prog_29_method_1_code (1 : Nat) (Option.none : Option Jvm.ClassFile.FieldType)) ∈ lw_all := lw_g (lw_at lw_m2 89 rfl) rfl
theorem q435 : (Jvm.Cond.methodLink "TwoSlips$Tray" (1 : Nat) ({ cls := "java/lang/Object", name := "<init>", desc := "()V" } : Jvm.MethodName)) ∈ lw_all := lw_g (lw_at lw_m2 90 rfl) rfl
theorem q436 : (Jvm.Cond.fieldLink "TwoSlips$Tray" (7 : Nat) "TwoSlips$Tray" "row" "Ljava/lang/Object;") ∈ lw_all := lw_g (lw_at lw_m2 91 rfl) rfl
theorem q438 : (Jvm.Cond.lays "TwoSlips$Tray" "TwoSlips$Tray" "row" "Ljava/lang/Object;") ∈ lw_all := lw_g (lw_at lw_m2 93 rfl) rfl
theorem q439 : (Jvm.Cond.soleField "TwoSlips$Tray" "row") ∈ lw_all := lw_g (lw_at lw_m2 94 rfl) rfl
theorem q440 : (Jvm.Cond.superclass "TwoSlips$Tray" "java/lang/Object") ∈ lw_all := lw_g (lw_at lw_m2 95 rfl) rfl
theorem q1180 : (Jvm.Cond.selects "TwoSlips$Tray" ({ cls := "java/lang/Object", name := "getClass", desc := "()Ljava/lang/Class;" } : Jvm.MethodName) ({ cls := "java/lang/Object", name := "getClass", desc := "()Ljava/lang/Class;" } : Jvm.MethodName)) ∈ lw_all := lw_g (lw_at lw_m5 115 rfl) rfl
theorem q1724 : (Jvm.Cond.instanceMethod ({ cls := "TwoSlips$Tray", name := "size", desc := "()I" } : Jvm.MethodName)) ∈ lw_all := lw_g (lw_at lw_m7 179 rfl) rfl
theorem q1725 : (Jvm.Cond.selects "TwoSlips$Tray" ({ cls := "TwoSlips$Tray", name := "size", desc := "()I" } : Jvm.MethodName) ({ cls := "TwoSlips$Tray", name := "size", desc := "()I" } : Jvm.MethodName)) ∈ lw_all := lw_g (lw_at lw_m7 180 rfl) rfl
theorem q1726 : (Jvm.Cond.code ({ cls := "TwoSlips$Tray", name := "size", desc := "()I" } : Jvm.MethodName) prog_29_method_5_code (1 : Nat) (Option.some Jvm.ClassFile.FieldType.int)) ∈ lw_all := lw_g (lw_at lw_m7 181 rfl) rfl
theorem q1727 : (Jvm.Cond.classLink "TwoSlips$Tray" (13 : Nat) "[B") ∈ lw_all := lw_g (lw_at lw_m7 182 rfl) rfl
theorem q1728 : (Jvm.Cond.classLink "TwoSlips$Tray" (15 : Nat) "[S") ∈ lw_all := lw_g (lw_at lw_m7 183 rfl) rfl
theorem q1729 : (Jvm.Cond.classLink "TwoSlips$Tray" (17 : Nat) "[I") ∈ lw_all := lw_g (lw_at lw_m7 184 rfl) rfl
theorem q1730 : (Jvm.Cond.classLink "TwoSlips$Tray" (19 : Nat) "[J") ∈ lw_all := lw_g (lw_at lw_m7 185 rfl) rfl
theorem q1732 : (Jvm.Cond.instanceMethod ({ cls := "TwoSlips$Tray", name := "at", desc := "(I)J" } : Jvm.MethodName)) ∈ lw_all := lw_g (lw_at lw_m7 187 rfl) rfl
theorem q1733 : (Jvm.Cond.selects "TwoSlips$Tray" ({ cls := "TwoSlips$Tray", name := "at", desc := "(I)J" } : Jvm.MethodName) ({ cls := "TwoSlips$Tray", name := "at", desc := "(I)J" } : Jvm.MethodName)) ∈ lw_all := lw_g (lw_at lw_m7 188 rfl) rfl
theorem q1734 : (Jvm.Cond.code ({ cls := "TwoSlips$Tray", name := "at", desc := "(I)J" } : Jvm.MethodName) prog_29_method_3_code (2 : Nat) (Option.some Jvm.ClassFile.FieldType.long)) ∈ lw_all := lw_g (lw_at lw_m7 189 rfl) rfl
theorem q1771 : (Jvm.Cond.instanceMethod ({ cls := "TwoSlips$Tray", name := "make", desc := "(II)V" } : Jvm.MethodName)) ∈ lw_all := lw_g (lw_at lw_m7 226 rfl) rfl
theorem q1772 : (Jvm.Cond.selects "TwoSlips$Tray" ({ cls := "TwoSlips$Tray", name := "make", desc := "(II)V" } : Jvm.MethodName) ({ cls := "TwoSlips$Tray", name := "make", desc := "(II)V" } : Jvm.MethodName)) ∈ lw_all := lw_g (lw_at lw_m7 227 rfl) rfl
theorem q1773 : (Jvm.Cond.code ({ cls := "TwoSlips$Tray", name := "make", desc := "(II)V" } : Jvm.MethodName) prog_29_method_2_code (3 : Nat) (Option.none : Option Jvm.ClassFile.FieldType)) ∈ lw_all := lw_g (lw_at lw_m7 228 rfl) rfl
theorem q1822 : (Jvm.Cond.instanceMethod ({ cls := "TwoSlips$Tray", name := "put", desc := "(IJ)V" } : Jvm.MethodName)) ∈ lw_all := lw_g (lw_at lw_m8 37 rfl) rfl
theorem q1823 : (Jvm.Cond.selects "TwoSlips$Tray" ({ cls := "TwoSlips$Tray", name := "put", desc := "(IJ)V" } : Jvm.MethodName) ({ cls := "TwoSlips$Tray", name := "put", desc := "(IJ)V" } : Jvm.MethodName)) ∈ lw_all := lw_g (lw_at lw_m8 38 rfl) rfl
theorem q1824 : (Jvm.Cond.code ({ cls := "TwoSlips$Tray", name := "put", desc := "(IJ)V" } : Jvm.MethodName) prog_29_method_4_code (4 : Nat) (Option.none : Option Jvm.ClassFile.FieldType)) ∈ lw_all := lw_g (lw_at lw_m8 39 rfl) rfl
theorem q2426 : (Jvm.Cond.castable "TwoSlips$Tray" "java/lang/Object") ∈ lw_tbl := lw_at lw_m10 161 rfl
theorem in_X9 : ∀ w ∈ wsX90, w ∈ lw_all := lw_in wsX90 [438] (by decide +kernel) (by decide +kernel)

