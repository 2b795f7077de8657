theorem q250 : (Jvm.Cond.arrayOver (Jvm.ClassFile.FieldType.array Jvm.ClassFile.FieldType.int)) ∈ lw_tbl := lw_at lw_m1 145 rfl
set_option maxRecDepth 100000
theorem q252 : (Jvm.Cond.arrayOver (Jvm.ClassFile.FieldType.array Jvm.ClassFile.FieldType.long)) ∈ lw_tbl := lw_at lw_m1 147 rfl
theorem q303 : (Jvm.Cond.arrayClass Jvm.ClassFile.FieldType.int) ∈ lw_all := lw_g (lw_at lw_m1 198 rfl) rfl
theorem q304 : (Jvm.Cond.arrayClass Jvm.ClassFile.FieldType.long) ∈ lw_all := lw_g (lw_at lw_m1 199 rfl) rfl
theorem q305 : (Jvm.Cond.arrayOver (Jvm.ClassFile.FieldType.object "TwoSlips$Talk")) ∈ lw_tbl := lw_at lw_m1 200 rfl
theorem q327 : (Jvm.Cond.arrayClass Jvm.ClassFile.FieldType.byte) ∈ lw_all := lw_g (lw_at lw_m1 222 rfl) rfl
theorem q430 : (Jvm.Cond.arrayOver (Jvm.ClassFile.FieldType.object "TwoSlips$Tray")) ∈ lw_tbl := lw_at lw_m2 85 rfl
theorem q1197 : (Jvm.Cond.arrayOver (Jvm.ClassFile.FieldType.object "java/lang/Object")) ∈ lw_tbl := lw_at lw_m5 132 rfl
theorem q1774 : (Jvm.Cond.arrayClass Jvm.ClassFile.FieldType.short) ∈ lw_all := lw_g (lw_at lw_m7 229 rfl) rfl
theorem q1967 : (Jvm.Cond.arrayClass Jvm.ClassFile.FieldType.boolean) ∈ lw_all := lw_g (lw_at lw_m8 182 rfl) rfl
/-! TwoSlipsModel -/
set_option maxRecDepth 100000
def RX10 : String := "TwoSlipsModel"
def TX10 : u_T := fun k => match k with
  | 0 => ("TwoSlipsModel", "known", "[I", true)
  | 1 => ("TwoSlipsModel", "fresh", "[I", true)
  | 2 => ("TwoSlipsModel", "saved", "[I", true)
  | 3 => ("TwoSlipsModel", "images", "[I", true)
  | 4 => ("TwoSlipsModel", "isImage", "[Z", true)
  | 5 => ("TwoSlipsModel", "thrown", "I", false)
  | 6 => ("TwoSlipsModel", "tape", "[I", true)
  | 7 => ("TwoSlipsModel", "taped", "I", false)
  | 8 => ("TwoSlipsModel", "size", "I", false)
  | 9 => ("TwoSlipsModel", "at", "I", false)
  | 10 => ("TwoSlipsModel", "begin", "I", false)
  | 11 => ("TwoSlipsModel", "token", "I", false)
  | 12 => ("TwoSlipsModel", "value", "I", false)
  | 13 => ("TwoSlipsModel", "open", "I", false)
  | 14 => ("TwoSlipsModel", "bad", "I", false)
  | 15 => ("TwoSlipsModel", "badPlace", "I", false)
  | 16 => ("TwoSlipsModel", "faultKind", "I", false)
  | 17 => ("TwoSlipsModel", "faultPlace", "I", false)
  | 18 => ("TwoSlipsModel", "xs", "[I", true)
  | 19 => ("TwoSlipsModel", "ys", "[I", true)
  | 20 => ("TwoSlipsModel", "pairs", "I", false)
  | 21 => ("TwoSlipsModel", "rows", "[J", true)
  | 22 => ("TwoSlipsModel", "top", "I", false)
  | 23 => ("TwoSlipsModel", "heaps", "[I", true)
  | 24 => ("TwoSlipsModel", "endsBehind", "[I", true)
  | 25 => ("TwoSlipsModel", "path", "[I", true)
  | 26 => ("TwoSlipsModel", "order", "[I", true)
  | 27 => ("TwoSlipsModel", "firstOrder", "[I", true)
  | 28 => ("TwoSlipsModel", "ordersMany", "I", false)
  | 29 => ("TwoSlipsModel", "tSort", "[I", true)
  | 30 => ("TwoSlipsModel", "tMany", "[I", true)
  | _ => ("TwoSlipsModel", "numbers", "[J", true)
def tyX10 : Nat → FieldType := fun k => match k with
  | 0 => .array .int
  | 1 => .array .int
  | 2 => .array .int
  | 3 => .array .int
  | 4 => .array .boolean
  | 5 => .int
  | 6 => .array .int
  | 7 => .int
  | 8 => .int
  | 9 => .int
  | 10 => .int
  | 11 => .int
  | 12 => .int
  | 13 => .int
  | 14 => .int
  | 15 => .int
  | 16 => .int
  | 17 => .int
  | 18 => .array .int
  | 19 => .array .int
  | 20 => .int
  | 21 => .array .long
  | 22 => .int
  | 23 => .array .int
  | 24 => .array .int
  | 25 => .array .int
  | 26 => .array .int
  | 27 => .array .int
  | 28 => .int
  | 29 => .array .int
  | 30 => .array .int
  | _ => .array .long
abbrev wsX100 : List Cond := u_ws RX10 TX10 32
set_option maxRecDepth 100000 in
theorem nmX10 : ∀ a, a < 32 → ∀ b, b < 32 → a ≠ b → (TX10 a).2.1 ≠ (TX10 b).2.1 := by decide +kernel
set_option maxRecDepth 100000 in
theorem tyX10_ok : ∀ k, k < 32 → parseFieldDescriptor (TX10 k).2.2.1 = some (tyX10 k) := by decide +kernel
abbrev cX10_init : ByteArray := prog_33_method_1_code
def yX10_init : MethodName := ⟨RX10, "<init>", "()V"⟩
def dkwX10_init_7 : List UInt8 := [181, 0, 64, 42, 180, 0, 9, 184, 0, 67, 177]
abbrev dktX10_init_7 : List UInt8 := dkwX10_init_7 ++ []
def dkwX10_init_6 : List UInt8 := [5, 2, 79, 89, 6, 2, 79, 181, 0, 58, 42, 7, 188, 10, 181, 0, 61, 42, 17, 0, 160, 188, 11]
abbrev dktX10_init_6 : List UInt8 := dkwX10_init_6 ++ dktX10_init_7
def dkwX10_init_5 : List UInt8 := [181, 0, 52, 42, 16, 6, 188, 10, 181, 0, 55, 42, 7, 188, 10, 89, 3, 2, 79, 89, 4, 2, 79, 89]
abbrev dktX10_init_5 : List UInt8 := dkwX10_init_5 ++ dktX10_init_6
def dkwX10_init_4 : List UInt8 := [181, 0, 43, 42, 17, 7, 38, 188, 10, 181, 0, 46, 42, 8, 188, 10, 181, 0, 49, 42, 16, 6, 188, 10]
abbrev dktX10_init_4 : List UInt8 := dkwX10_init_4 ++ dktX10_init_5
def dkwX10_init_3 : List UInt8 := [17, 7, 38, 188, 10, 181, 0, 36, 42, 17, 9, 161, 188, 11, 181, 0, 39, 42, 17, 28, 33, 188, 10]
abbrev dktX10_init_3 : List UInt8 := dkwX10_init_3 ++ dktX10_init_4
def dkwX10_init_2 : List UInt8 := [42, 17, 3, 132, 188, 10, 181, 0, 26, 42, 2, 181, 0, 29, 42, 17, 7, 38, 188, 10, 181, 0, 33, 42]
abbrev dktX10_init_2 : List UInt8 := dkwX10_init_2 ++ dktX10_init_3
def dkwX10_init_1 : List UInt8 := [17, 7, 76, 188, 10, 181, 0, 16, 42, 17, 21, 228, 188, 10, 181, 0, 19, 42, 6, 188, 4, 181, 0, 22]
abbrev dktX10_init_1 : List UInt8 := dkwX10_init_1 ++ dktX10_init_2
def dkwX10_init_0 : List UInt8 := [42, 183, 0, 3, 42, 17, 7, 76, 188, 10, 181, 0, 9, 42, 17, 7, 76, 188, 10, 181, 0, 13, 42]
abbrev dktX10_init_0 : List UInt8 := dkwX10_init_0 ++ dktX10_init_1
theorem dksX10_init_0 : cX10_init.data.toList.drop 0 = dktX10_init_0 := by decide +kernel
theorem dksX10_init_1 : cX10_init.data.toList.drop 23 = dktX10_init_1 := dk_seg dksX10_init_0 23 rfl rfl
theorem dksX10_init_2 : cX10_init.data.toList.drop 47 = dktX10_init_2 := dk_seg dksX10_init_1 24 rfl rfl
theorem dksX10_init_3 : cX10_init.data.toList.drop 71 = dktX10_init_3 := dk_seg dksX10_init_2 24 rfl rfl
theorem dksX10_init_4 : cX10_init.data.toList.drop 94 = dktX10_init_4 := dk_seg dksX10_init_3 23 rfl rfl
theorem dksX10_init_5 : cX10_init.data.toList.drop 118 = dktX10_init_5 := dk_seg dksX10_init_4 24 rfl rfl
theorem dksX10_init_6 : cX10_init.data.toList.drop 142 = dktX10_init_6 := dk_seg dksX10_init_5 24 rfl rfl
theorem dksX10_init_7 : cX10_init.data.toList.drop 165 = dktX10_init_7 := dk_seg dksX10_init_6 23 rfl rfl
theorem dX10_init_0 : decode cX10_init 0 = .ok (.aload_n 0, 1) := dk_42 (dk_at dksX10_init_0 0 rfl rfl)
theorem dX10_init_1 : decode cX10_init 1 = .ok (.invokespecial 3, 3) := dk_183 0 3 (dk_at dksX10_init_0 1 rfl rfl)
theorem dX10_init_4 : decode cX10_init 4 = .ok (.aload_n 0, 1) := dk_42 (dk_at dksX10_init_0 4 rfl rfl)
theorem dX10_init_5 : decode cX10_init 5 = .ok (.sipush 1868, 3) := dk_17 7 76 (dk_at dksX10_init_0 5 rfl rfl)
theorem dX10_init_8 : decode cX10_init 8 = .ok (.newarray .int, 2) := dk_188_10 (dk_at dksX10_init_0 8 rfl rfl)
theorem dX10_init_10 : decode cX10_init 10 = .ok (.putfield 9, 3) := dk_181 0 9 (dk_at dksX10_init_0 10 rfl rfl)
theorem dX10_init_13 : decode cX10_init 13 = .ok (.aload_n 0, 1) := dk_42 (dk_at dksX10_init_0 13 rfl rfl)
theorem dX10_init_14 : decode cX10_init 14 = .ok (.sipush 1868, 3) := dk_17 7 76 (dk_at dksX10_init_0 14 rfl rfl)
theorem dX10_init_17 : decode cX10_init 17 = .ok (.newarray .int, 2) := dk_188_10 (dk_at dksX10_init_0 17 rfl rfl)
theorem dX10_init_19 : decode cX10_init 19 = .ok (.putfield 13, 3) := dk_181 0 13 (dk_at dksX10_init_0 19 rfl rfl)
theorem dX10_init_22 : decode cX10_init 22 = .ok (.aload_n 0, 1) := dk_42 (dk_at dksX10_init_0 22 rfl rfl)
theorem dX10_init_23 : decode cX10_init 23 = .ok (.sipush 1868, 3) := dk_17 7 76 (dk_at dksX10_init_1 0 rfl rfl)
theorem dX10_init_26 : decode cX10_init 26 = .ok (.newarray .int, 2) := dk_188_10 (dk_at dksX10_init_1 3 rfl rfl)
theorem dX10_init_28 : decode cX10_init 28 = .ok (.putfield 16, 3) := dk_181 0 16 (dk_at dksX10_init_1 5 rfl rfl)
theorem dX10_init_31 : decode cX10_init 31 = .ok (.aload_n 0, 1) := dk_42 (dk_at dksX10_init_1 8 rfl rfl)
theorem dX10_init_32 : decode cX10_init 32 = .ok (.sipush 5604, 3) := dk_17 21 228 (dk_at dksX10_init_1 9 rfl rfl)
theorem dX10_init_35 : decode cX10_init 35 = .ok (.newarray .int, 2) := dk_188_10 (dk_at dksX10_init_1 12 rfl rfl)
theorem dX10_init_37 : decode cX10_init 37 = .ok (.putfield 19, 3) := dk_181 0 19 (dk_at dksX10_init_1 14 rfl rfl)
theorem dX10_init_40 : decode cX10_init 40 = .ok (.aload_n 0, 1) := dk_42 (dk_at dksX10_init_1 17 rfl rfl)
theorem dX10_init_41 : decode cX10_init 41 = .ok (.iconst 3, 1) := dk_6 (dk_at dksX10_init_1 18 rfl rfl)
theorem dX10_init_42 : decode cX10_init 42 = .ok (.newarray .boolean, 2) := dk_188_4 (dk_at dksX10_init_1 19 rfl rfl)
theorem dX10_init_44 : decode cX10_init 44 = .ok (.putfield 22, 3) := dk_181 0 22 (dk_at dksX10_init_1 21 rfl rfl)
theorem dX10_init_47 : decode cX10_init 47 = .ok (.aload_n 0, 1) := dk_42 (dk_at dksX10_init_2 0 rfl rfl)
theorem dX10_init_48 : decode cX10_init 48 = .ok (.sipush 900, 3) := dk_17 3 132 (dk_at dksX10_init_2 1 rfl rfl)
theorem dX10_init_51 : decode cX10_init 51 = .ok (.newarray .int, 2) := dk_188_10 (dk_at dksX10_init_2 4 rfl rfl)
theorem dX10_init_53 : decode cX10_init 53 = .ok (.putfield 26, 3) := dk_181 0 26 (dk_at dksX10_init_2 6 rfl rfl)
theorem dX10_init_56 : decode cX10_init 56 = .ok (.aload_n 0, 1) := dk_42 (dk_at dksX10_init_2 9 rfl rfl)
theorem dX10_init_57 : decode cX10_init 57 = .ok (.iconst (-1), 1) := dk_2 (dk_at dksX10_init_2 10 rfl rfl)
theorem dX10_init_58 : decode cX10_init 58 = .ok (.putfield 29, 3) := dk_181 0 29 (dk_at dksX10_init_2 11 rfl rfl)
theorem dX10_init_61 : decode cX10_init 61 = .ok (.aload_n 0, 1) := dk_42 (dk_at dksX10_init_2 14 rfl rfl)
theorem dX10_init_62 : decode cX10_init 62 = .ok (.sipush 1830, 3) := dk_17 7 38 (dk_at dksX10_init_2 15 rfl rfl)
theorem dX10_init_65 : decode cX10_init 65 = .ok (.newarray .int, 2) := dk_188_10 (dk_at dksX10_init_2 18 rfl rfl)
theorem dX10_init_67 : decode cX10_init 67 = .ok (.putfield 33, 3) := dk_181 0 33 (dk_at dksX10_init_2 20 rfl rfl)
theorem dX10_init_70 : decode cX10_init 70 = .ok (.aload_n 0, 1) := dk_42 (dk_at dksX10_init_2 23 rfl rfl)
theorem dX10_init_71 : decode cX10_init 71 = .ok (.sipush 1830, 3) := dk_17 7 38 (dk_at dksX10_init_3 0 rfl rfl)
theorem dX10_init_74 : decode cX10_init 74 = .ok (.newarray .int, 2) := dk_188_10 (dk_at dksX10_init_3 3 rfl rfl)
theorem dX10_init_76 : decode cX10_init 76 = .ok (.putfield 36, 3) := dk_181 0 36 (dk_at dksX10_init_3 5 rfl rfl)
theorem dX10_init_79 : decode cX10_init 79 = .ok (.aload_n 0, 1) := dk_42 (dk_at dksX10_init_3 8 rfl rfl)
theorem dX10_init_80 : decode cX10_init 80 = .ok (.sipush 2465, 3) := dk_17 9 161 (dk_at dksX10_init_3 9 rfl rfl)
theorem dX10_init_83 : decode cX10_init 83 = .ok (.newarray .long, 2) := dk_188_11 (dk_at dksX10_init_3 12 rfl rfl)
theorem dX10_init_85 : decode cX10_init 85 = .ok (.putfield 39, 3) := dk_181 0 39 (dk_at dksX10_init_3 14 rfl rfl)
theorem dX10_init_88 : decode cX10_init 88 = .ok (.aload_n 0, 1) := dk_42 (dk_at dksX10_init_3 17 rfl rfl)
theorem dX10_init_89 : decode cX10_init 89 = .ok (.sipush 7201, 3) := dk_17 28 33 (dk_at dksX10_init_3 18 rfl rfl)
theorem dX10_init_92 : decode cX10_init 92 = .ok (.newarray .int, 2) := dk_188_10 (dk_at dksX10_init_3 21 rfl rfl)
theorem dX10_init_94 : decode cX10_init 94 = .ok (.putfield 43, 3) := dk_181 0 43 (dk_at dksX10_init_4 0 rfl rfl)
theorem dX10_init_97 : decode cX10_init 97 = .ok (.aload_n 0, 1) := dk_42 (dk_at dksX10_init_4 3 rfl rfl)
theorem dX10_init_98 : decode cX10_init 98 = .ok (.sipush 1830, 3) := dk_17 7 38 (dk_at dksX10_init_4 4 rfl rfl)
theorem dX10_init_101 : decode cX10_init 101 = .ok (.newarray .int, 2) := dk_188_10 (dk_at dksX10_init_4 7 rfl rfl)
theorem dX10_init_103 : decode cX10_init 103 = .ok (.putfield 46, 3) := dk_181 0 46 (dk_at dksX10_init_4 9 rfl rfl)
theorem dX10_init_106 : decode cX10_init 106 = .ok (.aload_n 0, 1) := dk_42 (dk_at dksX10_init_4 12 rfl rfl)
theorem dX10_init_107 : decode cX10_init 107 = .ok (.iconst 5, 1) := dk_8 (dk_at dksX10_init_4 13 rfl rfl)
theorem dX10_init_108 : decode cX10_init 108 = .ok (.newarray .int, 2) := dk_188_10 (dk_at dksX10_init_4 14 rfl rfl)
theorem dX10_init_110 : decode cX10_init 110 = .ok (.putfield 49, 3) := dk_181 0 49 (dk_at dksX10_init_4 16 rfl rfl)
theorem dX10_init_113 : decode cX10_init 113 = .ok (.aload_n 0, 1) := dk_42 (dk_at dksX10_init_4 19 rfl rfl)
theorem dX10_init_114 : decode cX10_init 114 = .ok (.bipush 6, 2) := dk_16 6 (dk_at dksX10_init_4 20 rfl rfl)
theorem dX10_init_116 : decode cX10_init 116 = .ok (.newarray .int, 2) := dk_188_10 (dk_at dksX10_init_4 22 rfl rfl)
theorem dX10_init_118 : decode cX10_init 118 = .ok (.putfield 52, 3) := dk_181 0 52 (dk_at dksX10_init_5 0 rfl rfl)
theorem dX10_init_121 : decode cX10_init 121 = .ok (.aload_n 0, 1) := dk_42 (dk_at dksX10_init_5 3 rfl rfl)
theorem dX10_init_122 : decode cX10_init 122 = .ok (.bipush 6, 2) := dk_16 6 (dk_at dksX10_init_5 4 rfl rfl)
theorem dX10_init_124 : decode cX10_init 124 = .ok (.newarray .int, 2) := dk_188_10 (dk_at dksX10_init_5 6 rfl rfl)
theorem dX10_init_126 : decode cX10_init 126 = .ok (.putfield 55, 3) := dk_181 0 55 (dk_at dksX10_init_5 8 rfl rfl)
theorem dX10_init_129 : decode cX10_init 129 = .ok (.aload_n 0, 1) := dk_42 (dk_at dksX10_init_5 11 rfl rfl)
theorem dX10_init_130 : decode cX10_init 130 = .ok (.iconst 4, 1) := dk_7 (dk_at dksX10_init_5 12 rfl rfl)
theorem dX10_init_131 : decode cX10_init 131 = .ok (.newarray .int, 2) := dk_188_10 (dk_at dksX10_init_5 13 rfl rfl)
theorem dX10_init_133 : decode cX10_init 133 = .ok (.dup, 1) := dk_89 (dk_at dksX10_init_5 15 rfl rfl)
theorem dX10_init_134 : decode cX10_init 134 = .ok (.iconst 0, 1) := dk_3 (dk_at dksX10_init_5 16 rfl rfl)
theorem dX10_init_135 : decode cX10_init 135 = .ok (.iconst (-1), 1) := dk_2 (dk_at dksX10_init_5 17 rfl rfl)
theorem dX10_init_136 : decode cX10_init 136 = .ok (.iastore, 1) := dk_79 (dk_at dksX10_init_5 18 rfl rfl)
theorem dX10_init_137 : decode cX10_init 137 = .ok (.dup, 1) := dk_89 (dk_at dksX10_init_5 19 rfl rfl)
theorem dX10_init_138 : decode cX10_init 138 = .ok (.iconst 1, 1) := dk_4 (dk_at dksX10_init_5 20 rfl rfl)
theorem dX10_init_139 : decode cX10_init 139 = .ok (.iconst (-1), 1) := dk_2 (dk_at dksX10_init_5 21 rfl rfl)
theorem dX10_init_140 : decode cX10_init 140 = .ok (.iastore, 1) := dk_79 (dk_at dksX10_init_5 22 rfl rfl)
theorem dX10_init_141 : decode cX10_init 141 = .ok (.dup, 1) := dk_89 (dk_at dksX10_init_5 23 rfl rfl)
theorem dX10_init_142 : decode cX10_init 142 = .ok (.iconst 2, 1) := dk_5 (dk_at dksX10_init_6 0 rfl rfl)
theorem dX10_init_143 : decode cX10_init 143 = .ok (.iconst (-1), 1) := dk_2 (dk_at dksX10_init_6 1 rfl rfl)
theorem dX10_init_144 : decode cX10_init 144 = .ok (.iastore, 1) := dk_79 (dk_at dksX10_init_6 2 rfl rfl)
theorem dX10_init_145 : decode cX10_init 145 = .ok (.dup, 1) := dk_89 (dk_at dksX10_init_6 3 rfl rfl)
theorem dX10_init_146 : decode cX10_init 146 = .ok (.iconst 3, 1) := dk_6 (dk_at dksX10_init_6 4 rfl rfl)
theorem dX10_init_147 : decode cX10_init 147 = .ok (.iconst (-1), 1) := dk_2 (dk_at dksX10_init_6 5 rfl rfl)
theorem dX10_init_148 : decode cX10_init 148 = .ok (.iastore, 1) := dk_79 (dk_at dksX10_init_6 6 rfl rfl)
theorem dX10_init_149 : decode cX10_init 149 = .ok (.putfield 58, 3) := dk_181 0 58 (dk_at dksX10_init_6 7 rfl rfl)
theorem dX10_init_152 : decode cX10_init 152 = .ok (.aload_n 0, 1) := dk_42 (dk_at dksX10_init_6 10 rfl rfl)
theorem dX10_init_153 : decode cX10_init 153 = .ok (.iconst 4, 1) := dk_7 (dk_at dksX10_init_6 11 rfl rfl)
theorem dX10_init_154 : decode cX10_init 154 = .ok (.newarray .int, 2) := dk_188_10 (dk_at dksX10_init_6 12 rfl rfl)
theorem dX10_init_156 : decode cX10_init 156 = .ok (.putfield 61, 3) := dk_181 0 61 (dk_at dksX10_init_6 14 rfl rfl)
theorem dX10_init_159 : decode cX10_init 159 = .ok (.aload_n 0, 1) := dk_42 (dk_at dksX10_init_6 17 rfl rfl)
theorem dX10_init_160 : decode cX10_init 160 = .ok (.sipush 160, 3) := dk_17 0 160 (dk_at dksX10_init_6 18 rfl rfl)
theorem dX10_init_163 : decode cX10_init 163 = .ok (.newarray .long, 2) := dk_188_11 (dk_at dksX10_init_6 21 rfl rfl)
theorem dX10_init_165 : decode cX10_init 165 = .ok (.putfield 64, 3) := dk_181 0 64 (dk_at dksX10_init_7 0 rfl rfl)
theorem dX10_init_168 : decode cX10_init 168 = .ok (.aload_n 0, 1) := dk_42 (dk_at dksX10_init_7 3 rfl rfl)
theorem dX10_init_169 : decode cX10_init 169 = .ok (.getfield 9, 3) := dk_180 0 9 (dk_at dksX10_init_7 4 rfl rfl)
theorem dX10_init_172 : decode cX10_init 172 = .ok (.invokestatic 67, 3) := dk_184 0 67 (dk_at dksX10_init_7 7 rfl rfl)
theorem dX10_init_175 : decode cX10_init 175 = .ok (.return_, 1) := dk_177 (dk_at dksX10_init_7 10 rfl rfl)
abbrev cX10_begins : ByteArray := prog_33_method_6_code
def yX10_begins : MethodName := ⟨RX10, "begins", "([I)V"⟩
def dkwX10_begins_1 : List UInt8 := [5, 16, 20, 79, 42, 6, 16, 120, 79, 177]
abbrev dktX10_begins_1 : List UInt8 := dkwX10_begins_1 ++ []
def dkwX10_begins_0 : List UInt8 := [3, 60, 27, 17, 7, 76, 162, 0, 13, 42, 27, 3, 79, 132, 1, 1, 167, 255, 242, 42, 4, 5, 79, 42]
abbrev dktX10_begins_0 : List UInt8 := dkwX10_begins_0 ++ dktX10_begins_1
theorem dksX10_begins_0 : cX10_begins.data.toList.drop 0 = dktX10_begins_0 := by decide +kernel
theorem dksX10_begins_1 : cX10_begins.data.toList.drop 24 = dktX10_begins_1 := dk_seg dksX10_begins_0 24 rfl rfl
theorem dX10_begins_0 : decode cX10_begins 0 = .ok (.iconst 0, 1) := dk_3 (dk_at dksX10_begins_0 0 rfl rfl)
theorem dX10_begins_1 : decode cX10_begins 1 = .ok (.istore_n 1, 1) := dk_60 (dk_at dksX10_begins_0 1 rfl rfl)
theorem dX10_begins_2 : decode cX10_begins 2 = .ok (.iload_n 1, 1) := dk_27 (dk_at dksX10_begins_0 2 rfl rfl)
theorem dX10_begins_3 : decode cX10_begins 3 = .ok (.sipush 1868, 3) := dk_17 7 76 (dk_at dksX10_begins_0 3 rfl rfl)
theorem dX10_begins_6 : decode cX10_begins 6 = .ok (.if_icmp .ge 13, 3) := dk_162 0 13 (dk_at dksX10_begins_0 6 rfl rfl)
theorem dX10_begins_9 : decode cX10_begins 9 = .ok (.aload_n 0, 1) := dk_42 (dk_at dksX10_begins_0 9 rfl rfl)
theorem dX10_begins_10 : decode cX10_begins 10 = .ok (.iload_n 1, 1) := dk_27 (dk_at dksX10_begins_0 10 rfl rfl)
theorem dX10_begins_11 : decode cX10_begins 11 = .ok (.iconst 0, 1) := dk_3 (dk_at dksX10_begins_0 11 rfl rfl)
theorem dX10_begins_12 : decode cX10_begins 12 = .ok (.iastore, 1) := dk_79 (dk_at dksX10_begins_0 12 rfl rfl)
theorem dX10_begins_13 : decode cX10_begins 13 = .ok (.iinc 1 1, 3) := dk_132 1 1 (dk_at dksX10_begins_0 13 rfl rfl)
theorem dX10_begins_16 : decode cX10_begins 16 = .ok (.goto (-14), 3) := dk_167 255 242 (dk_at dksX10_begins_0 16 rfl rfl)
theorem dX10_begins_19 : decode cX10_begins 19 = .ok (.aload_n 0, 1) := dk_42 (dk_at dksX10_begins_0 19 rfl rfl)
theorem dX10_begins_20 : decode cX10_begins 20 = .ok (.iconst 1, 1) := dk_4 (dk_at dksX10_begins_0 20 rfl rfl)
theorem dX10_begins_21 : decode cX10_begins 21 = .ok (.iconst 2, 1) := dk_5 (dk_at dksX10_begins_0 21 rfl rfl)
theorem dX10_begins_22 : decode cX10_begins 22 = .ok (.iastore, 1) := dk_79 (dk_at dksX10_begins_0 22 rfl rfl)
theorem dX10_begins_23 : decode cX10_begins 23 = .ok (.aload_n 0, 1) := dk_42 (dk_at dksX10_begins_0 23 rfl rfl)
theorem dX10_begins_24 : decode cX10_begins 24 = .ok (.iconst 2, 1) := dk_5 (dk_at dksX10_begins_1 0 rfl rfl)
theorem dX10_begins_25 : decode cX10_begins 25 = .ok (.bipush 20, 2) := dk_16 20 (dk_at dksX10_begins_1 1 rfl rfl)
theorem dX10_begins_27 : decode cX10_begins 27 = .ok (.iastore, 1) := dk_79 (dk_at dksX10_begins_1 3 rfl rfl)
theorem dX10_begins_28 : decode cX10_begins 28 = .ok (.aload_n 0, 1) := dk_42 (dk_at dksX10_begins_1 4 rfl rfl)
theorem dX10_begins_29 : decode cX10_begins 29 = .ok (.iconst 3, 1) := dk_6 (dk_at dksX10_begins_1 5 rfl rfl)
theorem dX10_begins_30 : decode cX10_begins 30 = .ok (.bipush 120, 2) := dk_16 120 (dk_at dksX10_begins_1 6 rfl rfl)
theorem dX10_begins_32 : decode cX10_begins 32 = .ok (.iastore, 1) := dk_79 (dk_at dksX10_begins_1 8 rfl rfl)
theorem dX10_begins_33 : decode cX10_begins 33 = .ok (.return_, 1) := dk_177 (dk_at dksX10_begins_1 9 rfl rfl)
abbrev cX10_thrown : ByteArray := prog_33_method_2_code
def yX10_thrown : MethodName := ⟨RX10, "thrown", "()I"⟩
theorem dX10_thrown_0 : decode cX10_thrown 0 = .ok (.aload_n 0, 1) := by decide +kernel
theorem dX10_thrown_1 : decode cX10_thrown 1 = .ok (.getfield 71, 3) := by decide +kernel
theorem dX10_thrown_4 : decode cX10_thrown 4 = .ok (.ireturn, 1) := by decide +kernel
abbrev cX10_feed : ByteArray := prog_33_method_7_code
def yX10_feed : MethodName := ⟨RX10, "feed", "(IIIII)I"⟩
def dkwX10_feed_5 : List UInt8 := [167, 255, 162, 42, 180, 0, 74, 172]
abbrev dktX10_feed_5 : List UInt8 := dkwX10_feed_5 ++ []
def dkwX10_feed_4 : List UInt8 := [126, 104, 100, 124, 17, 0, 255, 126, 79, 42, 89, 180, 0, 74, 4, 96, 181, 0, 74, 132, 6, 1]
abbrev dktX10_feed_4 : List UInt8 := dkwX10_feed_4 ++ dktX10_feed_5
def dkwX10_feed_3 : List UInt8 := [167, 0, 5, 21, 5, 54, 7, 42, 180, 0, 26, 42, 180, 0, 74, 21, 7, 16, 24, 16, 8, 21, 6, 6]
abbrev dktX10_feed_3 : List UInt8 := dkwX10_feed_3 ++ dktX10_feed_4
def dkwX10_feed_2 : List UInt8 := [28, 167, 0, 28, 21, 6, 16, 12, 162, 0, 7, 29, 167, 0, 17, 21, 6, 16, 16, 162, 0, 8, 21, 4]
abbrev dktX10_feed_2 : List UInt8 := dkwX10_feed_2 ++ dktX10_feed_3
def dkwX10_feed_1 : List UInt8 := [21, 6, 16, 20, 162, 0, 93, 21, 6, 7, 162, 0, 7, 27, 167, 0, 39, 21, 6, 16, 8, 162, 0, 7]
abbrev dktX10_feed_1 : List UInt8 := dkwX10_feed_1 ++ dktX10_feed_2
def dkwX10_feed_0 : List UInt8 := [42, 3, 181, 0, 71, 42, 180, 0, 74, 16, 20, 96, 17, 3, 132, 164, 0, 5, 2, 172, 3, 54, 6]
abbrev dktX10_feed_0 : List UInt8 := dkwX10_feed_0 ++ dktX10_feed_1
theorem dksX10_feed_0 : cX10_feed.data.toList.drop 0 = dktX10_feed_0 := by decide +kernel
theorem dksX10_feed_1 : cX10_feed.data.toList.drop 23 = dktX10_feed_1 := dk_seg dksX10_feed_0 23 rfl rfl
theorem dksX10_feed_2 : cX10_feed.data.toList.drop 47 = dktX10_feed_2 := dk_seg dksX10_feed_1 24 rfl rfl
theorem dksX10_feed_3 : cX10_feed.data.toList.drop 71 = dktX10_feed_3 := dk_seg dksX10_feed_2 24 rfl rfl
theorem dksX10_feed_4 : cX10_feed.data.toList.drop 95 = dktX10_feed_4 := dk_seg dksX10_feed_3 24 rfl rfl
theorem dksX10_feed_5 : cX10_feed.data.toList.drop 117 = dktX10_feed_5 := dk_seg dksX10_feed_4 22 rfl rfl
theorem dX10_feed_0 : decode cX10_feed 0 = .ok (.aload_n 0, 1) := dk_42 (dk_at dksX10_feed_0 0 rfl rfl)
theorem dX10_feed_1 : decode cX10_feed 1 = .ok (.iconst 0, 1) := dk_3 (dk_at dksX10_feed_0 1 rfl rfl)
theorem dX10_feed_2 : decode cX10_feed 2 = .ok (.putfield 71, 3) := dk_181 0 71 (dk_at dksX10_feed_0 2 rfl rfl)
theorem dX10_feed_5 : decode cX10_feed 5 = .ok (.aload_n 0, 1) := dk_42 (dk_at dksX10_feed_0 5 rfl rfl)
theorem dX10_feed_6 : decode cX10_feed 6 = .ok (.getfield 74, 3) := dk_180 0 74 (dk_at dksX10_feed_0 6 rfl rfl)
theorem dX10_feed_9 : decode cX10_feed 9 = .ok (.bipush 20, 2) := dk_16 20 (dk_at dksX10_feed_0 9 rfl rfl)
theorem dX10_feed_11 : decode cX10_feed 11 = .ok (.iadd, 1) := dk_96 (dk_at dksX10_feed_0 11 rfl rfl)
theorem dX10_feed_12 : decode cX10_feed 12 = .ok (.sipush 900, 3) := dk_17 3 132 (dk_at dksX10_feed_0 12 rfl rfl)
theorem dX10_feed_15 : decode cX10_feed 15 = .ok (.if_icmp .le 5, 3) := dk_164 0 5 (dk_at dksX10_feed_0 15 rfl rfl)
theorem dX10_feed_18 : decode cX10_feed 18 = .ok (.iconst (-1), 1) := dk_2 (dk_at dksX10_feed_0 18 rfl rfl)
theorem dX10_feed_19 : decode cX10_feed 19 = .ok (.ireturn, 1) := dk_172 (dk_at dksX10_feed_0 19 rfl rfl)
theorem dX10_feed_20 : decode cX10_feed 20 = .ok (.iconst 0, 1) := dk_3 (dk_at dksX10_feed_0 20 rfl rfl)
theorem dX10_feed_21 : decode cX10_feed 21 = .ok (.istore 6, 2) := dk_54 6 (dk_at dksX10_feed_0 21 rfl rfl)
theorem dX10_feed_23 : decode cX10_feed 23 = .ok (.iload 6, 2) := dk_21 6 (dk_at dksX10_feed_1 0 rfl rfl)
theorem dX10_feed_25 : decode cX10_feed 25 = .ok (.bipush 20, 2) := dk_16 20 (dk_at dksX10_feed_1 2 rfl rfl)
theorem dX10_feed_27 : decode cX10_feed 27 = .ok (.if_icmp .ge 93, 3) := dk_162 0 93 (dk_at dksX10_feed_1 4 rfl rfl)
theorem dX10_feed_30 : decode cX10_feed 30 = .ok (.iload 6, 2) := dk_21 6 (dk_at dksX10_feed_1 7 rfl rfl)
theorem dX10_feed_32 : decode cX10_feed 32 = .ok (.iconst 4, 1) := dk_7 (dk_at dksX10_feed_1 9 rfl rfl)
theorem dX10_feed_33 : decode cX10_feed 33 = .ok (.if_icmp .ge 7, 3) := dk_162 0 7 (dk_at dksX10_feed_1 10 rfl rfl)
theorem dX10_feed_36 : decode cX10_feed 36 = .ok (.iload_n 1, 1) := dk_27 (dk_at dksX10_feed_1 13 rfl rfl)
theorem dX10_feed_37 : decode cX10_feed 37 = .ok (.goto 39, 3) := dk_167 0 39 (dk_at dksX10_feed_1 14 rfl rfl)
theorem dX10_feed_40 : decode cX10_feed 40 = .ok (.iload 6, 2) := dk_21 6 (dk_at dksX10_feed_1 17 rfl rfl)
theorem dX10_feed_42 : decode cX10_feed 42 = .ok (.bipush 8, 2) := dk_16 8 (dk_at dksX10_feed_1 19 rfl rfl)
theorem dX10_feed_44 : decode cX10_feed 44 = .ok (.if_icmp .ge 7, 3) := dk_162 0 7 (dk_at dksX10_feed_1 21 rfl rfl)
theorem dX10_feed_47 : decode cX10_feed 47 = .ok (.iload_n 2, 1) := dk_28 (dk_at dksX10_feed_2 0 rfl rfl)
theorem dX10_feed_48 : decode cX10_feed 48 = .ok (.goto 28, 3) := dk_167 0 28 (dk_at dksX10_feed_2 1 rfl rfl)
theorem dX10_feed_51 : decode cX10_feed 51 = .ok (.iload 6, 2) := dk_21 6 (dk_at dksX10_feed_2 4 rfl rfl)
theorem dX10_feed_53 : decode cX10_feed 53 = .ok (.bipush 12, 2) := dk_16 12 (dk_at dksX10_feed_2 6 rfl rfl)
theorem dX10_feed_55 : decode cX10_feed 55 = .ok (.if_icmp .ge 7, 3) := dk_162 0 7 (dk_at dksX10_feed_2 8 rfl rfl)
theorem dX10_feed_58 : decode cX10_feed 58 = .ok (.iload_n 3, 1) := dk_29 (dk_at dksX10_feed_2 11 rfl rfl)
theorem dX10_feed_59 : decode cX10_feed 59 = .ok (.goto 17, 3) := dk_167 0 17 (dk_at dksX10_feed_2 12 rfl rfl)
theorem dX10_feed_62 : decode cX10_feed 62 = .ok (.iload 6, 2) := dk_21 6 (dk_at dksX10_feed_2 15 rfl rfl)
theorem dX10_feed_64 : decode cX10_feed 64 = .ok (.bipush 16, 2) := dk_16 16 (dk_at dksX10_feed_2 17 rfl rfl)
theorem dX10_feed_66 : decode cX10_feed 66 = .ok (.if_icmp .ge 8, 3) := dk_162 0 8 (dk_at dksX10_feed_2 19 rfl rfl)
theorem dX10_feed_69 : decode cX10_feed 69 = .ok (.iload 4, 2) := dk_21 4 (dk_at dksX10_feed_2 22 rfl rfl)
theorem dX10_feed_71 : decode cX10_feed 71 = .ok (.goto 5, 3) := dk_167 0 5 (dk_at dksX10_feed_3 0 rfl rfl)
theorem dX10_feed_74 : decode cX10_feed 74 = .ok (.iload 5, 2) := dk_21 5 (dk_at dksX10_feed_3 3 rfl rfl)
theorem dX10_feed_76 : decode cX10_feed 76 = .ok (.istore 7, 2) := dk_54 7 (dk_at dksX10_feed_3 5 rfl rfl)
theorem dX10_feed_78 : decode cX10_feed 78 = .ok (.aload_n 0, 1) := dk_42 (dk_at dksX10_feed_3 7 rfl rfl)
theorem dX10_feed_79 : decode cX10_feed 79 = .ok (.getfield 26, 3) := dk_180 0 26 (dk_at dksX10_feed_3 8 rfl rfl)
theorem dX10_feed_82 : decode cX10_feed 82 = .ok (.aload_n 0, 1) := dk_42 (dk_at dksX10_feed_3 11 rfl rfl)
theorem dX10_feed_83 : decode cX10_feed 83 = .ok (.getfield 74, 3) := dk_180 0 74 (dk_at dksX10_feed_3 12 rfl rfl)
theorem dX10_feed_86 : decode cX10_feed 86 = .ok (.iload 7, 2) := dk_21 7 (dk_at dksX10_feed_3 15 rfl rfl)
theorem dX10_feed_88 : decode cX10_feed 88 = .ok (.bipush 24, 2) := dk_16 24 (dk_at dksX10_feed_3 17 rfl rfl)
theorem dX10_feed_90 : decode cX10_feed 90 = .ok (.bipush 8, 2) := dk_16 8 (dk_at dksX10_feed_3 19 rfl rfl)
theorem dX10_feed_92 : decode cX10_feed 92 = .ok (.iload 6, 2) := dk_21 6 (dk_at dksX10_feed_3 21 rfl rfl)
theorem dX10_feed_94 : decode cX10_feed 94 = .ok (.iconst 3, 1) := dk_6 (dk_at dksX10_feed_3 23 rfl rfl)
theorem dX10_feed_95 : decode cX10_feed 95 = .ok (.iand, 1) := dk_126 (dk_at dksX10_feed_4 0 rfl rfl)
theorem dX10_feed_96 : decode cX10_feed 96 = .ok (.imul, 1) := dk_104 (dk_at dksX10_feed_4 1 rfl rfl)
theorem dX10_feed_97 : decode cX10_feed 97 = .ok (.isub, 1) := dk_100 (dk_at dksX10_feed_4 2 rfl rfl)
theorem dX10_feed_98 : decode cX10_feed 98 = .ok (.iushr, 1) := dk_124 (dk_at dksX10_feed_4 3 rfl rfl)
theorem dX10_feed_99 : decode cX10_feed 99 = .ok (.sipush 255, 3) := dk_17 0 255 (dk_at dksX10_feed_4 4 rfl rfl)
theorem dX10_feed_102 : decode cX10_feed 102 = .ok (.iand, 1) := dk_126 (dk_at dksX10_feed_4 7 rfl rfl)
theorem dX10_feed_103 : decode cX10_feed 103 = .ok (.iastore, 1) := dk_79 (dk_at dksX10_feed_4 8 rfl rfl)
theorem dX10_feed_104 : decode cX10_feed 104 = .ok (.aload_n 0, 1) := dk_42 (dk_at dksX10_feed_4 9 rfl rfl)
theorem dX10_feed_105 : decode cX10_feed 105 = .ok (.dup, 1) := dk_89 (dk_at dksX10_feed_4 10 rfl rfl)
theorem dX10_feed_106 : decode cX10_feed 106 = .ok (.getfield 74, 3) := dk_180 0 74 (dk_at dksX10_feed_4 11 rfl rfl)
theorem dX10_feed_109 : decode cX10_feed 109 = .ok (.iconst 1, 1) := dk_4 (dk_at dksX10_feed_4 14 rfl rfl)
theorem dX10_feed_110 : decode cX10_feed 110 = .ok (.iadd, 1) := dk_96 (dk_at dksX10_feed_4 15 rfl rfl)
theorem dX10_feed_111 : decode cX10_feed 111 = .ok (.putfield 74, 3) := dk_181 0 74 (dk_at dksX10_feed_4 16 rfl rfl)
theorem dX10_feed_114 : decode cX10_feed 114 = .ok (.iinc 6 1, 3) := dk_132 6 1 (dk_at dksX10_feed_4 19 rfl rfl)
theorem dX10_feed_117 : decode cX10_feed 117 = .ok (.goto (-94), 3) := dk_167 255 162 (dk_at dksX10_feed_5 0 rfl rfl)
theorem dX10_feed_120 : decode cX10_feed 120 = .ok (.aload_n 0, 1) := dk_42 (dk_at dksX10_feed_5 3 rfl rfl)
theorem dX10_feed_121 : decode cX10_feed 121 = .ok (.getfield 74, 3) := dk_180 0 74 (dk_at dksX10_feed_5 4 rfl rfl)
theorem dX10_feed_124 : decode cX10_feed 124 = .ok (.ireturn, 1) := dk_172 (dk_at dksX10_feed_5 7 rfl rfl)
abbrev cX10_talk : ByteArray := prog_33_method_30_code
def yX10_talk : MethodName := ⟨RX10, "talk", "(I)I"⟩
def dkwX10_talk_6 : List UInt8 := [46, 172]
abbrev dktX10_talk_6 : List UInt8 := dkwX10_talk_6 ++ []
def dkwX10_talk_5 : List UInt8 := [16, 246, 42, 180, 0, 103, 100, 172, 42, 180, 0, 13, 42, 180, 0, 9, 184, 0, 246, 42, 180, 0, 9, 3]
abbrev dktX10_talk_5 : List UInt8 := dkwX10_talk_5 ++ dktX10_talk_6
def dkwX10_talk_4 : List UInt8 := [180, 0, 103, 154, 0, 7, 2, 167, 0, 7, 42, 180, 0, 106, 181, 0, 29, 42, 180, 0, 103, 153, 0, 11]
abbrev dktX10_talk_4 : List UInt8 := dkwX10_talk_4 ++ dktX10_talk_5
def dkwX10_talk_3 : List UInt8 := [180, 0, 86, 153, 0, 10, 42, 182, 0, 240, 167, 255, 238, 42, 42, 180, 0, 103, 181, 0, 243, 42, 42]
abbrev dktX10_talk_3 : List UInt8 := dkwX10_talk_3 ++ dktX10_talk_4
def dkwX10_talk_2 : List UInt8 := [181, 0, 141, 42, 180, 0, 13, 184, 0, 67, 42, 182, 0, 123, 42, 180, 0, 103, 154, 0, 17, 42]
abbrev dktX10_talk_2 : List UInt8 := dkwX10_talk_2 ++ dktX10_talk_3
def dkwX10_talk_1 : List UInt8 := [172, 42, 27, 181, 0, 77, 42, 3, 181, 0, 74, 42, 3, 181, 0, 80, 42, 3, 181, 0, 103, 42, 3]
abbrev dktX10_talk_1 : List UInt8 := dkwX10_talk_1 ++ dktX10_talk_2
def dkwX10_talk_0 : List UInt8 := [42, 3, 181, 0, 71, 27, 133, 9, 42, 180, 0, 74, 133, 184, 0, 133, 154, 0, 9, 42, 4, 182, 0, 237]
abbrev dktX10_talk_0 : List UInt8 := dkwX10_talk_0 ++ dktX10_talk_1
theorem dksX10_talk_0 : cX10_talk.data.toList.drop 0 = dktX10_talk_0 := by decide +kernel
theorem dksX10_talk_1 : cX10_talk.data.toList.drop 24 = dktX10_talk_1 := dk_seg dksX10_talk_0 24 rfl rfl
theorem dksX10_talk_2 : cX10_talk.data.toList.drop 47 = dktX10_talk_2 := dk_seg dksX10_talk_1 23 rfl rfl
theorem dksX10_talk_3 : cX10_talk.data.toList.drop 69 = dktX10_talk_3 := dk_seg dksX10_talk_2 22 rfl rfl
theorem dksX10_talk_4 : cX10_talk.data.toList.drop 92 = dktX10_talk_4 := dk_seg dksX10_talk_3 23 rfl rfl
theorem dksX10_talk_5 : cX10_talk.data.toList.drop 116 = dktX10_talk_5 := dk_seg dksX10_talk_4 24 rfl rfl
theorem dksX10_talk_6 : cX10_talk.data.toList.drop 140 = dktX10_talk_6 := dk_seg dksX10_talk_5 24 rfl rfl
theorem dX10_talk_0 : decode cX10_talk 0 = .ok (.aload_n 0, 1) := dk_42 (dk_at dksX10_talk_0 0 rfl rfl)
theorem dX10_talk_1 : decode cX10_talk 1 = .ok (.iconst 0, 1) := dk_3 (dk_at dksX10_talk_0 1 rfl rfl)
theorem dX10_talk_2 : decode cX10_talk 2 = .ok (.putfield 71, 3) := dk_181 0 71 (dk_at dksX10_talk_0 2 rfl rfl)
theorem dX10_talk_5 : decode cX10_talk 5 = .ok (.iload_n 1, 1) := dk_27 (dk_at dksX10_talk_0 5 rfl rfl)
theorem dX10_talk_6 : decode cX10_talk 6 = .ok (.i2l, 1) := dk_133 (dk_at dksX10_talk_0 6 rfl rfl)
theorem dX10_talk_7 : decode cX10_talk 7 = .ok (.lconst 0, 1) := dk_9 (dk_at dksX10_talk_0 7 rfl rfl)
theorem dX10_talk_8 : decode cX10_talk 8 = .ok (.aload_n 0, 1) := dk_42 (dk_at dksX10_talk_0 8 rfl rfl)
theorem dX10_talk_9 : decode cX10_talk 9 = .ok (.getfield 74, 3) := dk_180 0 74 (dk_at dksX10_talk_0 9 rfl rfl)
theorem dX10_talk_12 : decode cX10_talk 12 = .ok (.i2l, 1) := dk_133 (dk_at dksX10_talk_0 12 rfl rfl)
theorem dX10_talk_13 : decode cX10_talk 13 = .ok (.invokestatic 133, 3) := dk_184 0 133 (dk_at dksX10_talk_0 13 rfl rfl)
theorem dX10_talk_16 : decode cX10_talk 16 = .ok (.ifCond .ne 9, 3) := dk_154 0 9 (dk_at dksX10_talk_0 16 rfl rfl)
theorem dX10_talk_19 : decode cX10_talk 19 = .ok (.aload_n 0, 1) := dk_42 (dk_at dksX10_talk_0 19 rfl rfl)
theorem dX10_talk_20 : decode cX10_talk 20 = .ok (.iconst 1, 1) := dk_4 (dk_at dksX10_talk_0 20 rfl rfl)
theorem dX10_talk_21 : decode cX10_talk 21 = .ok (.invokevirtual 237, 3) := dk_182 0 237 (dk_at dksX10_talk_0 21 rfl rfl)
theorem dX10_talk_24 : decode cX10_talk 24 = .ok (.ireturn, 1) := dk_172 (dk_at dksX10_talk_1 0 rfl rfl)
theorem dX10_talk_25 : decode cX10_talk 25 = .ok (.aload_n 0, 1) := dk_42 (dk_at dksX10_talk_1 1 rfl rfl)
theorem dX10_talk_26 : decode cX10_talk 26 = .ok (.iload_n 1, 1) := dk_27 (dk_at dksX10_talk_1 2 rfl rfl)
theorem dX10_talk_27 : decode cX10_talk 27 = .ok (.putfield 77, 3) := dk_181 0 77 (dk_at dksX10_talk_1 3 rfl rfl)
theorem dX10_talk_30 : decode cX10_talk 30 = .ok (.aload_n 0, 1) := dk_42 (dk_at dksX10_talk_1 6 rfl rfl)
theorem dX10_talk_31 : decode cX10_talk 31 = .ok (.iconst 0, 1) := dk_3 (dk_at dksX10_talk_1 7 rfl rfl)
theorem dX10_talk_32 : decode cX10_talk 32 = .ok (.putfield 74, 3) := dk_181 0 74 (dk_at dksX10_talk_1 8 rfl rfl)
theorem dX10_talk_35 : decode cX10_talk 35 = .ok (.aload_n 0, 1) := dk_42 (dk_at dksX10_talk_1 11 rfl rfl)
theorem dX10_talk_36 : decode cX10_talk 36 = .ok (.iconst 0, 1) := dk_3 (dk_at dksX10_talk_1 12 rfl rfl)
theorem dX10_talk_37 : decode cX10_talk 37 = .ok (.putfield 80, 3) := dk_181 0 80 (dk_at dksX10_talk_1 13 rfl rfl)
theorem dX10_talk_40 : decode cX10_talk 40 = .ok (.aload_n 0, 1) := dk_42 (dk_at dksX10_talk_1 16 rfl rfl)
theorem dX10_talk_41 : decode cX10_talk 41 = .ok (.iconst 0, 1) := dk_3 (dk_at dksX10_talk_1 17 rfl rfl)
theorem dX10_talk_42 : decode cX10_talk 42 = .ok (.putfield 103, 3) := dk_181 0 103 (dk_at dksX10_talk_1 18 rfl rfl)
theorem dX10_talk_45 : decode cX10_talk 45 = .ok (.aload_n 0, 1) := dk_42 (dk_at dksX10_talk_1 21 rfl rfl)
theorem dX10_talk_46 : decode cX10_talk 46 = .ok (.iconst 0, 1) := dk_3 (dk_at dksX10_talk_1 22 rfl rfl)
theorem dX10_talk_47 : decode cX10_talk 47 = .ok (.putfield 141, 3) := dk_181 0 141 (dk_at dksX10_talk_2 0 rfl rfl)
theorem dX10_talk_50 : decode cX10_talk 50 = .ok (.aload_n 0, 1) := dk_42 (dk_at dksX10_talk_2 3 rfl rfl)
theorem dX10_talk_51 : decode cX10_talk 51 = .ok (.getfield 13, 3) := dk_180 0 13 (dk_at dksX10_talk_2 4 rfl rfl)
theorem dX10_talk_54 : decode cX10_talk 54 = .ok (.invokestatic 67, 3) := dk_184 0 67 (dk_at dksX10_talk_2 7 rfl rfl)
theorem dX10_talk_57 : decode cX10_talk 57 = .ok (.aload_n 0, 1) := dk_42 (dk_at dksX10_talk_2 10 rfl rfl)
theorem dX10_talk_58 : decode cX10_talk 58 = .ok (.invokevirtual 123, 3) := dk_182 0 123 (dk_at dksX10_talk_2 11 rfl rfl)
theorem dX10_talk_61 : decode cX10_talk 61 = .ok (.aload_n 0, 1) := dk_42 (dk_at dksX10_talk_2 14 rfl rfl)
theorem dX10_talk_62 : decode cX10_talk 62 = .ok (.getfield 103, 3) := dk_180 0 103 (dk_at dksX10_talk_2 15 rfl rfl)
theorem dX10_talk_65 : decode cX10_talk 65 = .ok (.ifCond .ne 17, 3) := dk_154 0 17 (dk_at dksX10_talk_2 18 rfl rfl)
theorem dX10_talk_68 : decode cX10_talk 68 = .ok (.aload_n 0, 1) := dk_42 (dk_at dksX10_talk_2 21 rfl rfl)
theorem dX10_talk_69 : decode cX10_talk 69 = .ok (.getfield 86, 3) := dk_180 0 86 (dk_at dksX10_talk_3 0 rfl rfl)
theorem dX10_talk_72 : decode cX10_talk 72 = .ok (.ifCond .eq 10, 3) := dk_153 0 10 (dk_at dksX10_talk_3 3 rfl rfl)
theorem dX10_talk_75 : decode cX10_talk 75 = .ok (.aload_n 0, 1) := dk_42 (dk_at dksX10_talk_3 6 rfl rfl)
theorem dX10_talk_76 : decode cX10_talk 76 = .ok (.invokevirtual 240, 3) := dk_182 0 240 (dk_at dksX10_talk_3 7 rfl rfl)
theorem dX10_talk_79 : decode cX10_talk 79 = .ok (.goto (-18), 3) := dk_167 255 238 (dk_at dksX10_talk_3 10 rfl rfl)
theorem dX10_talk_82 : decode cX10_talk 82 = .ok (.aload_n 0, 1) := dk_42 (dk_at dksX10_talk_3 13 rfl rfl)
theorem dX10_talk_83 : decode cX10_talk 83 = .ok (.aload_n 0, 1) := dk_42 (dk_at dksX10_talk_3 14 rfl rfl)
theorem dX10_talk_84 : decode cX10_talk 84 = .ok (.getfield 103, 3) := dk_180 0 103 (dk_at dksX10_talk_3 15 rfl rfl)
theorem dX10_talk_87 : decode cX10_talk 87 = .ok (.putfield 243, 3) := dk_181 0 243 (dk_at dksX10_talk_3 18 rfl rfl)
theorem dX10_talk_90 : decode cX10_talk 90 = .ok (.aload_n 0, 1) := dk_42 (dk_at dksX10_talk_3 21 rfl rfl)
theorem dX10_talk_91 : decode cX10_talk 91 = .ok (.aload_n 0, 1) := dk_42 (dk_at dksX10_talk_3 22 rfl rfl)
theorem dX10_talk_92 : decode cX10_talk 92 = .ok (.getfield 103, 3) := dk_180 0 103 (dk_at dksX10_talk_4 0 rfl rfl)
theorem dX10_talk_95 : decode cX10_talk 95 = .ok (.ifCond .ne 7, 3) := dk_154 0 7 (dk_at dksX10_talk_4 3 rfl rfl)
theorem dX10_talk_98 : decode cX10_talk 98 = .ok (.iconst (-1), 1) := dk_2 (dk_at dksX10_talk_4 6 rfl rfl)
theorem dX10_talk_99 : decode cX10_talk 99 = .ok (.goto 7, 3) := dk_167 0 7 (dk_at dksX10_talk_4 7 rfl rfl)
theorem dX10_talk_102 : decode cX10_talk 102 = .ok (.aload_n 0, 1) := dk_42 (dk_at dksX10_talk_4 10 rfl rfl)
theorem dX10_talk_103 : decode cX10_talk 103 = .ok (.getfield 106, 3) := dk_180 0 106 (dk_at dksX10_talk_4 11 rfl rfl)
theorem dX10_talk_106 : decode cX10_talk 106 = .ok (.putfield 29, 3) := dk_181 0 29 (dk_at dksX10_talk_4 14 rfl rfl)
theorem dX10_talk_109 : decode cX10_talk 109 = .ok (.aload_n 0, 1) := dk_42 (dk_at dksX10_talk_4 17 rfl rfl)
theorem dX10_talk_110 : decode cX10_talk 110 = .ok (.getfield 103, 3) := dk_180 0 103 (dk_at dksX10_talk_4 18 rfl rfl)
theorem dX10_talk_113 : decode cX10_talk 113 = .ok (.ifCond .eq 11, 3) := dk_153 0 11 (dk_at dksX10_talk_4 21 rfl rfl)
theorem dX10_talk_116 : decode cX10_talk 116 = .ok (.bipush (-10), 2) := dk_16 246 (dk_at dksX10_talk_5 0 rfl rfl)
theorem dX10_talk_118 : decode cX10_talk 118 = .ok (.aload_n 0, 1) := dk_42 (dk_at dksX10_talk_5 2 rfl rfl)
theorem dX10_talk_119 : decode cX10_talk 119 = .ok (.getfield 103, 3) := dk_180 0 103 (dk_at dksX10_talk_5 3 rfl rfl)
theorem dX10_talk_122 : decode cX10_talk 122 = .ok (.isub, 1) := dk_100 (dk_at dksX10_talk_5 6 rfl rfl)
theorem dX10_talk_123 : decode cX10_talk 123 = .ok (.ireturn, 1) := dk_172 (dk_at dksX10_talk_5 7 rfl rfl)
theorem dX10_talk_124 : decode cX10_talk 124 = .ok (.aload_n 0, 1) := dk_42 (dk_at dksX10_talk_5 8 rfl rfl)
theorem dX10_talk_125 : decode cX10_talk 125 = .ok (.getfield 13, 3) := dk_180 0 13 (dk_at dksX10_talk_5 9 rfl rfl)
theorem dX10_talk_128 : decode cX10_talk 128 = .ok (.aload_n 0, 1) := dk_42 (dk_at dksX10_talk_5 12 rfl rfl)
theorem dX10_talk_129 : decode cX10_talk 129 = .ok (.getfield 9, 3) := dk_180 0 9 (dk_at dksX10_talk_5 13 rfl rfl)
theorem dX10_talk_132 : decode cX10_talk 132 = .ok (.invokestatic 246, 3) := dk_184 0 246 (dk_at dksX10_talk_5 16 rfl rfl)
theorem dX10_talk_135 : decode cX10_talk 135 = .ok (.aload_n 0, 1) := dk_42 (dk_at dksX10_talk_5 19 rfl rfl)
theorem dX10_talk_136 : decode cX10_talk 136 = .ok (.getfield 9, 3) := dk_180 0 9 (dk_at dksX10_talk_5 20 rfl rfl)
theorem dX10_talk_139 : decode cX10_talk 139 = .ok (.iconst 0, 1) := dk_3 (dk_at dksX10_talk_5 23 rfl rfl)
theorem dX10_talk_140 : decode cX10_talk 140 = .ok (.iaload, 1) := dk_46 (dk_at dksX10_talk_6 0 rfl rfl)
theorem dX10_talk_141 : decode cX10_talk 141 = .ok (.ireturn, 1) := dk_172 (dk_at dksX10_talk_6 1 rfl rfl)
abbrev cX10_within : ByteArray := prog_33_method_4_code
def yX10_within : MethodName := ⟨RX10, "within", "(JJJ)Z"⟩
def dkwX10_within_0 : List UInt8 := [30, 32, 148, 155, 0, 14, 30, 22, 4, 148, 157, 0, 7, 4, 167, 0, 4, 3, 172]
abbrev dktX10_within_0 : List UInt8 := dkwX10_within_0 ++ []
theorem dksX10_within_0 : cX10_within.data.toList.drop 0 = dktX10_within_0 := by decide +kernel
theorem dX10_within_0 : decode cX10_within 0 = .ok (.lload_n 0, 1) := dk_30 (dk_at dksX10_within_0 0 rfl rfl)
theorem dX10_within_1 : decode cX10_within 1 = .ok (.lload_n 2, 1) := dk_32 (dk_at dksX10_within_0 1 rfl rfl)
theorem dX10_within_2 : decode cX10_within 2 = .ok (.lcmp, 1) := dk_148 (dk_at dksX10_within_0 2 rfl rfl)
theorem dX10_within_3 : decode cX10_within 3 = .ok (.ifCond .lt 14, 3) := dk_155 0 14 (dk_at dksX10_within_0 3 rfl rfl)
theorem dX10_within_6 : decode cX10_within 6 = .ok (.lload_n 0, 1) := dk_30 (dk_at dksX10_within_0 6 rfl rfl)
theorem dX10_within_7 : decode cX10_within 7 = .ok (.lload 4, 2) := dk_22 4 (dk_at dksX10_within_0 7 rfl rfl)
theorem dX10_within_9 : decode cX10_within 9 = .ok (.lcmp, 1) := dk_148 (dk_at dksX10_within_0 9 rfl rfl)
theorem dX10_within_10 : decode cX10_within 10 = .ok (.ifCond .gt 7, 3) := dk_157 0 7 (dk_at dksX10_within_0 10 rfl rfl)
theorem dX10_within_13 : decode cX10_within 13 = .ok (.iconst 1, 1) := dk_4 (dk_at dksX10_within_0 13 rfl rfl)
theorem dX10_within_14 : decode cX10_within 14 = .ok (.goto 4, 3) := dk_167 0 4 (dk_at dksX10_within_0 14 rfl rfl)
theorem dX10_within_17 : decode cX10_within 17 = .ok (.iconst 0, 1) := dk_3 (dk_at dksX10_within_0 17 rfl rfl)
theorem dX10_within_18 : decode cX10_within 18 = .ok (.ireturn, 1) := dk_172 (dk_at dksX10_within_0 18 rfl rfl)
abbrev cX10_fails : ByteArray := prog_33_method_3_code
def yX10_fails : MethodName := ⟨RX10, "fails", "(I)I"⟩
def dkwX10_fails_0 : List UInt8 := [42, 27, 181, 0, 71, 3, 172]
abbrev dktX10_fails_0 : List UInt8 := dkwX10_fails_0 ++ []
theorem dksX10_fails_0 : cX10_fails.data.toList.drop 0 = dktX10_fails_0 := by decide +kernel
theorem dX10_fails_0 : decode cX10_fails 0 = .ok (.aload_n 0, 1) := dk_42 (dk_at dksX10_fails_0 0 rfl rfl)
theorem dX10_fails_1 : decode cX10_fails 1 = .ok (.iload_n 1, 1) := dk_27 (dk_at dksX10_fails_0 1 rfl rfl)
theorem dX10_fails_2 : decode cX10_fails 2 = .ok (.putfield 71, 3) := dk_181 0 71 (dk_at dksX10_fails_0 2 rfl rfl)
theorem dX10_fails_5 : decode cX10_fails 5 = .ok (.iconst 0, 1) := dk_3 (dk_at dksX10_fails_0 5 rfl rfl)
theorem dX10_fails_6 : decode cX10_fails 6 = .ok (.ireturn, 1) := dk_172 (dk_at dksX10_fails_0 6 rfl rfl)
abbrev cX10_reads : ByteArray := prog_33_method_11_code
def yX10_reads : MethodName := ⟨RX10, "reads", "()V"⟩
def dkwX10_reads_12 : List UInt8 := [181, 0, 80, 177]
abbrev dktX10_reads_12 : List UInt8 := dkwX10_reads_12 ++ []
def dkwX10_reads_11 : List UInt8 := [160, 0, 7, 6, 167, 0, 4, 7, 181, 0, 86, 42, 27, 181, 0, 100, 42, 89, 180, 0, 80, 4, 96]
abbrev dktX10_reads_11 : List UInt8 := dkwX10_reads_11 ++ dktX10_reads_12
def dkwX10_reads_10 : List UInt8 := [181, 0, 86, 167, 0, 45, 42, 27, 16, 59, 159, 0, 15, 27, 16, 40, 159, 0, 9, 27, 16, 41]
abbrev dktX10_reads_10 : List UInt8 := dkwX10_reads_10 ++ dktX10_reads_11
def dkwX10_reads_9 : List UInt8 := [167, 255, 188, 42, 42, 180, 0, 80, 42, 180, 0, 83, 100, 6, 164, 0, 7, 7, 167, 0, 4, 5]
abbrev dktX10_reads_9 : List UInt8 := dkwX10_reads_9 ++ dktX10_reads_10
def dkwX10_reads_8 : List UInt8 := [96, 16, 48, 100, 167, 0, 7, 42, 180, 0, 100, 181, 0, 100, 42, 89, 180, 0, 80, 4, 96, 181, 0, 80]
abbrev dktX10_reads_8 : List UInt8 := dkwX10_reads_8 ++ dktX10_reads_9
def dkwX10_reads_7 : List UInt8 := [180, 0, 83, 100, 6, 162, 0, 26, 16, 10, 42, 180, 0, 100, 104, 42, 180, 0, 26, 42, 180, 0, 80, 46]
abbrev dktX10_reads_7 : List UInt8 := dkwX10_reads_7 ++ dktX10_reads_8
def dkwX10_reads_6 : List UInt8 := [181, 0, 100, 42, 42, 180, 0, 80, 182, 0, 93, 184, 0, 97, 153, 0, 60, 42, 42, 180, 0, 80, 42]
abbrev dktX10_reads_6 : List UInt8 := dkwX10_reads_6 ++ dktX10_reads_7
def dkwX10_reads_5 : List UInt8 := [181, 0, 80, 167, 255, 232, 42, 4, 181, 0, 86, 167, 0, 153, 27, 184, 0, 97, 153, 0, 104, 42, 3]
abbrev dktX10_reads_5 : List UInt8 := dkwX10_reads_5 ++ dktX10_reads_6
def dkwX10_reads_4 : List UInt8 := [153, 0, 38, 42, 42, 180, 0, 80, 182, 0, 93, 184, 0, 89, 153, 0, 16, 42, 89, 180, 0, 80, 4, 96]
abbrev dktX10_reads_4 : List UInt8 := dkwX10_reads_4 ++ dktX10_reads_5
def dkwX10_reads_3 : List UInt8 := [161, 0, 9, 42, 3, 181, 0, 86, 177, 42, 180, 0, 26, 42, 180, 0, 80, 46, 60, 27, 184, 0, 89]
abbrev dktX10_reads_3 : List UInt8 := dkwX10_reads_3 ++ dktX10_reads_4
def dkwX10_reads_2 : List UInt8 := [181, 0, 80, 167, 255, 207, 42, 42, 180, 0, 80, 181, 0, 83, 42, 180, 0, 80, 42, 180, 0, 77]
abbrev dktX10_reads_2 : List UInt8 := dkwX10_reads_2 ++ dktX10_reads_3
def dkwX10_reads_1 : List UInt8 := [159, 0, 17, 42, 180, 0, 26, 42, 180, 0, 80, 46, 16, 10, 160, 0, 16, 42, 89, 180, 0, 80, 4, 96]
abbrev dktX10_reads_1 : List UInt8 := dkwX10_reads_1 ++ dktX10_reads_2
def dkwX10_reads_0 : List UInt8 := [42, 180, 0, 80, 42, 180, 0, 77, 162, 0, 44, 42, 180, 0, 26, 42, 180, 0, 80, 46, 16, 32]
abbrev dktX10_reads_0 : List UInt8 := dkwX10_reads_0 ++ dktX10_reads_1
theorem dksX10_reads_0 : cX10_reads.data.toList.drop 0 = dktX10_reads_0 := by decide +kernel
theorem dksX10_reads_1 : cX10_reads.data.toList.drop 22 = dktX10_reads_1 := dk_seg dksX10_reads_0 22 rfl rfl
theorem dksX10_reads_2 : cX10_reads.data.toList.drop 46 = dktX10_reads_2 := dk_seg dksX10_reads_1 24 rfl rfl
theorem dksX10_reads_3 : cX10_reads.data.toList.drop 68 = dktX10_reads_3 := dk_seg dksX10_reads_2 22 rfl rfl
theorem dksX10_reads_4 : cX10_reads.data.toList.drop 91 = dktX10_reads_4 := dk_seg dksX10_reads_3 23 rfl rfl
theorem dksX10_reads_5 : cX10_reads.data.toList.drop 115 = dktX10_reads_5 := dk_seg dksX10_reads_4 24 rfl rfl
theorem dksX10_reads_6 : cX10_reads.data.toList.drop 138 = dktX10_reads_6 := dk_seg dksX10_reads_5 23 rfl rfl
theorem dksX10_reads_7 : cX10_reads.data.toList.drop 161 = dktX10_reads_7 := dk_seg dksX10_reads_6 23 rfl rfl
theorem dksX10_reads_8 : cX10_reads.data.toList.drop 185 = dktX10_reads_8 := dk_seg dksX10_reads_7 24 rfl rfl
theorem dksX10_reads_9 : cX10_reads.data.toList.drop 209 = dktX10_reads_9 := dk_seg dksX10_reads_8 24 rfl rfl
theorem dksX10_reads_10 : cX10_reads.data.toList.drop 231 = dktX10_reads_10 := dk_seg dksX10_reads_9 22 rfl rfl
theorem dksX10_reads_11 : cX10_reads.data.toList.drop 253 = dktX10_reads_11 := dk_seg dksX10_reads_10 22 rfl rfl
theorem dksX10_reads_12 : cX10_reads.data.toList.drop 276 = dktX10_reads_12 := dk_seg dksX10_reads_11 23 rfl rfl
theorem dX10_reads_0 : decode cX10_reads 0 = .ok (.aload_n 0, 1) := dk_42 (dk_at dksX10_reads_0 0 rfl rfl)
theorem dX10_reads_1 : decode cX10_reads 1 = .ok (.getfield 80, 3) := dk_180 0 80 (dk_at dksX10_reads_0 1 rfl rfl)
theorem dX10_reads_4 : decode cX10_reads 4 = .ok (.aload_n 0, 1) := dk_42 (dk_at dksX10_reads_0 4 rfl rfl)
theorem dX10_reads_5 : decode cX10_reads 5 = .ok (.getfield 77, 3) := dk_180 0 77 (dk_at dksX10_reads_0 5 rfl rfl)
theorem dX10_reads_8 : decode cX10_reads 8 = .ok (.if_icmp .ge 44, 3) := dk_162 0 44 (dk_at dksX10_reads_0 8 rfl rfl)
theorem dX10_reads_11 : decode cX10_reads 11 = .ok (.aload_n 0, 1) := dk_42 (dk_at dksX10_reads_0 11 rfl rfl)
theorem dX10_reads_12 : decode cX10_reads 12 = .ok (.getfield 26, 3) := dk_180 0 26 (dk_at dksX10_reads_0 12 rfl rfl)
theorem dX10_reads_15 : decode cX10_reads 15 = .ok (.aload_n 0, 1) := dk_42 (dk_at dksX10_reads_0 15 rfl rfl)
theorem dX10_reads_16 : decode cX10_reads 16 = .ok (.getfield 80, 3) := dk_180 0 80 (dk_at dksX10_reads_0 16 rfl rfl)
theorem dX10_reads_19 : decode cX10_reads 19 = .ok (.iaload, 1) := dk_46 (dk_at dksX10_reads_0 19 rfl rfl)
theorem dX10_reads_20 : decode cX10_reads 20 = .ok (.bipush 32, 2) := dk_16 32 (dk_at dksX10_reads_0 20 rfl rfl)
theorem dX10_reads_22 : decode cX10_reads 22 = .ok (.if_icmp .eq 17, 3) := dk_159 0 17 (dk_at dksX10_reads_1 0 rfl rfl)
theorem dX10_reads_25 : decode cX10_reads 25 = .ok (.aload_n 0, 1) := dk_42 (dk_at dksX10_reads_1 3 rfl rfl)
theorem dX10_reads_26 : decode cX10_reads 26 = .ok (.getfield 26, 3) := dk_180 0 26 (dk_at dksX10_reads_1 4 rfl rfl)
theorem dX10_reads_29 : decode cX10_reads 29 = .ok (.aload_n 0, 1) := dk_42 (dk_at dksX10_reads_1 7 rfl rfl)
theorem dX10_reads_30 : decode cX10_reads 30 = .ok (.getfield 80, 3) := dk_180 0 80 (dk_at dksX10_reads_1 8 rfl rfl)
theorem dX10_reads_33 : decode cX10_reads 33 = .ok (.iaload, 1) := dk_46 (dk_at dksX10_reads_1 11 rfl rfl)
theorem dX10_reads_34 : decode cX10_reads 34 = .ok (.bipush 10, 2) := dk_16 10 (dk_at dksX10_reads_1 12 rfl rfl)
theorem dX10_reads_36 : decode cX10_reads 36 = .ok (.if_icmp .ne 16, 3) := dk_160 0 16 (dk_at dksX10_reads_1 14 rfl rfl)
theorem dX10_reads_39 : decode cX10_reads 39 = .ok (.aload_n 0, 1) := dk_42 (dk_at dksX10_reads_1 17 rfl rfl)
theorem dX10_reads_40 : decode cX10_reads 40 = .ok (.dup, 1) := dk_89 (dk_at dksX10_reads_1 18 rfl rfl)
theorem dX10_reads_41 : decode cX10_reads 41 = .ok (.getfield 80, 3) := dk_180 0 80 (dk_at dksX10_reads_1 19 rfl rfl)
theorem dX10_reads_44 : decode cX10_reads 44 = .ok (.iconst 1, 1) := dk_4 (dk_at dksX10_reads_1 22 rfl rfl)
theorem dX10_reads_45 : decode cX10_reads 45 = .ok (.iadd, 1) := dk_96 (dk_at dksX10_reads_1 23 rfl rfl)
theorem dX10_reads_46 : decode cX10_reads 46 = .ok (.putfield 80, 3) := dk_181 0 80 (dk_at dksX10_reads_2 0 rfl rfl)
theorem dX10_reads_49 : decode cX10_reads 49 = .ok (.goto (-49), 3) := dk_167 255 207 (dk_at dksX10_reads_2 3 rfl rfl)
theorem dX10_reads_52 : decode cX10_reads 52 = .ok (.aload_n 0, 1) := dk_42 (dk_at dksX10_reads_2 6 rfl rfl)
theorem dX10_reads_53 : decode cX10_reads 53 = .ok (.aload_n 0, 1) := dk_42 (dk_at dksX10_reads_2 7 rfl rfl)
theorem dX10_reads_54 : decode cX10_reads 54 = .ok (.getfield 80, 3) := dk_180 0 80 (dk_at dksX10_reads_2 8 rfl rfl)
theorem dX10_reads_57 : decode cX10_reads 57 = .ok (.putfield 83, 3) := dk_181 0 83 (dk_at dksX10_reads_2 11 rfl rfl)
theorem dX10_reads_60 : decode cX10_reads 60 = .ok (.aload_n 0, 1) := dk_42 (dk_at dksX10_reads_2 14 rfl rfl)
theorem dX10_reads_61 : decode cX10_reads 61 = .ok (.getfield 80, 3) := dk_180 0 80 (dk_at dksX10_reads_2 15 rfl rfl)
theorem dX10_reads_64 : decode cX10_reads 64 = .ok (.aload_n 0, 1) := dk_42 (dk_at dksX10_reads_2 18 rfl rfl)
theorem dX10_reads_65 : decode cX10_reads 65 = .ok (.getfield 77, 3) := dk_180 0 77 (dk_at dksX10_reads_2 19 rfl rfl)
theorem dX10_reads_68 : decode cX10_reads 68 = .ok (.if_icmp .lt 9, 3) := dk_161 0 9 (dk_at dksX10_reads_3 0 rfl rfl)
theorem dX10_reads_71 : decode cX10_reads 71 = .ok (.aload_n 0, 1) := dk_42 (dk_at dksX10_reads_3 3 rfl rfl)
theorem dX10_reads_72 : decode cX10_reads 72 = .ok (.iconst 0, 1) := dk_3 (dk_at dksX10_reads_3 4 rfl rfl)
theorem dX10_reads_73 : decode cX10_reads 73 = .ok (.putfield 86, 3) := dk_181 0 86 (dk_at dksX10_reads_3 5 rfl rfl)
theorem dX10_reads_76 : decode cX10_reads 76 = .ok (.return_, 1) := dk_177 (dk_at dksX10_reads_3 8 rfl rfl)
theorem dX10_reads_77 : decode cX10_reads 77 = .ok (.aload_n 0, 1) := dk_42 (dk_at dksX10_reads_3 9 rfl rfl)
theorem dX10_reads_78 : decode cX10_reads 78 = .ok (.getfield 26, 3) := dk_180 0 26 (dk_at dksX10_reads_3 10 rfl rfl)
theorem dX10_reads_81 : decode cX10_reads 81 = .ok (.aload_n 0, 1) := dk_42 (dk_at dksX10_reads_3 13 rfl rfl)
theorem dX10_reads_82 : decode cX10_reads 82 = .ok (.getfield 80, 3) := dk_180 0 80 (dk_at dksX10_reads_3 14 rfl rfl)
theorem dX10_reads_85 : decode cX10_reads 85 = .ok (.iaload, 1) := dk_46 (dk_at dksX10_reads_3 17 rfl rfl)
theorem dX10_reads_86 : decode cX10_reads 86 = .ok (.istore_n 1, 1) := dk_60 (dk_at dksX10_reads_3 18 rfl rfl)
theorem dX10_reads_87 : decode cX10_reads 87 = .ok (.iload_n 1, 1) := dk_27 (dk_at dksX10_reads_3 19 rfl rfl)
theorem dX10_reads_88 : decode cX10_reads 88 = .ok (.invokestatic 89, 3) := dk_184 0 89 (dk_at dksX10_reads_3 20 rfl rfl)
theorem dX10_reads_91 : decode cX10_reads 91 = .ok (.ifCond .eq 38, 3) := dk_153 0 38 (dk_at dksX10_reads_4 0 rfl rfl)
theorem dX10_reads_94 : decode cX10_reads 94 = .ok (.aload_n 0, 1) := dk_42 (dk_at dksX10_reads_4 3 rfl rfl)
theorem dX10_reads_95 : decode cX10_reads 95 = .ok (.aload_n 0, 1) := dk_42 (dk_at dksX10_reads_4 4 rfl rfl)
theorem dX10_reads_96 : decode cX10_reads 96 = .ok (.getfield 80, 3) := dk_180 0 80 (dk_at dksX10_reads_4 5 rfl rfl)
theorem dX10_reads_99 : decode cX10_reads 99 = .ok (.invokevirtual 93, 3) := dk_182 0 93 (dk_at dksX10_reads_4 8 rfl rfl)
theorem dX10_reads_102 : decode cX10_reads 102 = .ok (.invokestatic 89, 3) := dk_184 0 89 (dk_at dksX10_reads_4 11 rfl rfl)
theorem dX10_reads_105 : decode cX10_reads 105 = .ok (.ifCond .eq 16, 3) := dk_153 0 16 (dk_at dksX10_reads_4 14 rfl rfl)
theorem dX10_reads_108 : decode cX10_reads 108 = .ok (.aload_n 0, 1) := dk_42 (dk_at dksX10_reads_4 17 rfl rfl)
theorem dX10_reads_109 : decode cX10_reads 109 = .ok (.dup, 1) := dk_89 (dk_at dksX10_reads_4 18 rfl rfl)
theorem dX10_reads_110 : decode cX10_reads 110 = .ok (.getfield 80, 3) := dk_180 0 80 (dk_at dksX10_reads_4 19 rfl rfl)
theorem dX10_reads_113 : decode cX10_reads 113 = .ok (.iconst 1, 1) := dk_4 (dk_at dksX10_reads_4 22 rfl rfl)
theorem dX10_reads_114 : decode cX10_reads 114 = .ok (.iadd, 1) := dk_96 (dk_at dksX10_reads_4 23 rfl rfl)
theorem dX10_reads_115 : decode cX10_reads 115 = .ok (.putfield 80, 3) := dk_181 0 80 (dk_at dksX10_reads_5 0 rfl rfl)
theorem dX10_reads_118 : decode cX10_reads 118 = .ok (.goto (-24), 3) := dk_167 255 232 (dk_at dksX10_reads_5 3 rfl rfl)
theorem dX10_reads_121 : decode cX10_reads 121 = .ok (.aload_n 0, 1) := dk_42 (dk_at dksX10_reads_5 6 rfl rfl)
theorem dX10_reads_122 : decode cX10_reads 122 = .ok (.iconst 1, 1) := dk_4 (dk_at dksX10_reads_5 7 rfl rfl)
theorem dX10_reads_123 : decode cX10_reads 123 = .ok (.putfield 86, 3) := dk_181 0 86 (dk_at dksX10_reads_5 8 rfl rfl)
theorem dX10_reads_126 : decode cX10_reads 126 = .ok (.goto 153, 3) := dk_167 0 153 (dk_at dksX10_reads_5 11 rfl rfl)
theorem dX10_reads_129 : decode cX10_reads 129 = .ok (.iload_n 1, 1) := dk_27 (dk_at dksX10_reads_5 14 rfl rfl)
theorem dX10_reads_130 : decode cX10_reads 130 = .ok (.invokestatic 97, 3) := dk_184 0 97 (dk_at dksX10_reads_5 15 rfl rfl)
theorem dX10_reads_133 : decode cX10_reads 133 = .ok (.ifCond .eq 104, 3) := dk_153 0 104 (dk_at dksX10_reads_5 18 rfl rfl)
theorem dX10_reads_136 : decode cX10_reads 136 = .ok (.aload_n 0, 1) := dk_42 (dk_at dksX10_reads_5 21 rfl rfl)
theorem dX10_reads_137 : decode cX10_reads 137 = .ok (.iconst 0, 1) := dk_3 (dk_at dksX10_reads_5 22 rfl rfl)
theorem dX10_reads_138 : decode cX10_reads 138 = .ok (.putfield 100, 3) := dk_181 0 100 (dk_at dksX10_reads_6 0 rfl rfl)
theorem dX10_reads_141 : decode cX10_reads 141 = .ok (.aload_n 0, 1) := dk_42 (dk_at dksX10_reads_6 3 rfl rfl)
theorem dX10_reads_142 : decode cX10_reads 142 = .ok (.aload_n 0, 1) := dk_42 (dk_at dksX10_reads_6 4 rfl rfl)
theorem dX10_reads_143 : decode cX10_reads 143 = .ok (.getfield 80, 3) := dk_180 0 80 (dk_at dksX10_reads_6 5 rfl rfl)
theorem dX10_reads_146 : decode cX10_reads 146 = .ok (.invokevirtual 93, 3) := dk_182 0 93 (dk_at dksX10_reads_6 8 rfl rfl)
theorem dX10_reads_149 : decode cX10_reads 149 = .ok (.invokestatic 97, 3) := dk_184 0 97 (dk_at dksX10_reads_6 11 rfl rfl)
theorem dX10_reads_152 : decode cX10_reads 152 = .ok (.ifCond .eq 60, 3) := dk_153 0 60 (dk_at dksX10_reads_6 14 rfl rfl)
theorem dX10_reads_155 : decode cX10_reads 155 = .ok (.aload_n 0, 1) := dk_42 (dk_at dksX10_reads_6 17 rfl rfl)
theorem dX10_reads_156 : decode cX10_reads 156 = .ok (.aload_n 0, 1) := dk_42 (dk_at dksX10_reads_6 18 rfl rfl)
theorem dX10_reads_157 : decode cX10_reads 157 = .ok (.getfield 80, 3) := dk_180 0 80 (dk_at dksX10_reads_6 19 rfl rfl)
theorem dX10_reads_160 : decode cX10_reads 160 = .ok (.aload_n 0, 1) := dk_42 (dk_at dksX10_reads_6 22 rfl rfl)
theorem dX10_reads_161 : decode cX10_reads 161 = .ok (.getfield 83, 3) := dk_180 0 83 (dk_at dksX10_reads_7 0 rfl rfl)
theorem dX10_reads_164 : decode cX10_reads 164 = .ok (.isub, 1) := dk_100 (dk_at dksX10_reads_7 3 rfl rfl)
theorem dX10_reads_165 : decode cX10_reads 165 = .ok (.iconst 3, 1) := dk_6 (dk_at dksX10_reads_7 4 rfl rfl)
theorem dX10_reads_166 : decode cX10_reads 166 = .ok (.if_icmp .ge 26, 3) := dk_162 0 26 (dk_at dksX10_reads_7 5 rfl rfl)
theorem dX10_reads_169 : decode cX10_reads 169 = .ok (.bipush 10, 2) := dk_16 10 (dk_at dksX10_reads_7 8 rfl rfl)
theorem dX10_reads_171 : decode cX10_reads 171 = .ok (.aload_n 0, 1) := dk_42 (dk_at dksX10_reads_7 10 rfl rfl)
theorem dX10_reads_172 : decode cX10_reads 172 = .ok (.getfield 100, 3) := dk_180 0 100 (dk_at dksX10_reads_7 11 rfl rfl)
theorem dX10_reads_175 : decode cX10_reads 175 = .ok (.imul, 1) := dk_104 (dk_at dksX10_reads_7 14 rfl rfl)
theorem dX10_reads_176 : decode cX10_reads 176 = .ok (.aload_n 0, 1) := dk_42 (dk_at dksX10_reads_7 15 rfl rfl)
theorem dX10_reads_177 : decode cX10_reads 177 = .ok (.getfield 26, 3) := dk_180 0 26 (dk_at dksX10_reads_7 16 rfl rfl)
theorem dX10_reads_180 : decode cX10_reads 180 = .ok (.aload_n 0, 1) := dk_42 (dk_at dksX10_reads_7 19 rfl rfl)
theorem dX10_reads_181 : decode cX10_reads 181 = .ok (.getfield 80, 3) := dk_180 0 80 (dk_at dksX10_reads_7 20 rfl rfl)
theorem dX10_reads_184 : decode cX10_reads 184 = .ok (.iaload, 1) := dk_46 (dk_at dksX10_reads_7 23 rfl rfl)
theorem dX10_reads_185 : decode cX10_reads 185 = .ok (.iadd, 1) := dk_96 (dk_at dksX10_reads_8 0 rfl rfl)
theorem dX10_reads_186 : decode cX10_reads 186 = .ok (.bipush 48, 2) := dk_16 48 (dk_at dksX10_reads_8 1 rfl rfl)
theorem dX10_reads_188 : decode cX10_reads 188 = .ok (.isub, 1) := dk_100 (dk_at dksX10_reads_8 3 rfl rfl)
theorem dX10_reads_189 : decode cX10_reads 189 = .ok (.goto 7, 3) := dk_167 0 7 (dk_at dksX10_reads_8 4 rfl rfl)
theorem dX10_reads_192 : decode cX10_reads 192 = .ok (.aload_n 0, 1) := dk_42 (dk_at dksX10_reads_8 7 rfl rfl)
theorem dX10_reads_193 : decode cX10_reads 193 = .ok (.getfield 100, 3) := dk_180 0 100 (dk_at dksX10_reads_8 8 rfl rfl)
theorem dX10_reads_196 : decode cX10_reads 196 = .ok (.putfield 100, 3) := dk_181 0 100 (dk_at dksX10_reads_8 11 rfl rfl)
theorem dX10_reads_199 : decode cX10_reads 199 = .ok (.aload_n 0, 1) := dk_42 (dk_at dksX10_reads_8 14 rfl rfl)
theorem dX10_reads_200 : decode cX10_reads 200 = .ok (.dup, 1) := dk_89 (dk_at dksX10_reads_8 15 rfl rfl)
theorem dX10_reads_201 : decode cX10_reads 201 = .ok (.getfield 80, 3) := dk_180 0 80 (dk_at dksX10_reads_8 16 rfl rfl)
theorem dX10_reads_204 : decode cX10_reads 204 = .ok (.iconst 1, 1) := dk_4 (dk_at dksX10_reads_8 19 rfl rfl)
theorem dX10_reads_205 : decode cX10_reads 205 = .ok (.iadd, 1) := dk_96 (dk_at dksX10_reads_8 20 rfl rfl)
theorem dX10_reads_206 : decode cX10_reads 206 = .ok (.putfield 80, 3) := dk_181 0 80 (dk_at dksX10_reads_8 21 rfl rfl)
theorem dX10_reads_209 : decode cX10_reads 209 = .ok (.goto (-68), 3) := dk_167 255 188 (dk_at dksX10_reads_9 0 rfl rfl)
theorem dX10_reads_212 : decode cX10_reads 212 = .ok (.aload_n 0, 1) := dk_42 (dk_at dksX10_reads_9 3 rfl rfl)
theorem dX10_reads_213 : decode cX10_reads 213 = .ok (.aload_n 0, 1) := dk_42 (dk_at dksX10_reads_9 4 rfl rfl)
theorem dX10_reads_214 : decode cX10_reads 214 = .ok (.getfield 80, 3) := dk_180 0 80 (dk_at dksX10_reads_9 5 rfl rfl)
theorem dX10_reads_217 : decode cX10_reads 217 = .ok (.aload_n 0, 1) := dk_42 (dk_at dksX10_reads_9 8 rfl rfl)
theorem dX10_reads_218 : decode cX10_reads 218 = .ok (.getfield 83, 3) := dk_180 0 83 (dk_at dksX10_reads_9 9 rfl rfl)
theorem dX10_reads_221 : decode cX10_reads 221 = .ok (.isub, 1) := dk_100 (dk_at dksX10_reads_9 12 rfl rfl)
theorem dX10_reads_222 : decode cX10_reads 222 = .ok (.iconst 3, 1) := dk_6 (dk_at dksX10_reads_9 13 rfl rfl)
theorem dX10_reads_223 : decode cX10_reads 223 = .ok (.if_icmp .le 7, 3) := dk_164 0 7 (dk_at dksX10_reads_9 14 rfl rfl)
theorem dX10_reads_226 : decode cX10_reads 226 = .ok (.iconst 4, 1) := dk_7 (dk_at dksX10_reads_9 17 rfl rfl)
theorem dX10_reads_227 : decode cX10_reads 227 = .ok (.goto 4, 3) := dk_167 0 4 (dk_at dksX10_reads_9 18 rfl rfl)
theorem dX10_reads_230 : decode cX10_reads 230 = .ok (.iconst 2, 1) := dk_5 (dk_at dksX10_reads_9 21 rfl rfl)
theorem dX10_reads_231 : decode cX10_reads 231 = .ok (.putfield 86, 3) := dk_181 0 86 (dk_at dksX10_reads_10 0 rfl rfl)
theorem dX10_reads_234 : decode cX10_reads 234 = .ok (.goto 45, 3) := dk_167 0 45 (dk_at dksX10_reads_10 3 rfl rfl)
theorem dX10_reads_237 : decode cX10_reads 237 = .ok (.aload_n 0, 1) := dk_42 (dk_at dksX10_reads_10 6 rfl rfl)
theorem dX10_reads_238 : decode cX10_reads 238 = .ok (.iload_n 1, 1) := dk_27 (dk_at dksX10_reads_10 7 rfl rfl)
theorem dX10_reads_239 : decode cX10_reads 239 = .ok (.bipush 59, 2) := dk_16 59 (dk_at dksX10_reads_10 8 rfl rfl)
theorem dX10_reads_241 : decode cX10_reads 241 = .ok (.if_icmp .eq 15, 3) := dk_159 0 15 (dk_at dksX10_reads_10 10 rfl rfl)
theorem dX10_reads_244 : decode cX10_reads 244 = .ok (.iload_n 1, 1) := dk_27 (dk_at dksX10_reads_10 13 rfl rfl)
theorem dX10_reads_245 : decode cX10_reads 245 = .ok (.bipush 40, 2) := dk_16 40 (dk_at dksX10_reads_10 14 rfl rfl)
theorem dX10_reads_247 : decode cX10_reads 247 = .ok (.if_icmp .eq 9, 3) := dk_159 0 9 (dk_at dksX10_reads_10 16 rfl rfl)
theorem dX10_reads_250 : decode cX10_reads 250 = .ok (.iload_n 1, 1) := dk_27 (dk_at dksX10_reads_10 19 rfl rfl)
theorem dX10_reads_251 : decode cX10_reads 251 = .ok (.bipush 41, 2) := dk_16 41 (dk_at dksX10_reads_10 20 rfl rfl)
theorem dX10_reads_253 : decode cX10_reads 253 = .ok (.if_icmp .ne 7, 3) := dk_160 0 7 (dk_at dksX10_reads_11 0 rfl rfl)
theorem dX10_reads_256 : decode cX10_reads 256 = .ok (.iconst 3, 1) := dk_6 (dk_at dksX10_reads_11 3 rfl rfl)
theorem dX10_reads_257 : decode cX10_reads 257 = .ok (.goto 4, 3) := dk_167 0 4 (dk_at dksX10_reads_11 4 rfl rfl)
theorem dX10_reads_260 : decode cX10_reads 260 = .ok (.iconst 4, 1) := dk_7 (dk_at dksX10_reads_11 7 rfl rfl)
theorem dX10_reads_261 : decode cX10_reads 261 = .ok (.putfield 86, 3) := dk_181 0 86 (dk_at dksX10_reads_11 8 rfl rfl)
theorem dX10_reads_264 : decode cX10_reads 264 = .ok (.aload_n 0, 1) := dk_42 (dk_at dksX10_reads_11 11 rfl rfl)
theorem dX10_reads_265 : decode cX10_reads 265 = .ok (.iload_n 1, 1) := dk_27 (dk_at dksX10_reads_11 12 rfl rfl)
theorem dX10_reads_266 : decode cX10_reads 266 = .ok (.putfield 100, 3) := dk_181 0 100 (dk_at dksX10_reads_11 13 rfl rfl)
theorem dX10_reads_269 : decode cX10_reads 269 = .ok (.aload_n 0, 1) := dk_42 (dk_at dksX10_reads_11 16 rfl rfl)
theorem dX10_reads_270 : decode cX10_reads 270 = .ok (.dup, 1) := dk_89 (dk_at dksX10_reads_11 17 rfl rfl)
theorem dX10_reads_271 : decode cX10_reads 271 = .ok (.getfield 80, 3) := dk_180 0 80 (dk_at dksX10_reads_11 18 rfl rfl)
theorem dX10_reads_274 : decode cX10_reads 274 = .ok (.iconst 1, 1) := dk_4 (dk_at dksX10_reads_11 21 rfl rfl)
theorem dX10_reads_275 : decode cX10_reads 275 = .ok (.iadd, 1) := dk_96 (dk_at dksX10_reads_11 22 rfl rfl)
theorem dX10_reads_276 : decode cX10_reads 276 = .ok (.putfield 80, 3) := dk_181 0 80 (dk_at dksX10_reads_12 0 rfl rfl)
theorem dX10_reads_279 : decode cX10_reads 279 = .ok (.return_, 1) := dk_177 (dk_at dksX10_reads_12 3 rfl rfl)
abbrev cX10_isLetter : ByteArray := prog_33_method_9_code
def yX10_isLetter : MethodName := ⟨RX10, "isLetter", "(I)Z"⟩
def dkwX10_isLetter_0 : List UInt8 := [26, 16, 97, 161, 0, 13, 26, 16, 122, 163, 0, 7, 4, 167, 0, 4, 3, 172]
abbrev dktX10_isLetter_0 : List UInt8 := dkwX10_isLetter_0 ++ []
theorem dksX10_isLetter_0 : cX10_isLetter.data.toList.drop 0 = dktX10_isLetter_0 := by decide +kernel
theorem dX10_isLetter_0 : decode cX10_isLetter 0 = .ok (.iload_n 0, 1) := dk_26 (dk_at dksX10_isLetter_0 0 rfl rfl)
theorem dX10_isLetter_1 : decode cX10_isLetter 1 = .ok (.bipush 97, 2) := dk_16 97 (dk_at dksX10_isLetter_0 1 rfl rfl)
theorem dX10_isLetter_3 : decode cX10_isLetter 3 = .ok (.if_icmp .lt 13, 3) := dk_161 0 13 (dk_at dksX10_isLetter_0 3 rfl rfl)
theorem dX10_isLetter_6 : decode cX10_isLetter 6 = .ok (.iload_n 0, 1) := dk_26 (dk_at dksX10_isLetter_0 6 rfl rfl)
theorem dX10_isLetter_7 : decode cX10_isLetter 7 = .ok (.bipush 122, 2) := dk_16 122 (dk_at dksX10_isLetter_0 7 rfl rfl)
theorem dX10_isLetter_9 : decode cX10_isLetter 9 = .ok (.if_icmp .gt 7, 3) := dk_163 0 7 (dk_at dksX10_isLetter_0 9 rfl rfl)
theorem dX10_isLetter_12 : decode cX10_isLetter 12 = .ok (.iconst 1, 1) := dk_4 (dk_at dksX10_isLetter_0 12 rfl rfl)
theorem dX10_isLetter_13 : decode cX10_isLetter 13 = .ok (.goto 4, 3) := dk_167 0 4 (dk_at dksX10_isLetter_0 13 rfl rfl)
theorem dX10_isLetter_16 : decode cX10_isLetter 16 = .ok (.iconst 0, 1) := dk_3 (dk_at dksX10_isLetter_0 16 rfl rfl)
theorem dX10_isLetter_17 : decode cX10_isLetter 17 = .ok (.ireturn, 1) := dk_172 (dk_at dksX10_isLetter_0 17 rfl rfl)
abbrev cX10_see : ByteArray := prog_33_method_8_code
def yX10_see : MethodName := ⟨RX10, "see", "(I)I"⟩
def dkwX10_see_0 : List UInt8 := [27, 42, 180, 0, 77, 162, 0, 12, 42, 180, 0, 26, 27, 46, 167, 0, 4, 3, 172]
abbrev dktX10_see_0 : List UInt8 := dkwX10_see_0 ++ []
theorem dksX10_see_0 : cX10_see.data.toList.drop 0 = dktX10_see_0 := by decide +kernel
theorem dX10_see_0 : decode cX10_see 0 = .ok (.iload_n 1, 1) := dk_27 (dk_at dksX10_see_0 0 rfl rfl)
theorem dX10_see_1 : decode cX10_see 1 = .ok (.aload_n 0, 1) := dk_42 (dk_at dksX10_see_0 1 rfl rfl)
theorem dX10_see_2 : decode cX10_see 2 = .ok (.getfield 77, 3) := dk_180 0 77 (dk_at dksX10_see_0 2 rfl rfl)
theorem dX10_see_5 : decode cX10_see 5 = .ok (.if_icmp .ge 12, 3) := dk_162 0 12 (dk_at dksX10_see_0 5 rfl rfl)
theorem dX10_see_8 : decode cX10_see 8 = .ok (.aload_n 0, 1) := dk_42 (dk_at dksX10_see_0 8 rfl rfl)
theorem dX10_see_9 : decode cX10_see 9 = .ok (.getfield 26, 3) := dk_180 0 26 (dk_at dksX10_see_0 9 rfl rfl)
theorem dX10_see_12 : decode cX10_see 12 = .ok (.iload_n 1, 1) := dk_27 (dk_at dksX10_see_0 12 rfl rfl)
theorem dX10_see_13 : decode cX10_see 13 = .ok (.iaload, 1) := dk_46 (dk_at dksX10_see_0 13 rfl rfl)
theorem dX10_see_14 : decode cX10_see 14 = .ok (.goto 4, 3) := dk_167 0 4 (dk_at dksX10_see_0 14 rfl rfl)
theorem dX10_see_17 : decode cX10_see 17 = .ok (.iconst 0, 1) := dk_3 (dk_at dksX10_see_0 17 rfl rfl)
theorem dX10_see_18 : decode cX10_see 18 = .ok (.ireturn, 1) := dk_172 (dk_at dksX10_see_0 18 rfl rfl)
abbrev cX10_isDigit : ByteArray := prog_33_method_10_code
def yX10_isDigit : MethodName := ⟨RX10, "isDigit", "(I)Z"⟩
def dkwX10_isDigit_0 : List UInt8 := [26, 16, 48, 161, 0, 13, 26, 16, 57, 163, 0, 7, 4, 167, 0, 4, 3, 172]
abbrev dktX10_isDigit_0 : List UInt8 := dkwX10_isDigit_0 ++ []
theorem dksX10_isDigit_0 : cX10_isDigit.data.toList.drop 0 = dktX10_isDigit_0 := by decide +kernel
theorem dX10_isDigit_0 : decode cX10_isDigit 0 = .ok (.iload_n 0, 1) := dk_26 (dk_at dksX10_isDigit_0 0 rfl rfl)
theorem dX10_isDigit_1 : decode cX10_isDigit 1 = .ok (.bipush 48, 2) := dk_16 48 (dk_at dksX10_isDigit_0 1 rfl rfl)
theorem dX10_isDigit_3 : decode cX10_isDigit 3 = .ok (.if_icmp .lt 13, 3) := dk_161 0 13 (dk_at dksX10_isDigit_0 3 rfl rfl)
theorem dX10_isDigit_6 : decode cX10_isDigit 6 = .ok (.iload_n 0, 1) := dk_26 (dk_at dksX10_isDigit_0 6 rfl rfl)
theorem dX10_isDigit_7 : decode cX10_isDigit 7 = .ok (.bipush 57, 2) := dk_16 57 (dk_at dksX10_isDigit_0 7 rfl rfl)
theorem dX10_isDigit_9 : decode cX10_isDigit 9 = .ok (.if_icmp .gt 7, 3) := dk_163 0 7 (dk_at dksX10_isDigit_0 9 rfl rfl)
theorem dX10_isDigit_12 : decode cX10_isDigit 12 = .ok (.iconst 1, 1) := dk_4 (dk_at dksX10_isDigit_0 12 rfl rfl)
theorem dX10_isDigit_13 : decode cX10_isDigit 13 = .ok (.goto 4, 3) := dk_167 0 4 (dk_at dksX10_isDigit_0 13 rfl rfl)
theorem dX10_isDigit_16 : decode cX10_isDigit 16 = .ok (.iconst 0, 1) := dk_3 (dk_at dksX10_isDigit_0 16 rfl rfl)
theorem dX10_isDigit_17 : decode cX10_isDigit 17 = .ok (.ireturn, 1) := dk_172 (dk_at dksX10_isDigit_0 17 rfl rfl)
abbrev cX10_readLine : ByteArray := prog_33_method_29_code
def yX10_readLine : MethodName := ⟨RX10, "readLine", "()V"⟩
def dkwX10_readLine_6 : List UInt8 := [42, 180, 0, 103, 154, 0, 13, 42, 180, 0, 13, 3, 92, 46, 4, 96, 79, 177]
abbrev dktX10_readLine_6 : List UInt8 := dkwX10_readLine_6 ++ []
def dkwX10_readLine_5 : List UInt8 := [182, 0, 119, 153, 0, 10, 42, 182, 0, 234, 167, 0, 8, 42, 5, 182, 0, 129, 42, 16, 59, 182, 0, 150]
abbrev dktX10_readLine_5 : List UInt8 := dkwX10_readLine_5 ++ dktX10_readLine_6
def dkwX10_readLine_4 : List UInt8 := [79, 167, 0, 40, 42, 18, 227, 182, 0, 119, 153, 0, 10, 42, 182, 0, 229, 167, 0, 24, 42, 18, 232]
abbrev dktX10_readLine_4 : List UInt8 := dkwX10_readLine_4 ++ dktX10_readLine_5
def dkwX10_readLine_3 : List UInt8 := [16, 120, 182, 0, 137, 79, 167, 0, 59, 42, 18, 225, 182, 0, 167, 153, 0, 13, 42, 180, 0, 13, 7, 4]
abbrev dktX10_readLine_3 : List UInt8 := dkwX10_readLine_3 ++ dktX10_readLine_4
def dkwX10_readLine_2 : List UInt8 := [182, 0, 137, 79, 167, 0, 84, 42, 18, 223, 182, 0, 167, 153, 0, 19, 42, 180, 0, 13, 6, 42, 5]
abbrev dktX10_readLine_2 : List UInt8 := dkwX10_readLine_2 ++ dktX10_readLine_3
def dkwX10_readLine_1 : List UInt8 := [154, 0, 8, 42, 5, 182, 0, 129, 42, 180, 0, 13, 4, 27, 79, 42, 180, 0, 13, 5, 42, 27, 16, 60]
abbrev dktX10_readLine_1 : List UInt8 := dkwX10_readLine_1 ++ dktX10_readLine_2
def dkwX10_readLine_0 : List UInt8 := [42, 18, 220, 182, 0, 167, 153, 0, 48, 42, 4, 16, 60, 182, 0, 137, 60, 42, 18, 221, 182, 0, 167]
abbrev dktX10_readLine_0 : List UInt8 := dkwX10_readLine_0 ++ dktX10_readLine_1
theorem dksX10_readLine_0 : cX10_readLine.data.toList.drop 0 = dktX10_readLine_0 := by decide +kernel
theorem dksX10_readLine_1 : cX10_readLine.data.toList.drop 23 = dktX10_readLine_1 := dk_seg dksX10_readLine_0 23 rfl rfl
theorem dksX10_readLine_2 : cX10_readLine.data.toList.drop 47 = dktX10_readLine_2 := dk_seg dksX10_readLine_1 24 rfl rfl
theorem dksX10_readLine_3 : cX10_readLine.data.toList.drop 70 = dktX10_readLine_3 := dk_seg dksX10_readLine_2 23 rfl rfl
theorem dksX10_readLine_4 : cX10_readLine.data.toList.drop 94 = dktX10_readLine_4 := dk_seg dksX10_readLine_3 24 rfl rfl
theorem dksX10_readLine_5 : cX10_readLine.data.toList.drop 117 = dktX10_readLine_5 := dk_seg dksX10_readLine_4 23 rfl rfl
theorem dksX10_readLine_6 : cX10_readLine.data.toList.drop 141 = dktX10_readLine_6 := dk_seg dksX10_readLine_5 24 rfl rfl
theorem dX10_readLine_0 : decode cX10_readLine 0 = .ok (.aload_n 0, 1) := dk_42 (dk_at dksX10_readLine_0 0 rfl rfl)
theorem dX10_readLine_1 : decode cX10_readLine 1 = .ok (.ldc 220, 2) := dk_18 220 (dk_at dksX10_readLine_0 1 rfl rfl)
theorem dX10_readLine_3 : decode cX10_readLine 3 = .ok (.invokevirtual 167, 3) := dk_182 0 167 (dk_at dksX10_readLine_0 3 rfl rfl)
theorem dX10_readLine_6 : decode cX10_readLine 6 = .ok (.ifCond .eq 48, 3) := dk_153 0 48 (dk_at dksX10_readLine_0 6 rfl rfl)
theorem dX10_readLine_9 : decode cX10_readLine 9 = .ok (.aload_n 0, 1) := dk_42 (dk_at dksX10_readLine_0 9 rfl rfl)
theorem dX10_readLine_10 : decode cX10_readLine 10 = .ok (.iconst 1, 1) := dk_4 (dk_at dksX10_readLine_0 10 rfl rfl)
theorem dX10_readLine_11 : decode cX10_readLine 11 = .ok (.bipush 60, 2) := dk_16 60 (dk_at dksX10_readLine_0 11 rfl rfl)
theorem dX10_readLine_13 : decode cX10_readLine 13 = .ok (.invokevirtual 137, 3) := dk_182 0 137 (dk_at dksX10_readLine_0 13 rfl rfl)
theorem dX10_readLine_16 : decode cX10_readLine 16 = .ok (.istore_n 1, 1) := dk_60 (dk_at dksX10_readLine_0 16 rfl rfl)
theorem dX10_readLine_17 : decode cX10_readLine 17 = .ok (.aload_n 0, 1) := dk_42 (dk_at dksX10_readLine_0 17 rfl rfl)
theorem dX10_readLine_18 : decode cX10_readLine 18 = .ok (.ldc 221, 2) := dk_18 221 (dk_at dksX10_readLine_0 18 rfl rfl)
theorem dX10_readLine_20 : decode cX10_readLine 20 = .ok (.invokevirtual 167, 3) := dk_182 0 167 (dk_at dksX10_readLine_0 20 rfl rfl)
theorem dX10_readLine_23 : decode cX10_readLine 23 = .ok (.ifCond .ne 8, 3) := dk_154 0 8 (dk_at dksX10_readLine_1 0 rfl rfl)
theorem dX10_readLine_26 : decode cX10_readLine 26 = .ok (.aload_n 0, 1) := dk_42 (dk_at dksX10_readLine_1 3 rfl rfl)
theorem dX10_readLine_27 : decode cX10_readLine 27 = .ok (.iconst 2, 1) := dk_5 (dk_at dksX10_readLine_1 4 rfl rfl)
theorem dX10_readLine_28 : decode cX10_readLine 28 = .ok (.invokevirtual 129, 3) := dk_182 0 129 (dk_at dksX10_readLine_1 5 rfl rfl)
theorem dX10_readLine_31 : decode cX10_readLine 31 = .ok (.aload_n 0, 1) := dk_42 (dk_at dksX10_readLine_1 8 rfl rfl)
theorem dX10_readLine_32 : decode cX10_readLine 32 = .ok (.getfield 13, 3) := dk_180 0 13 (dk_at dksX10_readLine_1 9 rfl rfl)
theorem dX10_readLine_35 : decode cX10_readLine 35 = .ok (.iconst 1, 1) := dk_4 (dk_at dksX10_readLine_1 12 rfl rfl)
theorem dX10_readLine_36 : decode cX10_readLine 36 = .ok (.iload_n 1, 1) := dk_27 (dk_at dksX10_readLine_1 13 rfl rfl)
theorem dX10_readLine_37 : decode cX10_readLine 37 = .ok (.iastore, 1) := dk_79 (dk_at dksX10_readLine_1 14 rfl rfl)
theorem dX10_readLine_38 : decode cX10_readLine 38 = .ok (.aload_n 0, 1) := dk_42 (dk_at dksX10_readLine_1 15 rfl rfl)
theorem dX10_readLine_39 : decode cX10_readLine 39 = .ok (.getfield 13, 3) := dk_180 0 13 (dk_at dksX10_readLine_1 16 rfl rfl)
theorem dX10_readLine_42 : decode cX10_readLine 42 = .ok (.iconst 2, 1) := dk_5 (dk_at dksX10_readLine_1 19 rfl rfl)
theorem dX10_readLine_43 : decode cX10_readLine 43 = .ok (.aload_n 0, 1) := dk_42 (dk_at dksX10_readLine_1 20 rfl rfl)
theorem dX10_readLine_44 : decode cX10_readLine 44 = .ok (.iload_n 1, 1) := dk_27 (dk_at dksX10_readLine_1 21 rfl rfl)
theorem dX10_readLine_45 : decode cX10_readLine 45 = .ok (.bipush 60, 2) := dk_16 60 (dk_at dksX10_readLine_1 22 rfl rfl)
theorem dX10_readLine_47 : decode cX10_readLine 47 = .ok (.invokevirtual 137, 3) := dk_182 0 137 (dk_at dksX10_readLine_2 0 rfl rfl)
theorem dX10_readLine_50 : decode cX10_readLine 50 = .ok (.iastore, 1) := dk_79 (dk_at dksX10_readLine_2 3 rfl rfl)
theorem dX10_readLine_51 : decode cX10_readLine 51 = .ok (.goto 84, 3) := dk_167 0 84 (dk_at dksX10_readLine_2 4 rfl rfl)
theorem dX10_readLine_54 : decode cX10_readLine 54 = .ok (.aload_n 0, 1) := dk_42 (dk_at dksX10_readLine_2 7 rfl rfl)
theorem dX10_readLine_55 : decode cX10_readLine 55 = .ok (.ldc 223, 2) := dk_18 223 (dk_at dksX10_readLine_2 8 rfl rfl)
theorem dX10_readLine_57 : decode cX10_readLine 57 = .ok (.invokevirtual 167, 3) := dk_182 0 167 (dk_at dksX10_readLine_2 10 rfl rfl)
theorem dX10_readLine_60 : decode cX10_readLine 60 = .ok (.ifCond .eq 19, 3) := dk_153 0 19 (dk_at dksX10_readLine_2 13 rfl rfl)
theorem dX10_readLine_63 : decode cX10_readLine 63 = .ok (.aload_n 0, 1) := dk_42 (dk_at dksX10_readLine_2 16 rfl rfl)
theorem dX10_readLine_64 : decode cX10_readLine 64 = .ok (.getfield 13, 3) := dk_180 0 13 (dk_at dksX10_readLine_2 17 rfl rfl)
theorem dX10_readLine_67 : decode cX10_readLine 67 = .ok (.iconst 3, 1) := dk_6 (dk_at dksX10_readLine_2 20 rfl rfl)
theorem dX10_readLine_68 : decode cX10_readLine 68 = .ok (.aload_n 0, 1) := dk_42 (dk_at dksX10_readLine_2 21 rfl rfl)
theorem dX10_readLine_69 : decode cX10_readLine 69 = .ok (.iconst 2, 1) := dk_5 (dk_at dksX10_readLine_2 22 rfl rfl)
theorem dX10_readLine_70 : decode cX10_readLine 70 = .ok (.bipush 120, 2) := dk_16 120 (dk_at dksX10_readLine_3 0 rfl rfl)
theorem dX10_readLine_72 : decode cX10_readLine 72 = .ok (.invokevirtual 137, 3) := dk_182 0 137 (dk_at dksX10_readLine_3 2 rfl rfl)
theorem dX10_readLine_75 : decode cX10_readLine 75 = .ok (.iastore, 1) := dk_79 (dk_at dksX10_readLine_3 5 rfl rfl)
theorem dX10_readLine_76 : decode cX10_readLine 76 = .ok (.goto 59, 3) := dk_167 0 59 (dk_at dksX10_readLine_3 6 rfl rfl)
theorem dX10_readLine_79 : decode cX10_readLine 79 = .ok (.aload_n 0, 1) := dk_42 (dk_at dksX10_readLine_3 9 rfl rfl)
theorem dX10_readLine_80 : decode cX10_readLine 80 = .ok (.ldc 225, 2) := dk_18 225 (dk_at dksX10_readLine_3 10 rfl rfl)
theorem dX10_readLine_82 : decode cX10_readLine 82 = .ok (.invokevirtual 167, 3) := dk_182 0 167 (dk_at dksX10_readLine_3 12 rfl rfl)
theorem dX10_readLine_85 : decode cX10_readLine 85 = .ok (.ifCond .eq 13, 3) := dk_153 0 13 (dk_at dksX10_readLine_3 15 rfl rfl)
theorem dX10_readLine_88 : decode cX10_readLine 88 = .ok (.aload_n 0, 1) := dk_42 (dk_at dksX10_readLine_3 18 rfl rfl)
theorem dX10_readLine_89 : decode cX10_readLine 89 = .ok (.getfield 13, 3) := dk_180 0 13 (dk_at dksX10_readLine_3 19 rfl rfl)
theorem dX10_readLine_92 : decode cX10_readLine 92 = .ok (.iconst 4, 1) := dk_7 (dk_at dksX10_readLine_3 22 rfl rfl)
theorem dX10_readLine_93 : decode cX10_readLine 93 = .ok (.iconst 1, 1) := dk_4 (dk_at dksX10_readLine_3 23 rfl rfl)
theorem dX10_readLine_94 : decode cX10_readLine 94 = .ok (.iastore, 1) := dk_79 (dk_at dksX10_readLine_4 0 rfl rfl)
theorem dX10_readLine_95 : decode cX10_readLine 95 = .ok (.goto 40, 3) := dk_167 0 40 (dk_at dksX10_readLine_4 1 rfl rfl)
theorem dX10_readLine_98 : decode cX10_readLine 98 = .ok (.aload_n 0, 1) := dk_42 (dk_at dksX10_readLine_4 4 rfl rfl)
theorem dX10_readLine_99 : decode cX10_readLine 99 = .ok (.ldc 227, 2) := dk_18 227 (dk_at dksX10_readLine_4 5 rfl rfl)
theorem dX10_readLine_101 : decode cX10_readLine 101 = .ok (.invokevirtual 119, 3) := dk_182 0 119 (dk_at dksX10_readLine_4 7 rfl rfl)
theorem dX10_readLine_104 : decode cX10_readLine 104 = .ok (.ifCond .eq 10, 3) := dk_153 0 10 (dk_at dksX10_readLine_4 10 rfl rfl)
theorem dX10_readLine_107 : decode cX10_readLine 107 = .ok (.aload_n 0, 1) := dk_42 (dk_at dksX10_readLine_4 13 rfl rfl)
theorem dX10_readLine_108 : decode cX10_readLine 108 = .ok (.invokevirtual 229, 3) := dk_182 0 229 (dk_at dksX10_readLine_4 14 rfl rfl)
theorem dX10_readLine_111 : decode cX10_readLine 111 = .ok (.goto 24, 3) := dk_167 0 24 (dk_at dksX10_readLine_4 17 rfl rfl)
theorem dX10_readLine_114 : decode cX10_readLine 114 = .ok (.aload_n 0, 1) := dk_42 (dk_at dksX10_readLine_4 20 rfl rfl)
theorem dX10_readLine_115 : decode cX10_readLine 115 = .ok (.ldc 232, 2) := dk_18 232 (dk_at dksX10_readLine_4 21 rfl rfl)
theorem dX10_readLine_117 : decode cX10_readLine 117 = .ok (.invokevirtual 119, 3) := dk_182 0 119 (dk_at dksX10_readLine_5 0 rfl rfl)
theorem dX10_readLine_120 : decode cX10_readLine 120 = .ok (.ifCond .eq 10, 3) := dk_153 0 10 (dk_at dksX10_readLine_5 3 rfl rfl)
theorem dX10_readLine_123 : decode cX10_readLine 123 = .ok (.aload_n 0, 1) := dk_42 (dk_at dksX10_readLine_5 6 rfl rfl)
theorem dX10_readLine_124 : decode cX10_readLine 124 = .ok (.invokevirtual 234, 3) := dk_182 0 234 (dk_at dksX10_readLine_5 7 rfl rfl)
theorem dX10_readLine_127 : decode cX10_readLine 127 = .ok (.goto 8, 3) := dk_167 0 8 (dk_at dksX10_readLine_5 10 rfl rfl)
theorem dX10_readLine_130 : decode cX10_readLine 130 = .ok (.aload_n 0, 1) := dk_42 (dk_at dksX10_readLine_5 13 rfl rfl)
theorem dX10_readLine_131 : decode cX10_readLine 131 = .ok (.iconst 2, 1) := dk_5 (dk_at dksX10_readLine_5 14 rfl rfl)
theorem dX10_readLine_132 : decode cX10_readLine 132 = .ok (.invokevirtual 129, 3) := dk_182 0 129 (dk_at dksX10_readLine_5 15 rfl rfl)
theorem dX10_readLine_135 : decode cX10_readLine 135 = .ok (.aload_n 0, 1) := dk_42 (dk_at dksX10_readLine_5 18 rfl rfl)
theorem dX10_readLine_136 : decode cX10_readLine 136 = .ok (.bipush 59, 2) := dk_16 59 (dk_at dksX10_readLine_5 19 rfl rfl)
theorem dX10_readLine_138 : decode cX10_readLine 138 = .ok (.invokevirtual 150, 3) := dk_182 0 150 (dk_at dksX10_readLine_5 21 rfl rfl)
theorem dX10_readLine_141 : decode cX10_readLine 141 = .ok (.aload_n 0, 1) := dk_42 (dk_at dksX10_readLine_6 0 rfl rfl)
theorem dX10_readLine_142 : decode cX10_readLine 142 = .ok (.getfield 103, 3) := dk_180 0 103 (dk_at dksX10_readLine_6 1 rfl rfl)
theorem dX10_readLine_145 : decode cX10_readLine 145 = .ok (.ifCond .ne 13, 3) := dk_154 0 13 (dk_at dksX10_readLine_6 4 rfl rfl)
theorem dX10_readLine_148 : decode cX10_readLine 148 = .ok (.aload_n 0, 1) := dk_42 (dk_at dksX10_readLine_6 7 rfl rfl)
theorem dX10_readLine_149 : decode cX10_readLine 149 = .ok (.getfield 13, 3) := dk_180 0 13 (dk_at dksX10_readLine_6 8 rfl rfl)
theorem dX10_readLine_152 : decode cX10_readLine 152 = .ok (.iconst 0, 1) := dk_3 (dk_at dksX10_readLine_6 11 rfl rfl)
theorem dX10_readLine_153 : decode cX10_readLine 153 = .ok (.dup2, 1) := dk_92 (dk_at dksX10_readLine_6 12 rfl rfl)
theorem dX10_readLine_154 : decode cX10_readLine 154 = .ok (.iaload, 1) := dk_46 (dk_at dksX10_readLine_6 13 rfl rfl)
theorem dX10_readLine_155 : decode cX10_readLine 155 = .ok (.iconst 1, 1) := dk_4 (dk_at dksX10_readLine_6 14 rfl rfl)
theorem dX10_readLine_156 : decode cX10_readLine 156 = .ok (.iadd, 1) := dk_96 (dk_at dksX10_readLine_6 15 rfl rfl)
theorem dX10_readLine_157 : decode cX10_readLine 157 = .ok (.iastore, 1) := dk_79 (dk_at dksX10_readLine_6 16 rfl rfl)
theorem dX10_readLine_158 : decode cX10_readLine 158 = .ok (.return_, 1) := dk_177 (dk_at dksX10_readLine_6 17 rfl rfl)
abbrev cX10_took : ByteArray := prog_33_method_14_code
def yX10_took : MethodName := ⟨RX10, "took", "(Ljava/lang/String;)Z"⟩
def dkwX10_took_0 : List UInt8 := [42, 43, 182, 0, 119, 61, 28, 153, 0, 7, 42, 182, 0, 123, 28, 172]
abbrev dktX10_took_0 : List UInt8 := dkwX10_took_0 ++ []
theorem dksX10_took_0 : cX10_took.data.toList.drop 0 = dktX10_took_0 := by decide +kernel
theorem dX10_took_0 : decode cX10_took 0 = .ok (.aload_n 0, 1) := dk_42 (dk_at dksX10_took_0 0 rfl rfl)
theorem dX10_took_1 : decode cX10_took 1 = .ok (.aload_n 1, 1) := dk_43 (dk_at dksX10_took_0 1 rfl rfl)
theorem dX10_took_2 : decode cX10_took 2 = .ok (.invokevirtual 119, 3) := dk_182 0 119 (dk_at dksX10_took_0 2 rfl rfl)
theorem dX10_took_5 : decode cX10_took 5 = .ok (.istore_n 2, 1) := dk_61 (dk_at dksX10_took_0 5 rfl rfl)
theorem dX10_took_6 : decode cX10_took 6 = .ok (.iload_n 2, 1) := dk_28 (dk_at dksX10_took_0 6 rfl rfl)
theorem dX10_took_7 : decode cX10_took 7 = .ok (.ifCond .eq 7, 3) := dk_153 0 7 (dk_at dksX10_took_0 7 rfl rfl)
theorem dX10_took_10 : decode cX10_took 10 = .ok (.aload_n 0, 1) := dk_42 (dk_at dksX10_took_0 10 rfl rfl)
theorem dX10_took_11 : decode cX10_took 11 = .ok (.invokevirtual 123, 3) := dk_182 0 123 (dk_at dksX10_took_0 11 rfl rfl)
theorem dX10_took_14 : decode cX10_took 14 = .ok (.iload_n 2, 1) := dk_28 (dk_at dksX10_took_0 14 rfl rfl)
theorem dX10_took_15 : decode cX10_took 15 = .ok (.ireturn, 1) := dk_172 (dk_at dksX10_took_0 15 rfl rfl)
abbrev cX10_isWord : ByteArray := prog_33_method_13_code
def yX10_isWord : MethodName := ⟨RX10, "isWord", "(Ljava/lang/String;)Z"⟩
def dkwX10_isWord_3 : List UInt8 := [167, 0, 4, 3, 61, 132, 3, 1, 167, 255, 216, 28, 172]
abbrev dktX10_isWord_3 : List UInt8 := dkwX10_isWord_3 ++ []
def dkwX10_isWord_2 : List UInt8 := [162, 0, 34, 42, 180, 0, 26, 42, 180, 0, 83, 29, 96, 46, 43, 29, 182, 0, 115, 160, 0, 7, 4]
abbrev dktX10_isWord_2 : List UInt8 := dkwX10_isWord_2 ++ dktX10_isWord_3
def dkwX10_isWord_1 : List UInt8 := [43, 182, 0, 109, 160, 0, 7, 4, 167, 0, 4, 3, 61, 3, 62, 28, 153, 0, 42, 29, 43, 182, 0, 109]
abbrev dktX10_isWord_1 : List UInt8 := dkwX10_isWord_1 ++ dktX10_isWord_2
def dkwX10_isWord_0 : List UInt8 := [42, 180, 0, 103, 154, 0, 31, 42, 180, 0, 86, 4, 160, 0, 23, 42, 180, 0, 80, 42, 180, 0, 83, 100]
abbrev dktX10_isWord_0 : List UInt8 := dkwX10_isWord_0 ++ dktX10_isWord_1
theorem dksX10_isWord_0 : cX10_isWord.data.toList.drop 0 = dktX10_isWord_0 := by decide +kernel
theorem dksX10_isWord_1 : cX10_isWord.data.toList.drop 24 = dktX10_isWord_1 := dk_seg dksX10_isWord_0 24 rfl rfl
theorem dksX10_isWord_2 : cX10_isWord.data.toList.drop 48 = dktX10_isWord_2 := dk_seg dksX10_isWord_1 24 rfl rfl
theorem dksX10_isWord_3 : cX10_isWord.data.toList.drop 71 = dktX10_isWord_3 := dk_seg dksX10_isWord_2 23 rfl rfl
theorem dX10_isWord_0 : decode cX10_isWord 0 = .ok (.aload_n 0, 1) := dk_42 (dk_at dksX10_isWord_0 0 rfl rfl)
theorem dX10_isWord_1 : decode cX10_isWord 1 = .ok (.getfield 103, 3) := dk_180 0 103 (dk_at dksX10_isWord_0 1 rfl rfl)
theorem dX10_isWord_4 : decode cX10_isWord 4 = .ok (.ifCond .ne 31, 3) := dk_154 0 31 (dk_at dksX10_isWord_0 4 rfl rfl)
theorem dX10_isWord_7 : decode cX10_isWord 7 = .ok (.aload_n 0, 1) := dk_42 (dk_at dksX10_isWord_0 7 rfl rfl)
theorem dX10_isWord_8 : decode cX10_isWord 8 = .ok (.getfield 86, 3) := dk_180 0 86 (dk_at dksX10_isWord_0 8 rfl rfl)
theorem dX10_isWord_11 : decode cX10_isWord 11 = .ok (.iconst 1, 1) := dk_4 (dk_at dksX10_isWord_0 11 rfl rfl)
theorem dX10_isWord_12 : decode cX10_isWord 12 = .ok (.if_icmp .ne 23, 3) := dk_160 0 23 (dk_at dksX10_isWord_0 12 rfl rfl)
theorem dX10_isWord_15 : decode cX10_isWord 15 = .ok (.aload_n 0, 1) := dk_42 (dk_at dksX10_isWord_0 15 rfl rfl)
theorem dX10_isWord_16 : decode cX10_isWord 16 = .ok (.getfield 80, 3) := dk_180 0 80 (dk_at dksX10_isWord_0 16 rfl rfl)
theorem dX10_isWord_19 : decode cX10_isWord 19 = .ok (.aload_n 0, 1) := dk_42 (dk_at dksX10_isWord_0 19 rfl rfl)
theorem dX10_isWord_20 : decode cX10_isWord 20 = .ok (.getfield 83, 3) := dk_180 0 83 (dk_at dksX10_isWord_0 20 rfl rfl)
theorem dX10_isWord_23 : decode cX10_isWord 23 = .ok (.isub, 1) := dk_100 (dk_at dksX10_isWord_0 23 rfl rfl)
theorem dX10_isWord_24 : decode cX10_isWord 24 = .ok (.aload_n 1, 1) := dk_43 (dk_at dksX10_isWord_1 0 rfl rfl)
theorem dX10_isWord_25 : decode cX10_isWord 25 = .ok (.invokevirtual 109, 3) := dk_182 0 109 (dk_at dksX10_isWord_1 1 rfl rfl)
theorem dX10_isWord_28 : decode cX10_isWord 28 = .ok (.if_icmp .ne 7, 3) := dk_160 0 7 (dk_at dksX10_isWord_1 4 rfl rfl)
theorem dX10_isWord_31 : decode cX10_isWord 31 = .ok (.iconst 1, 1) := dk_4 (dk_at dksX10_isWord_1 7 rfl rfl)
theorem dX10_isWord_32 : decode cX10_isWord 32 = .ok (.goto 4, 3) := dk_167 0 4 (dk_at dksX10_isWord_1 8 rfl rfl)
theorem dX10_isWord_35 : decode cX10_isWord 35 = .ok (.iconst 0, 1) := dk_3 (dk_at dksX10_isWord_1 11 rfl rfl)
theorem dX10_isWord_36 : decode cX10_isWord 36 = .ok (.istore_n 2, 1) := dk_61 (dk_at dksX10_isWord_1 12 rfl rfl)
theorem dX10_isWord_37 : decode cX10_isWord 37 = .ok (.iconst 0, 1) := dk_3 (dk_at dksX10_isWord_1 13 rfl rfl)
theorem dX10_isWord_38 : decode cX10_isWord 38 = .ok (.istore_n 3, 1) := dk_62 (dk_at dksX10_isWord_1 14 rfl rfl)
theorem dX10_isWord_39 : decode cX10_isWord 39 = .ok (.iload_n 2, 1) := dk_28 (dk_at dksX10_isWord_1 15 rfl rfl)
theorem dX10_isWord_40 : decode cX10_isWord 40 = .ok (.ifCond .eq 42, 3) := dk_153 0 42 (dk_at dksX10_isWord_1 16 rfl rfl)
theorem dX10_isWord_43 : decode cX10_isWord 43 = .ok (.iload_n 3, 1) := dk_29 (dk_at dksX10_isWord_1 19 rfl rfl)
theorem dX10_isWord_44 : decode cX10_isWord 44 = .ok (.aload_n 1, 1) := dk_43 (dk_at dksX10_isWord_1 20 rfl rfl)
theorem dX10_isWord_45 : decode cX10_isWord 45 = .ok (.invokevirtual 109, 3) := dk_182 0 109 (dk_at dksX10_isWord_1 21 rfl rfl)
theorem dX10_isWord_48 : decode cX10_isWord 48 = .ok (.if_icmp .ge 34, 3) := dk_162 0 34 (dk_at dksX10_isWord_2 0 rfl rfl)
theorem dX10_isWord_51 : decode cX10_isWord 51 = .ok (.aload_n 0, 1) := dk_42 (dk_at dksX10_isWord_2 3 rfl rfl)
theorem dX10_isWord_52 : decode cX10_isWord 52 = .ok (.getfield 26, 3) := dk_180 0 26 (dk_at dksX10_isWord_2 4 rfl rfl)
theorem dX10_isWord_55 : decode cX10_isWord 55 = .ok (.aload_n 0, 1) := dk_42 (dk_at dksX10_isWord_2 7 rfl rfl)
theorem dX10_isWord_56 : decode cX10_isWord 56 = .ok (.getfield 83, 3) := dk_180 0 83 (dk_at dksX10_isWord_2 8 rfl rfl)
theorem dX10_isWord_59 : decode cX10_isWord 59 = .ok (.iload_n 3, 1) := dk_29 (dk_at dksX10_isWord_2 11 rfl rfl)
theorem dX10_isWord_60 : decode cX10_isWord 60 = .ok (.iadd, 1) := dk_96 (dk_at dksX10_isWord_2 12 rfl rfl)
theorem dX10_isWord_61 : decode cX10_isWord 61 = .ok (.iaload, 1) := dk_46 (dk_at dksX10_isWord_2 13 rfl rfl)
theorem dX10_isWord_62 : decode cX10_isWord 62 = .ok (.aload_n 1, 1) := dk_43 (dk_at dksX10_isWord_2 14 rfl rfl)
theorem dX10_isWord_63 : decode cX10_isWord 63 = .ok (.iload_n 3, 1) := dk_29 (dk_at dksX10_isWord_2 15 rfl rfl)
theorem dX10_isWord_64 : decode cX10_isWord 64 = .ok (.invokevirtual 115, 3) := dk_182 0 115 (dk_at dksX10_isWord_2 16 rfl rfl)
theorem dX10_isWord_67 : decode cX10_isWord 67 = .ok (.if_icmp .ne 7, 3) := dk_160 0 7 (dk_at dksX10_isWord_2 19 rfl rfl)
theorem dX10_isWord_70 : decode cX10_isWord 70 = .ok (.iconst 1, 1) := dk_4 (dk_at dksX10_isWord_2 22 rfl rfl)
theorem dX10_isWord_71 : decode cX10_isWord 71 = .ok (.goto 4, 3) := dk_167 0 4 (dk_at dksX10_isWord_3 0 rfl rfl)
theorem dX10_isWord_74 : decode cX10_isWord 74 = .ok (.iconst 0, 1) := dk_3 (dk_at dksX10_isWord_3 3 rfl rfl)
theorem dX10_isWord_75 : decode cX10_isWord 75 = .ok (.istore_n 2, 1) := dk_61 (dk_at dksX10_isWord_3 4 rfl rfl)
theorem dX10_isWord_76 : decode cX10_isWord 76 = .ok (.iinc 3 1, 3) := dk_132 3 1 (dk_at dksX10_isWord_3 5 rfl rfl)
theorem dX10_isWord_79 : decode cX10_isWord 79 = .ok (.goto (-40), 3) := dk_167 255 216 (dk_at dksX10_isWord_3 8 rfl rfl)
theorem dX10_isWord_82 : decode cX10_isWord 82 = .ok (.iload_n 2, 1) := dk_28 (dk_at dksX10_isWord_3 11 rfl rfl)
theorem dX10_isWord_83 : decode cX10_isWord 83 = .ok (.ireturn, 1) := dk_172 (dk_at dksX10_isWord_3 12 rfl rfl)
abbrev cX10_number : ByteArray := prog_33_method_17_code
def yX10_number : MethodName := ⟨RX10, "number", "(II)I"⟩
def dkwX10_number_2 : List UInt8 := [42, 182, 0, 123, 42, 180, 0, 103, 154, 0, 7, 29, 167, 0, 4, 27, 172]
abbrev dktX10_number_2 : List UInt8 := dkwX10_number_2 ++ []
def dkwX10_number_1 : List UInt8 := [133, 184, 0, 133, 154, 0, 8, 42, 6, 182, 0, 129, 42, 180, 0, 100, 62, 42, 180, 0, 103, 154, 0, 7]
abbrev dktX10_number_1 : List UInt8 := dkwX10_number_1 ++ dktX10_number_2
def dkwX10_number_0 : List UInt8 := [42, 180, 0, 86, 5, 159, 0, 11, 42, 5, 182, 0, 129, 167, 0, 23, 42, 180, 0, 100, 133, 27, 133, 28]
abbrev dktX10_number_0 : List UInt8 := dkwX10_number_0 ++ dktX10_number_1
theorem dksX10_number_0 : cX10_number.data.toList.drop 0 = dktX10_number_0 := by decide +kernel
theorem dksX10_number_1 : cX10_number.data.toList.drop 24 = dktX10_number_1 := dk_seg dksX10_number_0 24 rfl rfl
theorem dksX10_number_2 : cX10_number.data.toList.drop 48 = dktX10_number_2 := dk_seg dksX10_number_1 24 rfl rfl
theorem dX10_number_0 : decode cX10_number 0 = .ok (.aload_n 0, 1) := dk_42 (dk_at dksX10_number_0 0 rfl rfl)
theorem dX10_number_1 : decode cX10_number 1 = .ok (.getfield 86, 3) := dk_180 0 86 (dk_at dksX10_number_0 1 rfl rfl)
theorem dX10_number_4 : decode cX10_number 4 = .ok (.iconst 2, 1) := dk_5 (dk_at dksX10_number_0 4 rfl rfl)
theorem dX10_number_5 : decode cX10_number 5 = .ok (.if_icmp .eq 11, 3) := dk_159 0 11 (dk_at dksX10_number_0 5 rfl rfl)
theorem dX10_number_8 : decode cX10_number 8 = .ok (.aload_n 0, 1) := dk_42 (dk_at dksX10_number_0 8 rfl rfl)
theorem dX10_number_9 : decode cX10_number 9 = .ok (.iconst 2, 1) := dk_5 (dk_at dksX10_number_0 9 rfl rfl)
theorem dX10_number_10 : decode cX10_number 10 = .ok (.invokevirtual 129, 3) := dk_182 0 129 (dk_at dksX10_number_0 10 rfl rfl)
theorem dX10_number_13 : decode cX10_number 13 = .ok (.goto 23, 3) := dk_167 0 23 (dk_at dksX10_number_0 13 rfl rfl)
theorem dX10_number_16 : decode cX10_number 16 = .ok (.aload_n 0, 1) := dk_42 (dk_at dksX10_number_0 16 rfl rfl)
theorem dX10_number_17 : decode cX10_number 17 = .ok (.getfield 100, 3) := dk_180 0 100 (dk_at dksX10_number_0 17 rfl rfl)
theorem dX10_number_20 : decode cX10_number 20 = .ok (.i2l, 1) := dk_133 (dk_at dksX10_number_0 20 rfl rfl)
theorem dX10_number_21 : decode cX10_number 21 = .ok (.iload_n 1, 1) := dk_27 (dk_at dksX10_number_0 21 rfl rfl)
theorem dX10_number_22 : decode cX10_number 22 = .ok (.i2l, 1) := dk_133 (dk_at dksX10_number_0 22 rfl rfl)
theorem dX10_number_23 : decode cX10_number 23 = .ok (.iload_n 2, 1) := dk_28 (dk_at dksX10_number_0 23 rfl rfl)
theorem dX10_number_24 : decode cX10_number 24 = .ok (.i2l, 1) := dk_133 (dk_at dksX10_number_1 0 rfl rfl)
theorem dX10_number_25 : decode cX10_number 25 = .ok (.invokestatic 133, 3) := dk_184 0 133 (dk_at dksX10_number_1 1 rfl rfl)
theorem dX10_number_28 : decode cX10_number 28 = .ok (.ifCond .ne 8, 3) := dk_154 0 8 (dk_at dksX10_number_1 4 rfl rfl)
theorem dX10_number_31 : decode cX10_number 31 = .ok (.aload_n 0, 1) := dk_42 (dk_at dksX10_number_1 7 rfl rfl)
theorem dX10_number_32 : decode cX10_number 32 = .ok (.iconst 3, 1) := dk_6 (dk_at dksX10_number_1 8 rfl rfl)
theorem dX10_number_33 : decode cX10_number 33 = .ok (.invokevirtual 129, 3) := dk_182 0 129 (dk_at dksX10_number_1 9 rfl rfl)
theorem dX10_number_36 : decode cX10_number 36 = .ok (.aload_n 0, 1) := dk_42 (dk_at dksX10_number_1 12 rfl rfl)
theorem dX10_number_37 : decode cX10_number 37 = .ok (.getfield 100, 3) := dk_180 0 100 (dk_at dksX10_number_1 13 rfl rfl)
theorem dX10_number_40 : decode cX10_number 40 = .ok (.istore_n 3, 1) := dk_62 (dk_at dksX10_number_1 16 rfl rfl)
theorem dX10_number_41 : decode cX10_number 41 = .ok (.aload_n 0, 1) := dk_42 (dk_at dksX10_number_1 17 rfl rfl)
theorem dX10_number_42 : decode cX10_number 42 = .ok (.getfield 103, 3) := dk_180 0 103 (dk_at dksX10_number_1 18 rfl rfl)
theorem dX10_number_45 : decode cX10_number 45 = .ok (.ifCond .ne 7, 3) := dk_154 0 7 (dk_at dksX10_number_1 21 rfl rfl)
theorem dX10_number_48 : decode cX10_number 48 = .ok (.aload_n 0, 1) := dk_42 (dk_at dksX10_number_2 0 rfl rfl)
theorem dX10_number_49 : decode cX10_number 49 = .ok (.invokevirtual 123, 3) := dk_182 0 123 (dk_at dksX10_number_2 1 rfl rfl)
theorem dX10_number_52 : decode cX10_number 52 = .ok (.aload_n 0, 1) := dk_42 (dk_at dksX10_number_2 4 rfl rfl)
theorem dX10_number_53 : decode cX10_number 53 = .ok (.getfield 103, 3) := dk_180 0 103 (dk_at dksX10_number_2 5 rfl rfl)
theorem dX10_number_56 : decode cX10_number 56 = .ok (.ifCond .ne 7, 3) := dk_154 0 7 (dk_at dksX10_number_2 8 rfl rfl)
theorem dX10_number_59 : decode cX10_number 59 = .ok (.iload_n 3, 1) := dk_29 (dk_at dksX10_number_2 11 rfl rfl)
theorem dX10_number_60 : decode cX10_number 60 = .ok (.goto 4, 3) := dk_167 0 4 (dk_at dksX10_number_2 12 rfl rfl)
theorem dX10_number_63 : decode cX10_number 63 = .ok (.iload_n 1, 1) := dk_27 (dk_at dksX10_number_2 15 rfl rfl)
theorem dX10_number_64 : decode cX10_number 64 = .ok (.ireturn, 1) := dk_172 (dk_at dksX10_number_2 16 rfl rfl)
abbrev cX10_blames : ByteArray := prog_33_method_12_code
def yX10_blames : MethodName := ⟨RX10, "blames", "(I)V"⟩
def dkwX10_blames_1 : List UInt8 := [181, 0, 103, 42, 42, 180, 0, 83, 181, 0, 106, 177]
abbrev dktX10_blames_1 : List UInt8 := dkwX10_blames_1 ++ []
def dkwX10_blames_0 : List UInt8 := [42, 180, 0, 103, 153, 0, 4, 177, 42, 42, 180, 0, 86, 7, 160, 0, 7, 4, 167, 0, 4, 27]
abbrev dktX10_blames_0 : List UInt8 := dkwX10_blames_0 ++ dktX10_blames_1
theorem dksX10_blames_0 : cX10_blames.data.toList.drop 0 = dktX10_blames_0 := by decide +kernel
theorem dksX10_blames_1 : cX10_blames.data.toList.drop 22 = dktX10_blames_1 := dk_seg dksX10_blames_0 22 rfl rfl
theorem dX10_blames_0 : decode cX10_blames 0 = .ok (.aload_n 0, 1) := dk_42 (dk_at dksX10_blames_0 0 rfl rfl)
theorem dX10_blames_1 : decode cX10_blames 1 = .ok (.getfield 103, 3) := dk_180 0 103 (dk_at dksX10_blames_0 1 rfl rfl)
theorem dX10_blames_4 : decode cX10_blames 4 = .ok (.ifCond .eq 4, 3) := dk_153 0 4 (dk_at dksX10_blames_0 4 rfl rfl)
theorem dX10_blames_7 : decode cX10_blames 7 = .ok (.return_, 1) := dk_177 (dk_at dksX10_blames_0 7 rfl rfl)
theorem dX10_blames_8 : decode cX10_blames 8 = .ok (.aload_n 0, 1) := dk_42 (dk_at dksX10_blames_0 8 rfl rfl)
theorem dX10_blames_9 : decode cX10_blames 9 = .ok (.aload_n 0, 1) := dk_42 (dk_at dksX10_blames_0 9 rfl rfl)
theorem dX10_blames_10 : decode cX10_blames 10 = .ok (.getfield 86, 3) := dk_180 0 86 (dk_at dksX10_blames_0 10 rfl rfl)
theorem dX10_blames_13 : decode cX10_blames 13 = .ok (.iconst 4, 1) := dk_7 (dk_at dksX10_blames_0 13 rfl rfl)
theorem dX10_blames_14 : decode cX10_blames 14 = .ok (.if_icmp .ne 7, 3) := dk_160 0 7 (dk_at dksX10_blames_0 14 rfl rfl)
theorem dX10_blames_17 : decode cX10_blames 17 = .ok (.iconst 1, 1) := dk_4 (dk_at dksX10_blames_0 17 rfl rfl)
theorem dX10_blames_18 : decode cX10_blames 18 = .ok (.goto 4, 3) := dk_167 0 4 (dk_at dksX10_blames_0 18 rfl rfl)
theorem dX10_blames_21 : decode cX10_blames 21 = .ok (.iload_n 1, 1) := dk_27 (dk_at dksX10_blames_0 21 rfl rfl)
theorem dX10_blames_22 : decode cX10_blames 22 = .ok (.putfield 103, 3) := dk_181 0 103 (dk_at dksX10_blames_1 0 rfl rfl)
theorem dX10_blames_25 : decode cX10_blames 25 = .ok (.aload_n 0, 1) := dk_42 (dk_at dksX10_blames_1 3 rfl rfl)
theorem dX10_blames_26 : decode cX10_blames 26 = .ok (.aload_n 0, 1) := dk_42 (dk_at dksX10_blames_1 4 rfl rfl)
theorem dX10_blames_27 : decode cX10_blames 27 = .ok (.getfield 83, 3) := dk_180 0 83 (dk_at dksX10_blames_1 5 rfl rfl)
theorem dX10_blames_30 : decode cX10_blames 30 = .ok (.putfield 106, 3) := dk_181 0 106 (dk_at dksX10_blames_1 8 rfl rfl)
theorem dX10_blames_33 : decode cX10_blames 33 = .ok (.return_, 1) := dk_177 (dk_at dksX10_blames_1 11 rfl rfl)
abbrev cX10_readSpeaker : ByteArray := prog_33_method_27_code
def yX10_readSpeaker : MethodName := ⟨RX10, "readSpeaker", "()V"⟩
def dkwX10_readSpeaker_5 : List UInt8 := [167, 0, 4, 3, 79, 42, 180, 0, 13, 8, 92, 46, 4, 96, 79, 177]
abbrev dktX10_readSpeaker_5 : List UInt8 := dkwX10_readSpeaker_5 ++ []
def dkwX10_readSpeaker_4 : List UInt8 := [167, 0, 4, 3, 79, 42, 180, 0, 13, 28, 5, 96, 42, 18, 218, 182, 0, 167, 153, 0, 7, 4]
abbrev dktX10_readSpeaker_4 : List UInt8 := dkwX10_readSpeaker_4 ++ dktX10_readSpeaker_5
def dkwX10_readSpeaker_3 : List UInt8 := [28, 3, 96, 27, 79, 42, 180, 0, 13, 28, 4, 96, 42, 18, 216, 182, 0, 167, 153, 0, 7, 4]
abbrev dktX10_readSpeaker_3 : List UInt8 := dkwX10_readSpeaker_3 ++ dktX10_readSpeaker_4
def dkwX10_readSpeaker_2 : List UInt8 := [153, 0, 4, 177, 42, 182, 0, 123, 16, 8, 6, 42, 180, 0, 13, 8, 46, 104, 96, 61, 42, 180, 0, 13]
abbrev dktX10_readSpeaker_2 : List UInt8 := dkwX10_readSpeaker_2 ++ dktX10_readSpeaker_3
def dkwX10_readSpeaker_1 : List UInt8 := [42, 182, 0, 123, 42, 182, 0, 213, 60, 27, 2, 160, 0, 8, 42, 5, 182, 0, 129, 42, 180, 0, 103]
abbrev dktX10_readSpeaker_1 : List UInt8 := dkwX10_readSpeaker_1 ++ dktX10_readSpeaker_2
def dkwX10_readSpeaker_0 : List UInt8 := [42, 180, 0, 13, 8, 46, 16, 6, 160, 0, 8, 42, 7, 182, 0, 129, 42, 180, 0, 103, 153, 0, 4, 177]
abbrev dktX10_readSpeaker_0 : List UInt8 := dkwX10_readSpeaker_0 ++ dktX10_readSpeaker_1
theorem dksX10_readSpeaker_0 : cX10_readSpeaker.data.toList.drop 0 = dktX10_readSpeaker_0 := by decide +kernel
theorem dksX10_readSpeaker_1 : cX10_readSpeaker.data.toList.drop 24 = dktX10_readSpeaker_1 := dk_seg dksX10_readSpeaker_0 24 rfl rfl
theorem dksX10_readSpeaker_2 : cX10_readSpeaker.data.toList.drop 47 = dktX10_readSpeaker_2 := dk_seg dksX10_readSpeaker_1 23 rfl rfl
theorem dksX10_readSpeaker_3 : cX10_readSpeaker.data.toList.drop 71 = dktX10_readSpeaker_3 := dk_seg dksX10_readSpeaker_2 24 rfl rfl
theorem dksX10_readSpeaker_4 : cX10_readSpeaker.data.toList.drop 93 = dktX10_readSpeaker_4 := dk_seg dksX10_readSpeaker_3 22 rfl rfl
theorem dksX10_readSpeaker_5 : cX10_readSpeaker.data.toList.drop 115 = dktX10_readSpeaker_5 := dk_seg dksX10_readSpeaker_4 22 rfl rfl
theorem dX10_readSpeaker_0 : decode cX10_readSpeaker 0 = .ok (.aload_n 0, 1) := dk_42 (dk_at dksX10_readSpeaker_0 0 rfl rfl)
theorem dX10_readSpeaker_1 : decode cX10_readSpeaker 1 = .ok (.getfield 13, 3) := dk_180 0 13 (dk_at dksX10_readSpeaker_0 1 rfl rfl)
theorem dX10_readSpeaker_4 : decode cX10_readSpeaker 4 = .ok (.iconst 5, 1) := dk_8 (dk_at dksX10_readSpeaker_0 4 rfl rfl)
theorem dX10_readSpeaker_5 : decode cX10_readSpeaker 5 = .ok (.iaload, 1) := dk_46 (dk_at dksX10_readSpeaker_0 5 rfl rfl)
theorem dX10_readSpeaker_6 : decode cX10_readSpeaker 6 = .ok (.bipush 6, 2) := dk_16 6 (dk_at dksX10_readSpeaker_0 6 rfl rfl)
theorem dX10_readSpeaker_8 : decode cX10_readSpeaker 8 = .ok (.if_icmp .ne 8, 3) := dk_160 0 8 (dk_at dksX10_readSpeaker_0 8 rfl rfl)
theorem dX10_readSpeaker_11 : decode cX10_readSpeaker 11 = .ok (.aload_n 0, 1) := dk_42 (dk_at dksX10_readSpeaker_0 11 rfl rfl)
theorem dX10_readSpeaker_12 : decode cX10_readSpeaker 12 = .ok (.iconst 4, 1) := dk_7 (dk_at dksX10_readSpeaker_0 12 rfl rfl)
theorem dX10_readSpeaker_13 : decode cX10_readSpeaker 13 = .ok (.invokevirtual 129, 3) := dk_182 0 129 (dk_at dksX10_readSpeaker_0 13 rfl rfl)
theorem dX10_readSpeaker_16 : decode cX10_readSpeaker 16 = .ok (.aload_n 0, 1) := dk_42 (dk_at dksX10_readSpeaker_0 16 rfl rfl)
theorem dX10_readSpeaker_17 : decode cX10_readSpeaker 17 = .ok (.getfield 103, 3) := dk_180 0 103 (dk_at dksX10_readSpeaker_0 17 rfl rfl)
theorem dX10_readSpeaker_20 : decode cX10_readSpeaker 20 = .ok (.ifCond .eq 4, 3) := dk_153 0 4 (dk_at dksX10_readSpeaker_0 20 rfl rfl)
theorem dX10_readSpeaker_23 : decode cX10_readSpeaker 23 = .ok (.return_, 1) := dk_177 (dk_at dksX10_readSpeaker_0 23 rfl rfl)
theorem dX10_readSpeaker_24 : decode cX10_readSpeaker 24 = .ok (.aload_n 0, 1) := dk_42 (dk_at dksX10_readSpeaker_1 0 rfl rfl)
theorem dX10_readSpeaker_25 : decode cX10_readSpeaker 25 = .ok (.invokevirtual 123, 3) := dk_182 0 123 (dk_at dksX10_readSpeaker_1 1 rfl rfl)
theorem dX10_readSpeaker_28 : decode cX10_readSpeaker 28 = .ok (.aload_n 0, 1) := dk_42 (dk_at dksX10_readSpeaker_1 4 rfl rfl)
theorem dX10_readSpeaker_29 : decode cX10_readSpeaker 29 = .ok (.invokevirtual 213, 3) := dk_182 0 213 (dk_at dksX10_readSpeaker_1 5 rfl rfl)
theorem dX10_readSpeaker_32 : decode cX10_readSpeaker 32 = .ok (.istore_n 1, 1) := dk_60 (dk_at dksX10_readSpeaker_1 8 rfl rfl)
theorem dX10_readSpeaker_33 : decode cX10_readSpeaker 33 = .ok (.iload_n 1, 1) := dk_27 (dk_at dksX10_readSpeaker_1 9 rfl rfl)
theorem dX10_readSpeaker_34 : decode cX10_readSpeaker 34 = .ok (.iconst (-1), 1) := dk_2 (dk_at dksX10_readSpeaker_1 10 rfl rfl)
theorem dX10_readSpeaker_35 : decode cX10_readSpeaker 35 = .ok (.if_icmp .ne 8, 3) := dk_160 0 8 (dk_at dksX10_readSpeaker_1 11 rfl rfl)
theorem dX10_readSpeaker_38 : decode cX10_readSpeaker 38 = .ok (.aload_n 0, 1) := dk_42 (dk_at dksX10_readSpeaker_1 14 rfl rfl)
theorem dX10_readSpeaker_39 : decode cX10_readSpeaker 39 = .ok (.iconst 2, 1) := dk_5 (dk_at dksX10_readSpeaker_1 15 rfl rfl)
theorem dX10_readSpeaker_40 : decode cX10_readSpeaker 40 = .ok (.invokevirtual 129, 3) := dk_182 0 129 (dk_at dksX10_readSpeaker_1 16 rfl rfl)
theorem dX10_readSpeaker_43 : decode cX10_readSpeaker 43 = .ok (.aload_n 0, 1) := dk_42 (dk_at dksX10_readSpeaker_1 19 rfl rfl)
theorem dX10_readSpeaker_44 : decode cX10_readSpeaker 44 = .ok (.getfield 103, 3) := dk_180 0 103 (dk_at dksX10_readSpeaker_1 20 rfl rfl)
theorem dX10_readSpeaker_47 : decode cX10_readSpeaker 47 = .ok (.ifCond .eq 4, 3) := dk_153 0 4 (dk_at dksX10_readSpeaker_2 0 rfl rfl)
theorem dX10_readSpeaker_50 : decode cX10_readSpeaker 50 = .ok (.return_, 1) := dk_177 (dk_at dksX10_readSpeaker_2 3 rfl rfl)
theorem dX10_readSpeaker_51 : decode cX10_readSpeaker 51 = .ok (.aload_n 0, 1) := dk_42 (dk_at dksX10_readSpeaker_2 4 rfl rfl)
theorem dX10_readSpeaker_52 : decode cX10_readSpeaker 52 = .ok (.invokevirtual 123, 3) := dk_182 0 123 (dk_at dksX10_readSpeaker_2 5 rfl rfl)
theorem dX10_readSpeaker_55 : decode cX10_readSpeaker 55 = .ok (.bipush 8, 2) := dk_16 8 (dk_at dksX10_readSpeaker_2 8 rfl rfl)
theorem dX10_readSpeaker_57 : decode cX10_readSpeaker 57 = .ok (.iconst 3, 1) := dk_6 (dk_at dksX10_readSpeaker_2 10 rfl rfl)
theorem dX10_readSpeaker_58 : decode cX10_readSpeaker 58 = .ok (.aload_n 0, 1) := dk_42 (dk_at dksX10_readSpeaker_2 11 rfl rfl)
theorem dX10_readSpeaker_59 : decode cX10_readSpeaker 59 = .ok (.getfield 13, 3) := dk_180 0 13 (dk_at dksX10_readSpeaker_2 12 rfl rfl)
theorem dX10_readSpeaker_62 : decode cX10_readSpeaker 62 = .ok (.iconst 5, 1) := dk_8 (dk_at dksX10_readSpeaker_2 15 rfl rfl)
theorem dX10_readSpeaker_63 : decode cX10_readSpeaker 63 = .ok (.iaload, 1) := dk_46 (dk_at dksX10_readSpeaker_2 16 rfl rfl)
theorem dX10_readSpeaker_64 : decode cX10_readSpeaker 64 = .ok (.imul, 1) := dk_104 (dk_at dksX10_readSpeaker_2 17 rfl rfl)
theorem dX10_readSpeaker_65 : decode cX10_readSpeaker 65 = .ok (.iadd, 1) := dk_96 (dk_at dksX10_readSpeaker_2 18 rfl rfl)
theorem dX10_readSpeaker_66 : decode cX10_readSpeaker 66 = .ok (.istore_n 2, 1) := dk_61 (dk_at dksX10_readSpeaker_2 19 rfl rfl)
theorem dX10_readSpeaker_67 : decode cX10_readSpeaker 67 = .ok (.aload_n 0, 1) := dk_42 (dk_at dksX10_readSpeaker_2 20 rfl rfl)
theorem dX10_readSpeaker_68 : decode cX10_readSpeaker 68 = .ok (.getfield 13, 3) := dk_180 0 13 (dk_at dksX10_readSpeaker_2 21 rfl rfl)
theorem dX10_readSpeaker_71 : decode cX10_readSpeaker 71 = .ok (.iload_n 2, 1) := dk_28 (dk_at dksX10_readSpeaker_3 0 rfl rfl)
theorem dX10_readSpeaker_72 : decode cX10_readSpeaker 72 = .ok (.iconst 0, 1) := dk_3 (dk_at dksX10_readSpeaker_3 1 rfl rfl)
theorem dX10_readSpeaker_73 : decode cX10_readSpeaker 73 = .ok (.iadd, 1) := dk_96 (dk_at dksX10_readSpeaker_3 2 rfl rfl)
theorem dX10_readSpeaker_74 : decode cX10_readSpeaker 74 = .ok (.iload_n 1, 1) := dk_27 (dk_at dksX10_readSpeaker_3 3 rfl rfl)
theorem dX10_readSpeaker_75 : decode cX10_readSpeaker 75 = .ok (.iastore, 1) := dk_79 (dk_at dksX10_readSpeaker_3 4 rfl rfl)
theorem dX10_readSpeaker_76 : decode cX10_readSpeaker 76 = .ok (.aload_n 0, 1) := dk_42 (dk_at dksX10_readSpeaker_3 5 rfl rfl)
theorem dX10_readSpeaker_77 : decode cX10_readSpeaker 77 = .ok (.getfield 13, 3) := dk_180 0 13 (dk_at dksX10_readSpeaker_3 6 rfl rfl)
theorem dX10_readSpeaker_80 : decode cX10_readSpeaker 80 = .ok (.iload_n 2, 1) := dk_28 (dk_at dksX10_readSpeaker_3 9 rfl rfl)
theorem dX10_readSpeaker_81 : decode cX10_readSpeaker 81 = .ok (.iconst 1, 1) := dk_4 (dk_at dksX10_readSpeaker_3 10 rfl rfl)
theorem dX10_readSpeaker_82 : decode cX10_readSpeaker 82 = .ok (.iadd, 1) := dk_96 (dk_at dksX10_readSpeaker_3 11 rfl rfl)
theorem dX10_readSpeaker_83 : decode cX10_readSpeaker 83 = .ok (.aload_n 0, 1) := dk_42 (dk_at dksX10_readSpeaker_3 12 rfl rfl)
theorem dX10_readSpeaker_84 : decode cX10_readSpeaker 84 = .ok (.ldc 216, 2) := dk_18 216 (dk_at dksX10_readSpeaker_3 13 rfl rfl)
theorem dX10_readSpeaker_86 : decode cX10_readSpeaker 86 = .ok (.invokevirtual 167, 3) := dk_182 0 167 (dk_at dksX10_readSpeaker_3 15 rfl rfl)
theorem dX10_readSpeaker_89 : decode cX10_readSpeaker 89 = .ok (.ifCond .eq 7, 3) := dk_153 0 7 (dk_at dksX10_readSpeaker_3 18 rfl rfl)
theorem dX10_readSpeaker_92 : decode cX10_readSpeaker 92 = .ok (.iconst 1, 1) := dk_4 (dk_at dksX10_readSpeaker_3 21 rfl rfl)
theorem dX10_readSpeaker_93 : decode cX10_readSpeaker 93 = .ok (.goto 4, 3) := dk_167 0 4 (dk_at dksX10_readSpeaker_4 0 rfl rfl)
theorem dX10_readSpeaker_96 : decode cX10_readSpeaker 96 = .ok (.iconst 0, 1) := dk_3 (dk_at dksX10_readSpeaker_4 3 rfl rfl)
theorem dX10_readSpeaker_97 : decode cX10_readSpeaker 97 = .ok (.iastore, 1) := dk_79 (dk_at dksX10_readSpeaker_4 4 rfl rfl)
theorem dX10_readSpeaker_98 : decode cX10_readSpeaker 98 = .ok (.aload_n 0, 1) := dk_42 (dk_at dksX10_readSpeaker_4 5 rfl rfl)
theorem dX10_readSpeaker_99 : decode cX10_readSpeaker 99 = .ok (.getfield 13, 3) := dk_180 0 13 (dk_at dksX10_readSpeaker_4 6 rfl rfl)
theorem dX10_readSpeaker_102 : decode cX10_readSpeaker 102 = .ok (.iload_n 2, 1) := dk_28 (dk_at dksX10_readSpeaker_4 9 rfl rfl)
theorem dX10_readSpeaker_103 : decode cX10_readSpeaker 103 = .ok (.iconst 2, 1) := dk_5 (dk_at dksX10_readSpeaker_4 10 rfl rfl)
theorem dX10_readSpeaker_104 : decode cX10_readSpeaker 104 = .ok (.iadd, 1) := dk_96 (dk_at dksX10_readSpeaker_4 11 rfl rfl)
theorem dX10_readSpeaker_105 : decode cX10_readSpeaker 105 = .ok (.aload_n 0, 1) := dk_42 (dk_at dksX10_readSpeaker_4 12 rfl rfl)
theorem dX10_readSpeaker_106 : decode cX10_readSpeaker 106 = .ok (.ldc 218, 2) := dk_18 218 (dk_at dksX10_readSpeaker_4 13 rfl rfl)
theorem dX10_readSpeaker_108 : decode cX10_readSpeaker 108 = .ok (.invokevirtual 167, 3) := dk_182 0 167 (dk_at dksX10_readSpeaker_4 15 rfl rfl)
theorem dX10_readSpeaker_111 : decode cX10_readSpeaker 111 = .ok (.ifCond .eq 7, 3) := dk_153 0 7 (dk_at dksX10_readSpeaker_4 18 rfl rfl)
theorem dX10_readSpeaker_114 : decode cX10_readSpeaker 114 = .ok (.iconst 1, 1) := dk_4 (dk_at dksX10_readSpeaker_4 21 rfl rfl)
theorem dX10_readSpeaker_115 : decode cX10_readSpeaker 115 = .ok (.goto 4, 3) := dk_167 0 4 (dk_at dksX10_readSpeaker_5 0 rfl rfl)
theorem dX10_readSpeaker_118 : decode cX10_readSpeaker 118 = .ok (.iconst 0, 1) := dk_3 (dk_at dksX10_readSpeaker_5 3 rfl rfl)
theorem dX10_readSpeaker_119 : decode cX10_readSpeaker 119 = .ok (.iastore, 1) := dk_79 (dk_at dksX10_readSpeaker_5 4 rfl rfl)
theorem dX10_readSpeaker_120 : decode cX10_readSpeaker 120 = .ok (.aload_n 0, 1) := dk_42 (dk_at dksX10_readSpeaker_5 5 rfl rfl)
theorem dX10_readSpeaker_121 : decode cX10_readSpeaker 121 = .ok (.getfield 13, 3) := dk_180 0 13 (dk_at dksX10_readSpeaker_5 6 rfl rfl)
theorem dX10_readSpeaker_124 : decode cX10_readSpeaker 124 = .ok (.iconst 5, 1) := dk_8 (dk_at dksX10_readSpeaker_5 9 rfl rfl)
theorem dX10_readSpeaker_125 : decode cX10_readSpeaker 125 = .ok (.dup2, 1) := dk_92 (dk_at dksX10_readSpeaker_5 10 rfl rfl)
theorem dX10_readSpeaker_126 : decode cX10_readSpeaker 126 = .ok (.iaload, 1) := dk_46 (dk_at dksX10_readSpeaker_5 11 rfl rfl)
theorem dX10_readSpeaker_127 : decode cX10_readSpeaker 127 = .ok (.iconst 1, 1) := dk_4 (dk_at dksX10_readSpeaker_5 12 rfl rfl)
theorem dX10_readSpeaker_128 : decode cX10_readSpeaker 128 = .ok (.iadd, 1) := dk_96 (dk_at dksX10_readSpeaker_5 13 rfl rfl)
theorem dX10_readSpeaker_129 : decode cX10_readSpeaker 129 = .ok (.iastore, 1) := dk_79 (dk_at dksX10_readSpeaker_5 14 rfl rfl)
theorem dX10_readSpeaker_130 : decode cX10_readSpeaker 130 = .ok (.return_, 1) := dk_177 (dk_at dksX10_readSpeaker_5 15 rfl rfl)
abbrev cX10_sightTold : ByteArray := prog_33_method_26_code
def yX10_sightTold : MethodName := ⟨RX10, "sightTold", "()I"⟩
def dkwX10_sightTold_4 : List UInt8 := [182, 0, 119, 153, 0, 8, 16, 8, 167, 0, 4, 2, 172]
abbrev dktX10_sightTold_4 : List UInt8 := dkwX10_sightTold_4 ++ []
def dkwX10_sightTold_3 : List UInt8 := [182, 0, 119, 153, 0, 6, 16, 6, 172, 42, 18, 209, 182, 0, 119, 153, 0, 6, 16, 7, 172, 42, 18, 211]
abbrev dktX10_sightTold_3 : List UInt8 := dkwX10_sightTold_3 ++ dktX10_sightTold_4
def dkwX10_sightTold_2 : List UInt8 := [182, 0, 119, 153, 0, 5, 7, 172, 42, 18, 205, 182, 0, 119, 153, 0, 5, 8, 172, 42, 18, 207]
abbrev dktX10_sightTold_2 : List UInt8 := dkwX10_sightTold_2 ++ dktX10_sightTold_3
def dkwX10_sightTold_1 : List UInt8 := [18, 199, 182, 0, 119, 153, 0, 5, 5, 172, 42, 18, 201, 182, 0, 119, 153, 0, 5, 6, 172, 42, 18, 203]
abbrev dktX10_sightTold_1 : List UInt8 := dkwX10_sightTold_1 ++ dktX10_sightTold_2
def dkwX10_sightTold_0 : List UInt8 := [42, 18, 195, 182, 0, 119, 153, 0, 5, 3, 172, 42, 18, 197, 182, 0, 119, 153, 0, 5, 4, 172, 42]
abbrev dktX10_sightTold_0 : List UInt8 := dkwX10_sightTold_0 ++ dktX10_sightTold_1
theorem dksX10_sightTold_0 : cX10_sightTold.data.toList.drop 0 = dktX10_sightTold_0 := by decide +kernel
theorem dksX10_sightTold_1 : cX10_sightTold.data.toList.drop 23 = dktX10_sightTold_1 := dk_seg dksX10_sightTold_0 23 rfl rfl
theorem dksX10_sightTold_2 : cX10_sightTold.data.toList.drop 47 = dktX10_sightTold_2 := dk_seg dksX10_sightTold_1 24 rfl rfl
theorem dksX10_sightTold_3 : cX10_sightTold.data.toList.drop 69 = dktX10_sightTold_3 := dk_seg dksX10_sightTold_2 22 rfl rfl
theorem dksX10_sightTold_4 : cX10_sightTold.data.toList.drop 93 = dktX10_sightTold_4 := dk_seg dksX10_sightTold_3 24 rfl rfl
theorem dX10_sightTold_0 : decode cX10_sightTold 0 = .ok (.aload_n 0, 1) := dk_42 (dk_at dksX10_sightTold_0 0 rfl rfl)
theorem dX10_sightTold_1 : decode cX10_sightTold 1 = .ok (.ldc 195, 2) := dk_18 195 (dk_at dksX10_sightTold_0 1 rfl rfl)
theorem dX10_sightTold_3 : decode cX10_sightTold 3 = .ok (.invokevirtual 119, 3) := dk_182 0 119 (dk_at dksX10_sightTold_0 3 rfl rfl)
theorem dX10_sightTold_6 : decode cX10_sightTold 6 = .ok (.ifCond .eq 5, 3) := dk_153 0 5 (dk_at dksX10_sightTold_0 6 rfl rfl)
theorem dX10_sightTold_9 : decode cX10_sightTold 9 = .ok (.iconst 0, 1) := dk_3 (dk_at dksX10_sightTold_0 9 rfl rfl)
theorem dX10_sightTold_10 : decode cX10_sightTold 10 = .ok (.ireturn, 1) := dk_172 (dk_at dksX10_sightTold_0 10 rfl rfl)
theorem dX10_sightTold_11 : decode cX10_sightTold 11 = .ok (.aload_n 0, 1) := dk_42 (dk_at dksX10_sightTold_0 11 rfl rfl)
theorem dX10_sightTold_12 : decode cX10_sightTold 12 = .ok (.ldc 197, 2) := dk_18 197 (dk_at dksX10_sightTold_0 12 rfl rfl)
theorem dX10_sightTold_14 : decode cX10_sightTold 14 = .ok (.invokevirtual 119, 3) := dk_182 0 119 (dk_at dksX10_sightTold_0 14 rfl rfl)
theorem dX10_sightTold_17 : decode cX10_sightTold 17 = .ok (.ifCond .eq 5, 3) := dk_153 0 5 (dk_at dksX10_sightTold_0 17 rfl rfl)
theorem dX10_sightTold_20 : decode cX10_sightTold 20 = .ok (.iconst 1, 1) := dk_4 (dk_at dksX10_sightTold_0 20 rfl rfl)
theorem dX10_sightTold_21 : decode cX10_sightTold 21 = .ok (.ireturn, 1) := dk_172 (dk_at dksX10_sightTold_0 21 rfl rfl)
theorem dX10_sightTold_22 : decode cX10_sightTold 22 = .ok (.aload_n 0, 1) := dk_42 (dk_at dksX10_sightTold_0 22 rfl rfl)
theorem dX10_sightTold_23 : decode cX10_sightTold 23 = .ok (.ldc 199, 2) := dk_18 199 (dk_at dksX10_sightTold_1 0 rfl rfl)
theorem dX10_sightTold_25 : decode cX10_sightTold 25 = .ok (.invokevirtual 119, 3) := dk_182 0 119 (dk_at dksX10_sightTold_1 2 rfl rfl)
theorem dX10_sightTold_28 : decode cX10_sightTold 28 = .ok (.ifCond .eq 5, 3) := dk_153 0 5 (dk_at dksX10_sightTold_1 5 rfl rfl)
theorem dX10_sightTold_31 : decode cX10_sightTold 31 = .ok (.iconst 2, 1) := dk_5 (dk_at dksX10_sightTold_1 8 rfl rfl)
theorem dX10_sightTold_32 : decode cX10_sightTold 32 = .ok (.ireturn, 1) := dk_172 (dk_at dksX10_sightTold_1 9 rfl rfl)
theorem dX10_sightTold_33 : decode cX10_sightTold 33 = .ok (.aload_n 0, 1) := dk_42 (dk_at dksX10_sightTold_1 10 rfl rfl)
theorem dX10_sightTold_34 : decode cX10_sightTold 34 = .ok (.ldc 201, 2) := dk_18 201 (dk_at dksX10_sightTold_1 11 rfl rfl)
theorem dX10_sightTold_36 : decode cX10_sightTold 36 = .ok (.invokevirtual 119, 3) := dk_182 0 119 (dk_at dksX10_sightTold_1 13 rfl rfl)
theorem dX10_sightTold_39 : decode cX10_sightTold 39 = .ok (.ifCond .eq 5, 3) := dk_153 0 5 (dk_at dksX10_sightTold_1 16 rfl rfl)
theorem dX10_sightTold_42 : decode cX10_sightTold 42 = .ok (.iconst 3, 1) := dk_6 (dk_at dksX10_sightTold_1 19 rfl rfl)
theorem dX10_sightTold_43 : decode cX10_sightTold 43 = .ok (.ireturn, 1) := dk_172 (dk_at dksX10_sightTold_1 20 rfl rfl)
theorem dX10_sightTold_44 : decode cX10_sightTold 44 = .ok (.aload_n 0, 1) := dk_42 (dk_at dksX10_sightTold_1 21 rfl rfl)
theorem dX10_sightTold_45 : decode cX10_sightTold 45 = .ok (.ldc 203, 2) := dk_18 203 (dk_at dksX10_sightTold_1 22 rfl rfl)
theorem dX10_sightTold_47 : decode cX10_sightTold 47 = .ok (.invokevirtual 119, 3) := dk_182 0 119 (dk_at dksX10_sightTold_2 0 rfl rfl)
theorem dX10_sightTold_50 : decode cX10_sightTold 50 = .ok (.ifCond .eq 5, 3) := dk_153 0 5 (dk_at dksX10_sightTold_2 3 rfl rfl)
theorem dX10_sightTold_53 : decode cX10_sightTold 53 = .ok (.iconst 4, 1) := dk_7 (dk_at dksX10_sightTold_2 6 rfl rfl)
theorem dX10_sightTold_54 : decode cX10_sightTold 54 = .ok (.ireturn, 1) := dk_172 (dk_at dksX10_sightTold_2 7 rfl rfl)
theorem dX10_sightTold_55 : decode cX10_sightTold 55 = .ok (.aload_n 0, 1) := dk_42 (dk_at dksX10_sightTold_2 8 rfl rfl)
theorem dX10_sightTold_56 : decode cX10_sightTold 56 = .ok (.ldc 205, 2) := dk_18 205 (dk_at dksX10_sightTold_2 9 rfl rfl)
theorem dX10_sightTold_58 : decode cX10_sightTold 58 = .ok (.invokevirtual 119, 3) := dk_182 0 119 (dk_at dksX10_sightTold_2 11 rfl rfl)
theorem dX10_sightTold_61 : decode cX10_sightTold 61 = .ok (.ifCond .eq 5, 3) := dk_153 0 5 (dk_at dksX10_sightTold_2 14 rfl rfl)
theorem dX10_sightTold_64 : decode cX10_sightTold 64 = .ok (.iconst 5, 1) := dk_8 (dk_at dksX10_sightTold_2 17 rfl rfl)
theorem dX10_sightTold_65 : decode cX10_sightTold 65 = .ok (.ireturn, 1) := dk_172 (dk_at dksX10_sightTold_2 18 rfl rfl)
theorem dX10_sightTold_66 : decode cX10_sightTold 66 = .ok (.aload_n 0, 1) := dk_42 (dk_at dksX10_sightTold_2 19 rfl rfl)
theorem dX10_sightTold_67 : decode cX10_sightTold 67 = .ok (.ldc 207, 2) := dk_18 207 (dk_at dksX10_sightTold_2 20 rfl rfl)
theorem dX10_sightTold_69 : decode cX10_sightTold 69 = .ok (.invokevirtual 119, 3) := dk_182 0 119 (dk_at dksX10_sightTold_3 0 rfl rfl)
theorem dX10_sightTold_72 : decode cX10_sightTold 72 = .ok (.ifCond .eq 6, 3) := dk_153 0 6 (dk_at dksX10_sightTold_3 3 rfl rfl)
theorem dX10_sightTold_75 : decode cX10_sightTold 75 = .ok (.bipush 6, 2) := dk_16 6 (dk_at dksX10_sightTold_3 6 rfl rfl)
theorem dX10_sightTold_77 : decode cX10_sightTold 77 = .ok (.ireturn, 1) := dk_172 (dk_at dksX10_sightTold_3 8 rfl rfl)
theorem dX10_sightTold_78 : decode cX10_sightTold 78 = .ok (.aload_n 0, 1) := dk_42 (dk_at dksX10_sightTold_3 9 rfl rfl)
theorem dX10_sightTold_79 : decode cX10_sightTold 79 = .ok (.ldc 209, 2) := dk_18 209 (dk_at dksX10_sightTold_3 10 rfl rfl)
theorem dX10_sightTold_81 : decode cX10_sightTold 81 = .ok (.invokevirtual 119, 3) := dk_182 0 119 (dk_at dksX10_sightTold_3 12 rfl rfl)
theorem dX10_sightTold_84 : decode cX10_sightTold 84 = .ok (.ifCond .eq 6, 3) := dk_153 0 6 (dk_at dksX10_sightTold_3 15 rfl rfl)
theorem dX10_sightTold_87 : decode cX10_sightTold 87 = .ok (.bipush 7, 2) := dk_16 7 (dk_at dksX10_sightTold_3 18 rfl rfl)
theorem dX10_sightTold_89 : decode cX10_sightTold 89 = .ok (.ireturn, 1) := dk_172 (dk_at dksX10_sightTold_3 20 rfl rfl)
theorem dX10_sightTold_90 : decode cX10_sightTold 90 = .ok (.aload_n 0, 1) := dk_42 (dk_at dksX10_sightTold_3 21 rfl rfl)
theorem dX10_sightTold_91 : decode cX10_sightTold 91 = .ok (.ldc 211, 2) := dk_18 211 (dk_at dksX10_sightTold_3 22 rfl rfl)
theorem dX10_sightTold_93 : decode cX10_sightTold 93 = .ok (.invokevirtual 119, 3) := dk_182 0 119 (dk_at dksX10_sightTold_4 0 rfl rfl)
theorem dX10_sightTold_96 : decode cX10_sightTold 96 = .ok (.ifCond .eq 8, 3) := dk_153 0 8 (dk_at dksX10_sightTold_4 3 rfl rfl)
theorem dX10_sightTold_99 : decode cX10_sightTold 99 = .ok (.bipush 8, 2) := dk_16 8 (dk_at dksX10_sightTold_4 6 rfl rfl)
theorem dX10_sightTold_101 : decode cX10_sightTold 101 = .ok (.goto 4, 3) := dk_167 0 4 (dk_at dksX10_sightTold_4 8 rfl rfl)
theorem dX10_sightTold_104 : decode cX10_sightTold 104 = .ok (.iconst (-1), 1) := dk_2 (dk_at dksX10_sightTold_4 11 rfl rfl)
theorem dX10_sightTold_105 : decode cX10_sightTold 105 = .ok (.ireturn, 1) := dk_172 (dk_at dksX10_sightTold_4 12 rfl rfl)
abbrev cX10_readTurn : ByteArray := prog_33_method_28_code
def yX10_readTurn : MethodName := ⟨RX10, "readTurn", "()V"⟩
def dkwX10_readTurn_4 : List UInt8 := [42, 180, 0, 13, 16, 6, 92, 46, 4, 96, 79, 177]
abbrev dktX10_readTurn_4 : List UInt8 := dkwX10_readTurn_4 ++ []
def dkwX10_readTurn_3 : List UInt8 := [104, 96, 27, 79, 42, 180, 0, 13, 16, 26, 5, 42, 180, 0, 13, 16, 6, 46, 104, 96, 4, 96, 28, 79]
abbrev dktX10_readTurn_3 : List UInt8 := dkwX10_readTurn_3 ++ dktX10_readTurn_4
def dkwX10_readTurn_2 : List UInt8 := [3, 61, 42, 180, 0, 103, 153, 0, 4, 177, 42, 180, 0, 13, 16, 26, 5, 42, 180, 0, 13, 16, 6, 46]
abbrev dktX10_readTurn_2 : List UInt8 := dkwX10_readTurn_2 ++ dktX10_readTurn_3
def dkwX10_readTurn_1 : List UInt8 := [177, 42, 182, 0, 123, 42, 182, 0, 170, 60, 42, 180, 0, 103, 154, 0, 10, 42, 182, 0, 147, 167, 0, 4]
abbrev dktX10_readTurn_1 : List UInt8 := dkwX10_readTurn_1 ++ dktX10_readTurn_2
def dkwX10_readTurn_0 : List UInt8 := [42, 180, 0, 13, 16, 6, 46, 16, 20, 160, 0, 8, 42, 7, 182, 0, 129, 42, 180, 0, 103, 153, 0, 4]
abbrev dktX10_readTurn_0 : List UInt8 := dkwX10_readTurn_0 ++ dktX10_readTurn_1
theorem dksX10_readTurn_0 : cX10_readTurn.data.toList.drop 0 = dktX10_readTurn_0 := by decide +kernel
theorem dksX10_readTurn_1 : cX10_readTurn.data.toList.drop 24 = dktX10_readTurn_1 := dk_seg dksX10_readTurn_0 24 rfl rfl
theorem dksX10_readTurn_2 : cX10_readTurn.data.toList.drop 48 = dktX10_readTurn_2 := dk_seg dksX10_readTurn_1 24 rfl rfl
theorem dksX10_readTurn_3 : cX10_readTurn.data.toList.drop 72 = dktX10_readTurn_3 := dk_seg dksX10_readTurn_2 24 rfl rfl
theorem dksX10_readTurn_4 : cX10_readTurn.data.toList.drop 96 = dktX10_readTurn_4 := dk_seg dksX10_readTurn_3 24 rfl rfl
theorem dX10_readTurn_0 : decode cX10_readTurn 0 = .ok (.aload_n 0, 1) := dk_42 (dk_at dksX10_readTurn_0 0 rfl rfl)
theorem dX10_readTurn_1 : decode cX10_readTurn 1 = .ok (.getfield 13, 3) := dk_180 0 13 (dk_at dksX10_readTurn_0 1 rfl rfl)
theorem dX10_readTurn_4 : decode cX10_readTurn 4 = .ok (.bipush 6, 2) := dk_16 6 (dk_at dksX10_readTurn_0 4 rfl rfl)
theorem dX10_readTurn_6 : decode cX10_readTurn 6 = .ok (.iaload, 1) := dk_46 (dk_at dksX10_readTurn_0 6 rfl rfl)
theorem dX10_readTurn_7 : decode cX10_readTurn 7 = .ok (.bipush 20, 2) := dk_16 20 (dk_at dksX10_readTurn_0 7 rfl rfl)
theorem dX10_readTurn_9 : decode cX10_readTurn 9 = .ok (.if_icmp .ne 8, 3) := dk_160 0 8 (dk_at dksX10_readTurn_0 9 rfl rfl)
theorem dX10_readTurn_12 : decode cX10_readTurn 12 = .ok (.aload_n 0, 1) := dk_42 (dk_at dksX10_readTurn_0 12 rfl rfl)
theorem dX10_readTurn_13 : decode cX10_readTurn 13 = .ok (.iconst 4, 1) := dk_7 (dk_at dksX10_readTurn_0 13 rfl rfl)
theorem dX10_readTurn_14 : decode cX10_readTurn 14 = .ok (.invokevirtual 129, 3) := dk_182 0 129 (dk_at dksX10_readTurn_0 14 rfl rfl)
theorem dX10_readTurn_17 : decode cX10_readTurn 17 = .ok (.aload_n 0, 1) := dk_42 (dk_at dksX10_readTurn_0 17 rfl rfl)
theorem dX10_readTurn_18 : decode cX10_readTurn 18 = .ok (.getfield 103, 3) := dk_180 0 103 (dk_at dksX10_readTurn_0 18 rfl rfl)
theorem dX10_readTurn_21 : decode cX10_readTurn 21 = .ok (.ifCond .eq 4, 3) := dk_153 0 4 (dk_at dksX10_readTurn_0 21 rfl rfl)
theorem dX10_readTurn_24 : decode cX10_readTurn 24 = .ok (.return_, 1) := dk_177 (dk_at dksX10_readTurn_1 0 rfl rfl)
theorem dX10_readTurn_25 : decode cX10_readTurn 25 = .ok (.aload_n 0, 1) := dk_42 (dk_at dksX10_readTurn_1 1 rfl rfl)
theorem dX10_readTurn_26 : decode cX10_readTurn 26 = .ok (.invokevirtual 123, 3) := dk_182 0 123 (dk_at dksX10_readTurn_1 2 rfl rfl)
theorem dX10_readTurn_29 : decode cX10_readTurn 29 = .ok (.aload_n 0, 1) := dk_42 (dk_at dksX10_readTurn_1 5 rfl rfl)
theorem dX10_readTurn_30 : decode cX10_readTurn 30 = .ok (.invokevirtual 170, 3) := dk_182 0 170 (dk_at dksX10_readTurn_1 6 rfl rfl)
theorem dX10_readTurn_33 : decode cX10_readTurn 33 = .ok (.istore_n 1, 1) := dk_60 (dk_at dksX10_readTurn_1 9 rfl rfl)
theorem dX10_readTurn_34 : decode cX10_readTurn 34 = .ok (.aload_n 0, 1) := dk_42 (dk_at dksX10_readTurn_1 10 rfl rfl)
theorem dX10_readTurn_35 : decode cX10_readTurn 35 = .ok (.getfield 103, 3) := dk_180 0 103 (dk_at dksX10_readTurn_1 11 rfl rfl)
theorem dX10_readTurn_38 : decode cX10_readTurn 38 = .ok (.ifCond .ne 10, 3) := dk_154 0 10 (dk_at dksX10_readTurn_1 14 rfl rfl)
theorem dX10_readTurn_41 : decode cX10_readTurn 41 = .ok (.aload_n 0, 1) := dk_42 (dk_at dksX10_readTurn_1 17 rfl rfl)
theorem dX10_readTurn_42 : decode cX10_readTurn 42 = .ok (.invokevirtual 147, 3) := dk_182 0 147 (dk_at dksX10_readTurn_1 18 rfl rfl)
theorem dX10_readTurn_45 : decode cX10_readTurn 45 = .ok (.goto 4, 3) := dk_167 0 4 (dk_at dksX10_readTurn_1 21 rfl rfl)
theorem dX10_readTurn_48 : decode cX10_readTurn 48 = .ok (.iconst 0, 1) := dk_3 (dk_at dksX10_readTurn_2 0 rfl rfl)
theorem dX10_readTurn_49 : decode cX10_readTurn 49 = .ok (.istore_n 2, 1) := dk_61 (dk_at dksX10_readTurn_2 1 rfl rfl)
theorem dX10_readTurn_50 : decode cX10_readTurn 50 = .ok (.aload_n 0, 1) := dk_42 (dk_at dksX10_readTurn_2 2 rfl rfl)
theorem dX10_readTurn_51 : decode cX10_readTurn 51 = .ok (.getfield 103, 3) := dk_180 0 103 (dk_at dksX10_readTurn_2 3 rfl rfl)
theorem dX10_readTurn_54 : decode cX10_readTurn 54 = .ok (.ifCond .eq 4, 3) := dk_153 0 4 (dk_at dksX10_readTurn_2 6 rfl rfl)
theorem dX10_readTurn_57 : decode cX10_readTurn 57 = .ok (.return_, 1) := dk_177 (dk_at dksX10_readTurn_2 9 rfl rfl)
theorem dX10_readTurn_58 : decode cX10_readTurn 58 = .ok (.aload_n 0, 1) := dk_42 (dk_at dksX10_readTurn_2 10 rfl rfl)
theorem dX10_readTurn_59 : decode cX10_readTurn 59 = .ok (.getfield 13, 3) := dk_180 0 13 (dk_at dksX10_readTurn_2 11 rfl rfl)
theorem dX10_readTurn_62 : decode cX10_readTurn 62 = .ok (.bipush 26, 2) := dk_16 26 (dk_at dksX10_readTurn_2 14 rfl rfl)
theorem dX10_readTurn_64 : decode cX10_readTurn 64 = .ok (.iconst 2, 1) := dk_5 (dk_at dksX10_readTurn_2 16 rfl rfl)
theorem dX10_readTurn_65 : decode cX10_readTurn 65 = .ok (.aload_n 0, 1) := dk_42 (dk_at dksX10_readTurn_2 17 rfl rfl)
theorem dX10_readTurn_66 : decode cX10_readTurn 66 = .ok (.getfield 13, 3) := dk_180 0 13 (dk_at dksX10_readTurn_2 18 rfl rfl)
theorem dX10_readTurn_69 : decode cX10_readTurn 69 = .ok (.bipush 6, 2) := dk_16 6 (dk_at dksX10_readTurn_2 21 rfl rfl)
theorem dX10_readTurn_71 : decode cX10_readTurn 71 = .ok (.iaload, 1) := dk_46 (dk_at dksX10_readTurn_2 23 rfl rfl)
theorem dX10_readTurn_72 : decode cX10_readTurn 72 = .ok (.imul, 1) := dk_104 (dk_at dksX10_readTurn_3 0 rfl rfl)
theorem dX10_readTurn_73 : decode cX10_readTurn 73 = .ok (.iadd, 1) := dk_96 (dk_at dksX10_readTurn_3 1 rfl rfl)
theorem dX10_readTurn_74 : decode cX10_readTurn 74 = .ok (.iload_n 1, 1) := dk_27 (dk_at dksX10_readTurn_3 2 rfl rfl)
theorem dX10_readTurn_75 : decode cX10_readTurn 75 = .ok (.iastore, 1) := dk_79 (dk_at dksX10_readTurn_3 3 rfl rfl)
theorem dX10_readTurn_76 : decode cX10_readTurn 76 = .ok (.aload_n 0, 1) := dk_42 (dk_at dksX10_readTurn_3 4 rfl rfl)
theorem dX10_readTurn_77 : decode cX10_readTurn 77 = .ok (.getfield 13, 3) := dk_180 0 13 (dk_at dksX10_readTurn_3 5 rfl rfl)
theorem dX10_readTurn_80 : decode cX10_readTurn 80 = .ok (.bipush 26, 2) := dk_16 26 (dk_at dksX10_readTurn_3 8 rfl rfl)
theorem dX10_readTurn_82 : decode cX10_readTurn 82 = .ok (.iconst 2, 1) := dk_5 (dk_at dksX10_readTurn_3 10 rfl rfl)
theorem dX10_readTurn_83 : decode cX10_readTurn 83 = .ok (.aload_n 0, 1) := dk_42 (dk_at dksX10_readTurn_3 11 rfl rfl)
theorem dX10_readTurn_84 : decode cX10_readTurn 84 = .ok (.getfield 13, 3) := dk_180 0 13 (dk_at dksX10_readTurn_3 12 rfl rfl)
theorem dX10_readTurn_87 : decode cX10_readTurn 87 = .ok (.bipush 6, 2) := dk_16 6 (dk_at dksX10_readTurn_3 15 rfl rfl)
theorem dX10_readTurn_89 : decode cX10_readTurn 89 = .ok (.iaload, 1) := dk_46 (dk_at dksX10_readTurn_3 17 rfl rfl)
theorem dX10_readTurn_90 : decode cX10_readTurn 90 = .ok (.imul, 1) := dk_104 (dk_at dksX10_readTurn_3 18 rfl rfl)
theorem dX10_readTurn_91 : decode cX10_readTurn 91 = .ok (.iadd, 1) := dk_96 (dk_at dksX10_readTurn_3 19 rfl rfl)
theorem dX10_readTurn_92 : decode cX10_readTurn 92 = .ok (.iconst 1, 1) := dk_4 (dk_at dksX10_readTurn_3 20 rfl rfl)
theorem dX10_readTurn_93 : decode cX10_readTurn 93 = .ok (.iadd, 1) := dk_96 (dk_at dksX10_readTurn_3 21 rfl rfl)
theorem dX10_readTurn_94 : decode cX10_readTurn 94 = .ok (.iload_n 2, 1) := dk_28 (dk_at dksX10_readTurn_3 22 rfl rfl)
theorem dX10_readTurn_95 : decode cX10_readTurn 95 = .ok (.iastore, 1) := dk_79 (dk_at dksX10_readTurn_3 23 rfl rfl)
theorem dX10_readTurn_96 : decode cX10_readTurn 96 = .ok (.aload_n 0, 1) := dk_42 (dk_at dksX10_readTurn_4 0 rfl rfl)
theorem dX10_readTurn_97 : decode cX10_readTurn 97 = .ok (.getfield 13, 3) := dk_180 0 13 (dk_at dksX10_readTurn_4 1 rfl rfl)
theorem dX10_readTurn_100 : decode cX10_readTurn 100 = .ok (.bipush 6, 2) := dk_16 6 (dk_at dksX10_readTurn_4 4 rfl rfl)
theorem dX10_readTurn_102 : decode cX10_readTurn 102 = .ok (.dup2, 1) := dk_92 (dk_at dksX10_readTurn_4 6 rfl rfl)
theorem dX10_readTurn_103 : decode cX10_readTurn 103 = .ok (.iaload, 1) := dk_46 (dk_at dksX10_readTurn_4 7 rfl rfl)
theorem dX10_readTurn_104 : decode cX10_readTurn 104 = .ok (.iconst 1, 1) := dk_4 (dk_at dksX10_readTurn_4 8 rfl rfl)
theorem dX10_readTurn_105 : decode cX10_readTurn 105 = .ok (.iadd, 1) := dk_96 (dk_at dksX10_readTurn_4 9 rfl rfl)
theorem dX10_readTurn_106 : decode cX10_readTurn 106 = .ok (.iastore, 1) := dk_79 (dk_at dksX10_readTurn_4 10 rfl rfl)
theorem dX10_readTurn_107 : decode cX10_readTurn 107 = .ok (.return_, 1) := dk_177 (dk_at dksX10_readTurn_4 11 rfl rfl)
abbrev cX10_speakerTold : ByteArray := prog_33_method_20_code
def yX10_speakerTold : MethodName := ⟨RX10, "speakerTold", "()I"⟩
def dkwX10_speakerTold_0 : List UInt8 := [42, 3, 42, 180, 0, 13, 8, 46, 4, 100, 182, 0, 137, 172]
abbrev dktX10_speakerTold_0 : List UInt8 := dkwX10_speakerTold_0 ++ []
theorem dksX10_speakerTold_0 : cX10_speakerTold.data.toList.drop 0 = dktX10_speakerTold_0 := by decide +kernel
theorem dX10_speakerTold_0 : decode cX10_speakerTold 0 = .ok (.aload_n 0, 1) := dk_42 (dk_at dksX10_speakerTold_0 0 rfl rfl)
theorem dX10_speakerTold_1 : decode cX10_speakerTold 1 = .ok (.iconst 0, 1) := dk_3 (dk_at dksX10_speakerTold_0 1 rfl rfl)
theorem dX10_speakerTold_2 : decode cX10_speakerTold 2 = .ok (.aload_n 0, 1) := dk_42 (dk_at dksX10_speakerTold_0 2 rfl rfl)
theorem dX10_speakerTold_3 : decode cX10_speakerTold 3 = .ok (.getfield 13, 3) := dk_180 0 13 (dk_at dksX10_speakerTold_0 3 rfl rfl)
theorem dX10_speakerTold_6 : decode cX10_speakerTold 6 = .ok (.iconst 5, 1) := dk_8 (dk_at dksX10_speakerTold_0 6 rfl rfl)
theorem dX10_speakerTold_7 : decode cX10_speakerTold 7 = .ok (.iaload, 1) := dk_46 (dk_at dksX10_speakerTold_0 7 rfl rfl)
theorem dX10_speakerTold_8 : decode cX10_speakerTold 8 = .ok (.iconst 1, 1) := dk_4 (dk_at dksX10_speakerTold_0 8 rfl rfl)
theorem dX10_speakerTold_9 : decode cX10_speakerTold 9 = .ok (.isub, 1) := dk_100 (dk_at dksX10_speakerTold_0 9 rfl rfl)
theorem dX10_speakerTold_10 : decode cX10_speakerTold 10 = .ok (.invokevirtual 137, 3) := dk_182 0 137 (dk_at dksX10_speakerTold_0 10 rfl rfl)
theorem dX10_speakerTold_13 : decode cX10_speakerTold 13 = .ok (.ireturn, 1) := dk_172 (dk_at dksX10_speakerTold_0 13 rfl rfl)
abbrev cX10_readSaying : ByteArray := prog_33_method_25_code
def yX10_readSaying : MethodName := ⟨RX10, "readSaying", "()I"⟩
def dkwX10_readSaying_0 : List UInt8 := [42, 4, 182, 0, 183, 172]
abbrev dktX10_readSaying_0 : List UInt8 := dkwX10_readSaying_0 ++ []
theorem dksX10_readSaying_0 : cX10_readSaying.data.toList.drop 0 = dktX10_readSaying_0 := by decide +kernel
theorem dX10_readSaying_0 : decode cX10_readSaying 0 = .ok (.aload_n 0, 1) := dk_42 (dk_at dksX10_readSaying_0 0 rfl rfl)
theorem dX10_readSaying_1 : decode cX10_readSaying 1 = .ok (.iconst 1, 1) := dk_4 (dk_at dksX10_readSaying_0 1 rfl rfl)
theorem dX10_readSaying_2 : decode cX10_readSaying 2 = .ok (.invokevirtual 183, 3) := dk_182 0 183 (dk_at dksX10_readSaying_0 2 rfl rfl)
theorem dX10_readSaying_5 : decode cX10_readSaying 5 = .ok (.ireturn, 1) := dk_172 (dk_at dksX10_readSaying_0 5 rfl rfl)
abbrev cX10_readJoined : ByteArray := prog_33_method_24_code
def yX10_readJoined : MethodName := ⟨RX10, "readJoined", "(Z)I"⟩
def dkwX10_readJoined_5 : List UInt8 := [167, 0, 4, 28, 172]
abbrev dktX10_readJoined_5 : List UInt8 := dkwX10_readJoined_5 ++ []
def dkwX10_readJoined_4 : List UInt8 := [167, 255, 184, 21, 4, 153, 0, 21, 42, 27, 153, 0, 7, 3, 167, 0, 4, 4, 3, 28, 182, 0, 158]
abbrev dktX10_readJoined_4 : List UInt8 := dkwX10_readJoined_4 ++ dktX10_readJoined_5
def dkwX10_readJoined_3 : List UInt8 := [42, 182, 0, 155, 182, 0, 158, 54, 5, 42, 29, 21, 5, 182, 0, 191, 21, 5, 62, 4, 54, 4]
abbrev dktX10_readJoined_3 : List UInt8 := dkwX10_readJoined_3 ++ dktX10_readJoined_4
def dkwX10_readJoined_2 : List UInt8 := [3, 28, 182, 0, 158, 61, 28, 62, 42, 16, 9, 3, 27, 153, 0, 11, 42, 3, 182, 0, 183, 167, 0, 7]
abbrev dktX10_readJoined_2 : List UInt8 := dkwX10_readJoined_2 ++ dktX10_readJoined_3
def dkwX10_readJoined_1 : List UInt8 := [153, 0, 8, 18, 187, 167, 0, 5, 18, 189, 182, 0, 167, 153, 0, 60, 21, 4, 154, 0, 14, 42, 16, 9]
abbrev dktX10_readJoined_1 : List UInt8 := dkwX10_readJoined_1 ++ dktX10_readJoined_2
def dkwX10_readJoined_0 : List UInt8 := [27, 153, 0, 11, 42, 3, 182, 0, 183, 167, 0, 7, 42, 182, 0, 155, 61, 28, 62, 3, 54, 4, 42, 27]
abbrev dktX10_readJoined_0 : List UInt8 := dkwX10_readJoined_0 ++ dktX10_readJoined_1
theorem dksX10_readJoined_0 : cX10_readJoined.data.toList.drop 0 = dktX10_readJoined_0 := by decide +kernel
theorem dksX10_readJoined_1 : cX10_readJoined.data.toList.drop 24 = dktX10_readJoined_1 := dk_seg dksX10_readJoined_0 24 rfl rfl
theorem dksX10_readJoined_2 : cX10_readJoined.data.toList.drop 48 = dktX10_readJoined_2 := dk_seg dksX10_readJoined_1 24 rfl rfl
theorem dksX10_readJoined_3 : cX10_readJoined.data.toList.drop 72 = dktX10_readJoined_3 := dk_seg dksX10_readJoined_2 24 rfl rfl
theorem dksX10_readJoined_4 : cX10_readJoined.data.toList.drop 94 = dktX10_readJoined_4 := dk_seg dksX10_readJoined_3 22 rfl rfl
theorem dksX10_readJoined_5 : cX10_readJoined.data.toList.drop 117 = dktX10_readJoined_5 := dk_seg dksX10_readJoined_4 23 rfl rfl
theorem dX10_readJoined_0 : decode cX10_readJoined 0 = .ok (.iload_n 1, 1) := dk_27 (dk_at dksX10_readJoined_0 0 rfl rfl)
theorem dX10_readJoined_1 : decode cX10_readJoined 1 = .ok (.ifCond .eq 11, 3) := dk_153 0 11 (dk_at dksX10_readJoined_0 1 rfl rfl)
theorem dX10_readJoined_4 : decode cX10_readJoined 4 = .ok (.aload_n 0, 1) := dk_42 (dk_at dksX10_readJoined_0 4 rfl rfl)
theorem dX10_readJoined_5 : decode cX10_readJoined 5 = .ok (.iconst 0, 1) := dk_3 (dk_at dksX10_readJoined_0 5 rfl rfl)
theorem dX10_readJoined_6 : decode cX10_readJoined 6 = .ok (.invokevirtual 183, 3) := dk_182 0 183 (dk_at dksX10_readJoined_0 6 rfl rfl)
theorem dX10_readJoined_9 : decode cX10_readJoined 9 = .ok (.goto 7, 3) := dk_167 0 7 (dk_at dksX10_readJoined_0 9 rfl rfl)
theorem dX10_readJoined_12 : decode cX10_readJoined 12 = .ok (.aload_n 0, 1) := dk_42 (dk_at dksX10_readJoined_0 12 rfl rfl)
theorem dX10_readJoined_13 : decode cX10_readJoined 13 = .ok (.invokevirtual 155, 3) := dk_182 0 155 (dk_at dksX10_readJoined_0 13 rfl rfl)
theorem dX10_readJoined_16 : decode cX10_readJoined 16 = .ok (.istore_n 2, 1) := dk_61 (dk_at dksX10_readJoined_0 16 rfl rfl)
theorem dX10_readJoined_17 : decode cX10_readJoined 17 = .ok (.iload_n 2, 1) := dk_28 (dk_at dksX10_readJoined_0 17 rfl rfl)
theorem dX10_readJoined_18 : decode cX10_readJoined 18 = .ok (.istore_n 3, 1) := dk_62 (dk_at dksX10_readJoined_0 18 rfl rfl)
theorem dX10_readJoined_19 : decode cX10_readJoined 19 = .ok (.iconst 0, 1) := dk_3 (dk_at dksX10_readJoined_0 19 rfl rfl)
theorem dX10_readJoined_20 : decode cX10_readJoined 20 = .ok (.istore 4, 2) := dk_54 4 (dk_at dksX10_readJoined_0 20 rfl rfl)
theorem dX10_readJoined_22 : decode cX10_readJoined 22 = .ok (.aload_n 0, 1) := dk_42 (dk_at dksX10_readJoined_0 22 rfl rfl)
theorem dX10_readJoined_23 : decode cX10_readJoined 23 = .ok (.iload_n 1, 1) := dk_27 (dk_at dksX10_readJoined_0 23 rfl rfl)
theorem dX10_readJoined_24 : decode cX10_readJoined 24 = .ok (.ifCond .eq 8, 3) := dk_153 0 8 (dk_at dksX10_readJoined_1 0 rfl rfl)
theorem dX10_readJoined_27 : decode cX10_readJoined 27 = .ok (.ldc 187, 2) := dk_18 187 (dk_at dksX10_readJoined_1 3 rfl rfl)
theorem dX10_readJoined_29 : decode cX10_readJoined 29 = .ok (.goto 5, 3) := dk_167 0 5 (dk_at dksX10_readJoined_1 5 rfl rfl)
theorem dX10_readJoined_32 : decode cX10_readJoined 32 = .ok (.ldc 189, 2) := dk_18 189 (dk_at dksX10_readJoined_1 8 rfl rfl)
theorem dX10_readJoined_34 : decode cX10_readJoined 34 = .ok (.invokevirtual 167, 3) := dk_182 0 167 (dk_at dksX10_readJoined_1 10 rfl rfl)
theorem dX10_readJoined_37 : decode cX10_readJoined 37 = .ok (.ifCond .eq 60, 3) := dk_153 0 60 (dk_at dksX10_readJoined_1 13 rfl rfl)
theorem dX10_readJoined_40 : decode cX10_readJoined 40 = .ok (.iload 4, 2) := dk_21 4 (dk_at dksX10_readJoined_1 16 rfl rfl)
theorem dX10_readJoined_42 : decode cX10_readJoined 42 = .ok (.ifCond .ne 14, 3) := dk_154 0 14 (dk_at dksX10_readJoined_1 18 rfl rfl)
theorem dX10_readJoined_45 : decode cX10_readJoined 45 = .ok (.aload_n 0, 1) := dk_42 (dk_at dksX10_readJoined_1 21 rfl rfl)
theorem dX10_readJoined_46 : decode cX10_readJoined 46 = .ok (.bipush 9, 2) := dk_16 9 (dk_at dksX10_readJoined_1 22 rfl rfl)
theorem dX10_readJoined_48 : decode cX10_readJoined 48 = .ok (.iconst 0, 1) := dk_3 (dk_at dksX10_readJoined_2 0 rfl rfl)
theorem dX10_readJoined_49 : decode cX10_readJoined 49 = .ok (.iload_n 2, 1) := dk_28 (dk_at dksX10_readJoined_2 1 rfl rfl)
theorem dX10_readJoined_50 : decode cX10_readJoined 50 = .ok (.invokevirtual 158, 3) := dk_182 0 158 (dk_at dksX10_readJoined_2 2 rfl rfl)
theorem dX10_readJoined_53 : decode cX10_readJoined 53 = .ok (.istore_n 2, 1) := dk_61 (dk_at dksX10_readJoined_2 5 rfl rfl)
theorem dX10_readJoined_54 : decode cX10_readJoined 54 = .ok (.iload_n 2, 1) := dk_28 (dk_at dksX10_readJoined_2 6 rfl rfl)
theorem dX10_readJoined_55 : decode cX10_readJoined 55 = .ok (.istore_n 3, 1) := dk_62 (dk_at dksX10_readJoined_2 7 rfl rfl)
theorem dX10_readJoined_56 : decode cX10_readJoined 56 = .ok (.aload_n 0, 1) := dk_42 (dk_at dksX10_readJoined_2 8 rfl rfl)
theorem dX10_readJoined_57 : decode cX10_readJoined 57 = .ok (.bipush 9, 2) := dk_16 9 (dk_at dksX10_readJoined_2 9 rfl rfl)
theorem dX10_readJoined_59 : decode cX10_readJoined 59 = .ok (.iconst 0, 1) := dk_3 (dk_at dksX10_readJoined_2 11 rfl rfl)
theorem dX10_readJoined_60 : decode cX10_readJoined 60 = .ok (.iload_n 1, 1) := dk_27 (dk_at dksX10_readJoined_2 12 rfl rfl)
theorem dX10_readJoined_61 : decode cX10_readJoined 61 = .ok (.ifCond .eq 11, 3) := dk_153 0 11 (dk_at dksX10_readJoined_2 13 rfl rfl)
theorem dX10_readJoined_64 : decode cX10_readJoined 64 = .ok (.aload_n 0, 1) := dk_42 (dk_at dksX10_readJoined_2 16 rfl rfl)
theorem dX10_readJoined_65 : decode cX10_readJoined 65 = .ok (.iconst 0, 1) := dk_3 (dk_at dksX10_readJoined_2 17 rfl rfl)
theorem dX10_readJoined_66 : decode cX10_readJoined 66 = .ok (.invokevirtual 183, 3) := dk_182 0 183 (dk_at dksX10_readJoined_2 18 rfl rfl)
theorem dX10_readJoined_69 : decode cX10_readJoined 69 = .ok (.goto 7, 3) := dk_167 0 7 (dk_at dksX10_readJoined_2 21 rfl rfl)
theorem dX10_readJoined_72 : decode cX10_readJoined 72 = .ok (.aload_n 0, 1) := dk_42 (dk_at dksX10_readJoined_3 0 rfl rfl)
theorem dX10_readJoined_73 : decode cX10_readJoined 73 = .ok (.invokevirtual 155, 3) := dk_182 0 155 (dk_at dksX10_readJoined_3 1 rfl rfl)
theorem dX10_readJoined_76 : decode cX10_readJoined 76 = .ok (.invokevirtual 158, 3) := dk_182 0 158 (dk_at dksX10_readJoined_3 4 rfl rfl)
theorem dX10_readJoined_79 : decode cX10_readJoined 79 = .ok (.istore 5, 2) := dk_54 5 (dk_at dksX10_readJoined_3 7 rfl rfl)
theorem dX10_readJoined_81 : decode cX10_readJoined 81 = .ok (.aload_n 0, 1) := dk_42 (dk_at dksX10_readJoined_3 9 rfl rfl)
theorem dX10_readJoined_82 : decode cX10_readJoined 82 = .ok (.iload_n 3, 1) := dk_29 (dk_at dksX10_readJoined_3 10 rfl rfl)
theorem dX10_readJoined_83 : decode cX10_readJoined 83 = .ok (.iload 5, 2) := dk_21 5 (dk_at dksX10_readJoined_3 11 rfl rfl)
theorem dX10_readJoined_85 : decode cX10_readJoined 85 = .ok (.invokevirtual 191, 3) := dk_182 0 191 (dk_at dksX10_readJoined_3 13 rfl rfl)
theorem dX10_readJoined_88 : decode cX10_readJoined 88 = .ok (.iload 5, 2) := dk_21 5 (dk_at dksX10_readJoined_3 16 rfl rfl)
theorem dX10_readJoined_90 : decode cX10_readJoined 90 = .ok (.istore_n 3, 1) := dk_62 (dk_at dksX10_readJoined_3 18 rfl rfl)
theorem dX10_readJoined_91 : decode cX10_readJoined 91 = .ok (.iconst 1, 1) := dk_4 (dk_at dksX10_readJoined_3 19 rfl rfl)
theorem dX10_readJoined_92 : decode cX10_readJoined 92 = .ok (.istore 4, 2) := dk_54 4 (dk_at dksX10_readJoined_3 20 rfl rfl)
theorem dX10_readJoined_94 : decode cX10_readJoined 94 = .ok (.goto (-72), 3) := dk_167 255 184 (dk_at dksX10_readJoined_4 0 rfl rfl)
theorem dX10_readJoined_97 : decode cX10_readJoined 97 = .ok (.iload 4, 2) := dk_21 4 (dk_at dksX10_readJoined_4 3 rfl rfl)
theorem dX10_readJoined_99 : decode cX10_readJoined 99 = .ok (.ifCond .eq 21, 3) := dk_153 0 21 (dk_at dksX10_readJoined_4 5 rfl rfl)
theorem dX10_readJoined_102 : decode cX10_readJoined 102 = .ok (.aload_n 0, 1) := dk_42 (dk_at dksX10_readJoined_4 8 rfl rfl)
theorem dX10_readJoined_103 : decode cX10_readJoined 103 = .ok (.iload_n 1, 1) := dk_27 (dk_at dksX10_readJoined_4 9 rfl rfl)
theorem dX10_readJoined_104 : decode cX10_readJoined 104 = .ok (.ifCond .eq 7, 3) := dk_153 0 7 (dk_at dksX10_readJoined_4 10 rfl rfl)
theorem dX10_readJoined_107 : decode cX10_readJoined 107 = .ok (.iconst 0, 1) := dk_3 (dk_at dksX10_readJoined_4 13 rfl rfl)
theorem dX10_readJoined_108 : decode cX10_readJoined 108 = .ok (.goto 4, 3) := dk_167 0 4 (dk_at dksX10_readJoined_4 14 rfl rfl)
theorem dX10_readJoined_111 : decode cX10_readJoined 111 = .ok (.iconst 1, 1) := dk_4 (dk_at dksX10_readJoined_4 17 rfl rfl)
theorem dX10_readJoined_112 : decode cX10_readJoined 112 = .ok (.iconst 0, 1) := dk_3 (dk_at dksX10_readJoined_4 18 rfl rfl)
theorem dX10_readJoined_113 : decode cX10_readJoined 113 = .ok (.iload_n 2, 1) := dk_28 (dk_at dksX10_readJoined_4 19 rfl rfl)
theorem dX10_readJoined_114 : decode cX10_readJoined 114 = .ok (.invokevirtual 158, 3) := dk_182 0 158 (dk_at dksX10_readJoined_4 20 rfl rfl)
theorem dX10_readJoined_117 : decode cX10_readJoined 117 = .ok (.goto 4, 3) := dk_167 0 4 (dk_at dksX10_readJoined_5 0 rfl rfl)
theorem dX10_readJoined_120 : decode cX10_readJoined 120 = .ok (.iload_n 2, 1) := dk_28 (dk_at dksX10_readJoined_5 3 rfl rfl)
theorem dX10_readJoined_121 : decode cX10_readJoined 121 = .ok (.ireturn, 1) := dk_172 (dk_at dksX10_readJoined_5 4 rfl rfl)
abbrev cX10_readFact : ByteArray := prog_33_method_23_code
def yX10_readFact : MethodName := ⟨RX10, "readFact", "()I"⟩
def dkwX10_readFact_8 : List UInt8 := [182, 0, 129, 3, 172]
abbrev dktX10_readFact_8 : List UInt8 := dkwX10_readFact_8 ++ []
def dkwX10_readFact_7 : List UInt8 := [182, 0, 167, 153, 0, 18, 42, 16, 8, 42, 3, 16, 120, 182, 0, 137, 2, 182, 0, 158, 172, 42, 5]
abbrev dktX10_readFact_7 : List UInt8 := dkwX10_readFact_7 ++ dktX10_readFact_8
def dkwX10_readFact_6 : List UInt8 := [172, 42, 18, 179, 182, 0, 167, 153, 0, 12, 42, 16, 7, 3, 2, 182, 0, 158, 172, 42, 18, 181]
abbrev dktX10_readFact_6 : List UInt8 := dkwX10_readFact_6 ++ dktX10_readFact_7
def dkwX10_readFact_5 : List UInt8 := [182, 0, 162, 182, 0, 158, 172, 42, 18, 177, 182, 0, 167, 153, 0, 12, 42, 16, 6, 3, 2, 182, 0, 158]
abbrev dktX10_readFact_5 : List UInt8 := dkwX10_readFact_5 ++ dktX10_readFact_6
def dkwX10_readFact_4 : List UInt8 := [172, 42, 18, 175, 182, 0, 167, 153, 0, 22, 42, 3, 16, 20, 182, 0, 137, 60, 42, 8, 27, 42]
abbrev dktX10_readFact_4 : List UInt8 := dkwX10_readFact_4 ++ dktX10_readFact_5
def dkwX10_readFact_3 : List UInt8 := [42, 18, 173, 182, 0, 167, 153, 0, 19, 42, 182, 0, 170, 60, 42, 7, 27, 42, 182, 0, 162, 182, 0, 158]
abbrev dktX10_readFact_3 : List UInt8 := dkwX10_readFact_3 ++ dktX10_readFact_4
def dkwX10_readFact_2 : List UInt8 := [182, 0, 162, 172, 42, 18, 165, 182, 0, 167, 153, 0, 14, 42, 6, 42, 182, 0, 170, 2, 182, 0, 158, 172]
abbrev dktX10_readFact_2 : List UInt8 := dkwX10_readFact_2 ++ dktX10_readFact_3
def dkwX10_readFact_1 : List UInt8 := [100, 181, 0, 141, 42, 5, 3, 27, 182, 0, 158, 172, 42, 16, 40, 182, 0, 126, 153, 0, 8, 42]
abbrev dktX10_readFact_1 : List UInt8 := dkwX10_readFact_1 ++ dktX10_readFact_2
def dkwX10_readFact_0 : List UInt8 := [42, 18, 153, 182, 0, 119, 153, 0, 30, 42, 182, 0, 144, 42, 182, 0, 155, 60, 42, 89, 180, 0, 141, 4]
abbrev dktX10_readFact_0 : List UInt8 := dkwX10_readFact_0 ++ dktX10_readFact_1
theorem dksX10_readFact_0 : cX10_readFact.data.toList.drop 0 = dktX10_readFact_0 := by decide +kernel
theorem dksX10_readFact_1 : cX10_readFact.data.toList.drop 24 = dktX10_readFact_1 := dk_seg dksX10_readFact_0 24 rfl rfl
theorem dksX10_readFact_2 : cX10_readFact.data.toList.drop 46 = dktX10_readFact_2 := dk_seg dksX10_readFact_1 22 rfl rfl
theorem dksX10_readFact_3 : cX10_readFact.data.toList.drop 70 = dktX10_readFact_3 := dk_seg dksX10_readFact_2 24 rfl rfl
theorem dksX10_readFact_4 : cX10_readFact.data.toList.drop 94 = dktX10_readFact_4 := dk_seg dksX10_readFact_3 24 rfl rfl
theorem dksX10_readFact_5 : cX10_readFact.data.toList.drop 116 = dktX10_readFact_5 := dk_seg dksX10_readFact_4 22 rfl rfl
theorem dksX10_readFact_6 : cX10_readFact.data.toList.drop 140 = dktX10_readFact_6 := dk_seg dksX10_readFact_5 24 rfl rfl
theorem dksX10_readFact_7 : cX10_readFact.data.toList.drop 162 = dktX10_readFact_7 := dk_seg dksX10_readFact_6 22 rfl rfl
theorem dksX10_readFact_8 : cX10_readFact.data.toList.drop 185 = dktX10_readFact_8 := dk_seg dksX10_readFact_7 23 rfl rfl
theorem dX10_readFact_0 : decode cX10_readFact 0 = .ok (.aload_n 0, 1) := dk_42 (dk_at dksX10_readFact_0 0 rfl rfl)
theorem dX10_readFact_1 : decode cX10_readFact 1 = .ok (.ldc 153, 2) := dk_18 153 (dk_at dksX10_readFact_0 1 rfl rfl)
theorem dX10_readFact_3 : decode cX10_readFact 3 = .ok (.invokevirtual 119, 3) := dk_182 0 119 (dk_at dksX10_readFact_0 3 rfl rfl)
theorem dX10_readFact_6 : decode cX10_readFact 6 = .ok (.ifCond .eq 30, 3) := dk_153 0 30 (dk_at dksX10_readFact_0 6 rfl rfl)
theorem dX10_readFact_9 : decode cX10_readFact 9 = .ok (.aload_n 0, 1) := dk_42 (dk_at dksX10_readFact_0 9 rfl rfl)
theorem dX10_readFact_10 : decode cX10_readFact 10 = .ok (.invokevirtual 144, 3) := dk_182 0 144 (dk_at dksX10_readFact_0 10 rfl rfl)
theorem dX10_readFact_13 : decode cX10_readFact 13 = .ok (.aload_n 0, 1) := dk_42 (dk_at dksX10_readFact_0 13 rfl rfl)
theorem dX10_readFact_14 : decode cX10_readFact 14 = .ok (.invokevirtual 155, 3) := dk_182 0 155 (dk_at dksX10_readFact_0 14 rfl rfl)
theorem dX10_readFact_17 : decode cX10_readFact 17 = .ok (.istore_n 1, 1) := dk_60 (dk_at dksX10_readFact_0 17 rfl rfl)
theorem dX10_readFact_18 : decode cX10_readFact 18 = .ok (.aload_n 0, 1) := dk_42 (dk_at dksX10_readFact_0 18 rfl rfl)
theorem dX10_readFact_19 : decode cX10_readFact 19 = .ok (.dup, 1) := dk_89 (dk_at dksX10_readFact_0 19 rfl rfl)
theorem dX10_readFact_20 : decode cX10_readFact 20 = .ok (.getfield 141, 3) := dk_180 0 141 (dk_at dksX10_readFact_0 20 rfl rfl)
theorem dX10_readFact_23 : decode cX10_readFact 23 = .ok (.iconst 1, 1) := dk_4 (dk_at dksX10_readFact_0 23 rfl rfl)
theorem dX10_readFact_24 : decode cX10_readFact 24 = .ok (.isub, 1) := dk_100 (dk_at dksX10_readFact_1 0 rfl rfl)
theorem dX10_readFact_25 : decode cX10_readFact 25 = .ok (.putfield 141, 3) := dk_181 0 141 (dk_at dksX10_readFact_1 1 rfl rfl)
theorem dX10_readFact_28 : decode cX10_readFact 28 = .ok (.aload_n 0, 1) := dk_42 (dk_at dksX10_readFact_1 4 rfl rfl)
theorem dX10_readFact_29 : decode cX10_readFact 29 = .ok (.iconst 2, 1) := dk_5 (dk_at dksX10_readFact_1 5 rfl rfl)
theorem dX10_readFact_30 : decode cX10_readFact 30 = .ok (.iconst 0, 1) := dk_3 (dk_at dksX10_readFact_1 6 rfl rfl)
theorem dX10_readFact_31 : decode cX10_readFact 31 = .ok (.iload_n 1, 1) := dk_27 (dk_at dksX10_readFact_1 7 rfl rfl)
theorem dX10_readFact_32 : decode cX10_readFact 32 = .ok (.invokevirtual 158, 3) := dk_182 0 158 (dk_at dksX10_readFact_1 8 rfl rfl)
theorem dX10_readFact_35 : decode cX10_readFact 35 = .ok (.ireturn, 1) := dk_172 (dk_at dksX10_readFact_1 11 rfl rfl)
theorem dX10_readFact_36 : decode cX10_readFact 36 = .ok (.aload_n 0, 1) := dk_42 (dk_at dksX10_readFact_1 12 rfl rfl)
theorem dX10_readFact_37 : decode cX10_readFact 37 = .ok (.bipush 40, 2) := dk_16 40 (dk_at dksX10_readFact_1 13 rfl rfl)
theorem dX10_readFact_39 : decode cX10_readFact 39 = .ok (.invokevirtual 126, 3) := dk_182 0 126 (dk_at dksX10_readFact_1 15 rfl rfl)
theorem dX10_readFact_42 : decode cX10_readFact 42 = .ok (.ifCond .eq 8, 3) := dk_153 0 8 (dk_at dksX10_readFact_1 18 rfl rfl)
theorem dX10_readFact_45 : decode cX10_readFact 45 = .ok (.aload_n 0, 1) := dk_42 (dk_at dksX10_readFact_1 21 rfl rfl)
theorem dX10_readFact_46 : decode cX10_readFact 46 = .ok (.invokevirtual 162, 3) := dk_182 0 162 (dk_at dksX10_readFact_2 0 rfl rfl)
theorem dX10_readFact_49 : decode cX10_readFact 49 = .ok (.ireturn, 1) := dk_172 (dk_at dksX10_readFact_2 3 rfl rfl)
theorem dX10_readFact_50 : decode cX10_readFact 50 = .ok (.aload_n 0, 1) := dk_42 (dk_at dksX10_readFact_2 4 rfl rfl)
theorem dX10_readFact_51 : decode cX10_readFact 51 = .ok (.ldc 165, 2) := dk_18 165 (dk_at dksX10_readFact_2 5 rfl rfl)
theorem dX10_readFact_53 : decode cX10_readFact 53 = .ok (.invokevirtual 167, 3) := dk_182 0 167 (dk_at dksX10_readFact_2 7 rfl rfl)
theorem dX10_readFact_56 : decode cX10_readFact 56 = .ok (.ifCond .eq 14, 3) := dk_153 0 14 (dk_at dksX10_readFact_2 10 rfl rfl)
theorem dX10_readFact_59 : decode cX10_readFact 59 = .ok (.aload_n 0, 1) := dk_42 (dk_at dksX10_readFact_2 13 rfl rfl)
theorem dX10_readFact_60 : decode cX10_readFact 60 = .ok (.iconst 3, 1) := dk_6 (dk_at dksX10_readFact_2 14 rfl rfl)
theorem dX10_readFact_61 : decode cX10_readFact 61 = .ok (.aload_n 0, 1) := dk_42 (dk_at dksX10_readFact_2 15 rfl rfl)
theorem dX10_readFact_62 : decode cX10_readFact 62 = .ok (.invokevirtual 170, 3) := dk_182 0 170 (dk_at dksX10_readFact_2 16 rfl rfl)
theorem dX10_readFact_65 : decode cX10_readFact 65 = .ok (.iconst (-1), 1) := dk_2 (dk_at dksX10_readFact_2 19 rfl rfl)
theorem dX10_readFact_66 : decode cX10_readFact 66 = .ok (.invokevirtual 158, 3) := dk_182 0 158 (dk_at dksX10_readFact_2 20 rfl rfl)
theorem dX10_readFact_69 : decode cX10_readFact 69 = .ok (.ireturn, 1) := dk_172 (dk_at dksX10_readFact_2 23 rfl rfl)
theorem dX10_readFact_70 : decode cX10_readFact 70 = .ok (.aload_n 0, 1) := dk_42 (dk_at dksX10_readFact_3 0 rfl rfl)
theorem dX10_readFact_71 : decode cX10_readFact 71 = .ok (.ldc 173, 2) := dk_18 173 (dk_at dksX10_readFact_3 1 rfl rfl)
theorem dX10_readFact_73 : decode cX10_readFact 73 = .ok (.invokevirtual 167, 3) := dk_182 0 167 (dk_at dksX10_readFact_3 3 rfl rfl)
theorem dX10_readFact_76 : decode cX10_readFact 76 = .ok (.ifCond .eq 19, 3) := dk_153 0 19 (dk_at dksX10_readFact_3 6 rfl rfl)
theorem dX10_readFact_79 : decode cX10_readFact 79 = .ok (.aload_n 0, 1) := dk_42 (dk_at dksX10_readFact_3 9 rfl rfl)
theorem dX10_readFact_80 : decode cX10_readFact 80 = .ok (.invokevirtual 170, 3) := dk_182 0 170 (dk_at dksX10_readFact_3 10 rfl rfl)
theorem dX10_readFact_83 : decode cX10_readFact 83 = .ok (.istore_n 1, 1) := dk_60 (dk_at dksX10_readFact_3 13 rfl rfl)
theorem dX10_readFact_84 : decode cX10_readFact 84 = .ok (.aload_n 0, 1) := dk_42 (dk_at dksX10_readFact_3 14 rfl rfl)
theorem dX10_readFact_85 : decode cX10_readFact 85 = .ok (.iconst 4, 1) := dk_7 (dk_at dksX10_readFact_3 15 rfl rfl)
theorem dX10_readFact_86 : decode cX10_readFact 86 = .ok (.iload_n 1, 1) := dk_27 (dk_at dksX10_readFact_3 16 rfl rfl)
theorem dX10_readFact_87 : decode cX10_readFact 87 = .ok (.aload_n 0, 1) := dk_42 (dk_at dksX10_readFact_3 17 rfl rfl)
theorem dX10_readFact_88 : decode cX10_readFact 88 = .ok (.invokevirtual 162, 3) := dk_182 0 162 (dk_at dksX10_readFact_3 18 rfl rfl)
theorem dX10_readFact_91 : decode cX10_readFact 91 = .ok (.invokevirtual 158, 3) := dk_182 0 158 (dk_at dksX10_readFact_3 21 rfl rfl)
theorem dX10_readFact_94 : decode cX10_readFact 94 = .ok (.ireturn, 1) := dk_172 (dk_at dksX10_readFact_4 0 rfl rfl)
theorem dX10_readFact_95 : decode cX10_readFact 95 = .ok (.aload_n 0, 1) := dk_42 (dk_at dksX10_readFact_4 1 rfl rfl)
theorem dX10_readFact_96 : decode cX10_readFact 96 = .ok (.ldc 175, 2) := dk_18 175 (dk_at dksX10_readFact_4 2 rfl rfl)
theorem dX10_readFact_98 : decode cX10_readFact 98 = .ok (.invokevirtual 167, 3) := dk_182 0 167 (dk_at dksX10_readFact_4 4 rfl rfl)
theorem dX10_readFact_101 : decode cX10_readFact 101 = .ok (.ifCond .eq 22, 3) := dk_153 0 22 (dk_at dksX10_readFact_4 7 rfl rfl)
theorem dX10_readFact_104 : decode cX10_readFact 104 = .ok (.aload_n 0, 1) := dk_42 (dk_at dksX10_readFact_4 10 rfl rfl)
theorem dX10_readFact_105 : decode cX10_readFact 105 = .ok (.iconst 0, 1) := dk_3 (dk_at dksX10_readFact_4 11 rfl rfl)
theorem dX10_readFact_106 : decode cX10_readFact 106 = .ok (.bipush 20, 2) := dk_16 20 (dk_at dksX10_readFact_4 12 rfl rfl)
theorem dX10_readFact_108 : decode cX10_readFact 108 = .ok (.invokevirtual 137, 3) := dk_182 0 137 (dk_at dksX10_readFact_4 14 rfl rfl)
theorem dX10_readFact_111 : decode cX10_readFact 111 = .ok (.istore_n 1, 1) := dk_60 (dk_at dksX10_readFact_4 17 rfl rfl)
theorem dX10_readFact_112 : decode cX10_readFact 112 = .ok (.aload_n 0, 1) := dk_42 (dk_at dksX10_readFact_4 18 rfl rfl)
theorem dX10_readFact_113 : decode cX10_readFact 113 = .ok (.iconst 5, 1) := dk_8 (dk_at dksX10_readFact_4 19 rfl rfl)
theorem dX10_readFact_114 : decode cX10_readFact 114 = .ok (.iload_n 1, 1) := dk_27 (dk_at dksX10_readFact_4 20 rfl rfl)
theorem dX10_readFact_115 : decode cX10_readFact 115 = .ok (.aload_n 0, 1) := dk_42 (dk_at dksX10_readFact_4 21 rfl rfl)
theorem dX10_readFact_116 : decode cX10_readFact 116 = .ok (.invokevirtual 162, 3) := dk_182 0 162 (dk_at dksX10_readFact_5 0 rfl rfl)
theorem dX10_readFact_119 : decode cX10_readFact 119 = .ok (.invokevirtual 158, 3) := dk_182 0 158 (dk_at dksX10_readFact_5 3 rfl rfl)
theorem dX10_readFact_122 : decode cX10_readFact 122 = .ok (.ireturn, 1) := dk_172 (dk_at dksX10_readFact_5 6 rfl rfl)
theorem dX10_readFact_123 : decode cX10_readFact 123 = .ok (.aload_n 0, 1) := dk_42 (dk_at dksX10_readFact_5 7 rfl rfl)
theorem dX10_readFact_124 : decode cX10_readFact 124 = .ok (.ldc 177, 2) := dk_18 177 (dk_at dksX10_readFact_5 8 rfl rfl)
theorem dX10_readFact_126 : decode cX10_readFact 126 = .ok (.invokevirtual 167, 3) := dk_182 0 167 (dk_at dksX10_readFact_5 10 rfl rfl)
theorem dX10_readFact_129 : decode cX10_readFact 129 = .ok (.ifCond .eq 12, 3) := dk_153 0 12 (dk_at dksX10_readFact_5 13 rfl rfl)
theorem dX10_readFact_132 : decode cX10_readFact 132 = .ok (.aload_n 0, 1) := dk_42 (dk_at dksX10_readFact_5 16 rfl rfl)
theorem dX10_readFact_133 : decode cX10_readFact 133 = .ok (.bipush 6, 2) := dk_16 6 (dk_at dksX10_readFact_5 17 rfl rfl)
theorem dX10_readFact_135 : decode cX10_readFact 135 = .ok (.iconst 0, 1) := dk_3 (dk_at dksX10_readFact_5 19 rfl rfl)
theorem dX10_readFact_136 : decode cX10_readFact 136 = .ok (.iconst (-1), 1) := dk_2 (dk_at dksX10_readFact_5 20 rfl rfl)
theorem dX10_readFact_137 : decode cX10_readFact 137 = .ok (.invokevirtual 158, 3) := dk_182 0 158 (dk_at dksX10_readFact_5 21 rfl rfl)
theorem dX10_readFact_140 : decode cX10_readFact 140 = .ok (.ireturn, 1) := dk_172 (dk_at dksX10_readFact_6 0 rfl rfl)
theorem dX10_readFact_141 : decode cX10_readFact 141 = .ok (.aload_n 0, 1) := dk_42 (dk_at dksX10_readFact_6 1 rfl rfl)
theorem dX10_readFact_142 : decode cX10_readFact 142 = .ok (.ldc 179, 2) := dk_18 179 (dk_at dksX10_readFact_6 2 rfl rfl)
theorem dX10_readFact_144 : decode cX10_readFact 144 = .ok (.invokevirtual 167, 3) := dk_182 0 167 (dk_at dksX10_readFact_6 4 rfl rfl)
theorem dX10_readFact_147 : decode cX10_readFact 147 = .ok (.ifCond .eq 12, 3) := dk_153 0 12 (dk_at dksX10_readFact_6 7 rfl rfl)
theorem dX10_readFact_150 : decode cX10_readFact 150 = .ok (.aload_n 0, 1) := dk_42 (dk_at dksX10_readFact_6 10 rfl rfl)
theorem dX10_readFact_151 : decode cX10_readFact 151 = .ok (.bipush 7, 2) := dk_16 7 (dk_at dksX10_readFact_6 11 rfl rfl)
theorem dX10_readFact_153 : decode cX10_readFact 153 = .ok (.iconst 0, 1) := dk_3 (dk_at dksX10_readFact_6 13 rfl rfl)
theorem dX10_readFact_154 : decode cX10_readFact 154 = .ok (.iconst (-1), 1) := dk_2 (dk_at dksX10_readFact_6 14 rfl rfl)
theorem dX10_readFact_155 : decode cX10_readFact 155 = .ok (.invokevirtual 158, 3) := dk_182 0 158 (dk_at dksX10_readFact_6 15 rfl rfl)
theorem dX10_readFact_158 : decode cX10_readFact 158 = .ok (.ireturn, 1) := dk_172 (dk_at dksX10_readFact_6 18 rfl rfl)
theorem dX10_readFact_159 : decode cX10_readFact 159 = .ok (.aload_n 0, 1) := dk_42 (dk_at dksX10_readFact_6 19 rfl rfl)
theorem dX10_readFact_160 : decode cX10_readFact 160 = .ok (.ldc 181, 2) := dk_18 181 (dk_at dksX10_readFact_6 20 rfl rfl)
theorem dX10_readFact_162 : decode cX10_readFact 162 = .ok (.invokevirtual 167, 3) := dk_182 0 167 (dk_at dksX10_readFact_7 0 rfl rfl)
theorem dX10_readFact_165 : decode cX10_readFact 165 = .ok (.ifCond .eq 18, 3) := dk_153 0 18 (dk_at dksX10_readFact_7 3 rfl rfl)
theorem dX10_readFact_168 : decode cX10_readFact 168 = .ok (.aload_n 0, 1) := dk_42 (dk_at dksX10_readFact_7 6 rfl rfl)
theorem dX10_readFact_169 : decode cX10_readFact 169 = .ok (.bipush 8, 2) := dk_16 8 (dk_at dksX10_readFact_7 7 rfl rfl)
theorem dX10_readFact_171 : decode cX10_readFact 171 = .ok (.aload_n 0, 1) := dk_42 (dk_at dksX10_readFact_7 9 rfl rfl)
theorem dX10_readFact_172 : decode cX10_readFact 172 = .ok (.iconst 0, 1) := dk_3 (dk_at dksX10_readFact_7 10 rfl rfl)
theorem dX10_readFact_173 : decode cX10_readFact 173 = .ok (.bipush 120, 2) := dk_16 120 (dk_at dksX10_readFact_7 11 rfl rfl)
theorem dX10_readFact_175 : decode cX10_readFact 175 = .ok (.invokevirtual 137, 3) := dk_182 0 137 (dk_at dksX10_readFact_7 13 rfl rfl)
theorem dX10_readFact_178 : decode cX10_readFact 178 = .ok (.iconst (-1), 1) := dk_2 (dk_at dksX10_readFact_7 16 rfl rfl)
theorem dX10_readFact_179 : decode cX10_readFact 179 = .ok (.invokevirtual 158, 3) := dk_182 0 158 (dk_at dksX10_readFact_7 17 rfl rfl)
theorem dX10_readFact_182 : decode cX10_readFact 182 = .ok (.ireturn, 1) := dk_172 (dk_at dksX10_readFact_7 20 rfl rfl)
theorem dX10_readFact_183 : decode cX10_readFact 183 = .ok (.aload_n 0, 1) := dk_42 (dk_at dksX10_readFact_7 21 rfl rfl)
theorem dX10_readFact_184 : decode cX10_readFact 184 = .ok (.iconst 2, 1) := dk_5 (dk_at dksX10_readFact_7 22 rfl rfl)
theorem dX10_readFact_185 : decode cX10_readFact 185 = .ok (.invokevirtual 129, 3) := dk_182 0 129 (dk_at dksX10_readFact_8 0 rfl rfl)
theorem dX10_readFact_188 : decode cX10_readFact 188 = .ok (.iconst 0, 1) := dk_3 (dk_at dksX10_readFact_8 3 rfl rfl)
theorem dX10_readFact_189 : decode cX10_readFact 189 = .ok (.ireturn, 1) := dk_172 (dk_at dksX10_readFact_8 4 rfl rfl)
abbrev cX10_opens : ByteArray := prog_33_method_21_code
def yX10_opens : MethodName := ⟨RX10, "opens", "()V"⟩
def dkwX10_opens_1 : List UInt8 := [42, 180, 0, 103, 154, 0, 7, 42, 182, 0, 123, 177]
abbrev dktX10_opens_1 : List UInt8 := dkwX10_opens_1 ++ []
def dkwX10_opens_0 : List UInt8 := [42, 180, 0, 141, 16, 8, 160, 0, 8, 42, 8, 182, 0, 129, 42, 89, 180, 0, 141, 4, 96, 181, 0, 141]
abbrev dktX10_opens_0 : List UInt8 := dkwX10_opens_0 ++ dktX10_opens_1
theorem dksX10_opens_0 : cX10_opens.data.toList.drop 0 = dktX10_opens_0 := by decide +kernel
theorem dksX10_opens_1 : cX10_opens.data.toList.drop 24 = dktX10_opens_1 := dk_seg dksX10_opens_0 24 rfl rfl
theorem dX10_opens_0 : decode cX10_opens 0 = .ok (.aload_n 0, 1) := dk_42 (dk_at dksX10_opens_0 0 rfl rfl)
theorem dX10_opens_1 : decode cX10_opens 1 = .ok (.getfield 141, 3) := dk_180 0 141 (dk_at dksX10_opens_0 1 rfl rfl)
theorem dX10_opens_4 : decode cX10_opens 4 = .ok (.bipush 8, 2) := dk_16 8 (dk_at dksX10_opens_0 4 rfl rfl)
theorem dX10_opens_6 : decode cX10_opens 6 = .ok (.if_icmp .ne 8, 3) := dk_160 0 8 (dk_at dksX10_opens_0 6 rfl rfl)
theorem dX10_opens_9 : decode cX10_opens 9 = .ok (.aload_n 0, 1) := dk_42 (dk_at dksX10_opens_0 9 rfl rfl)
theorem dX10_opens_10 : decode cX10_opens 10 = .ok (.iconst 5, 1) := dk_8 (dk_at dksX10_opens_0 10 rfl rfl)
theorem dX10_opens_11 : decode cX10_opens 11 = .ok (.invokevirtual 129, 3) := dk_182 0 129 (dk_at dksX10_opens_0 11 rfl rfl)
theorem dX10_opens_14 : decode cX10_opens 14 = .ok (.aload_n 0, 1) := dk_42 (dk_at dksX10_opens_0 14 rfl rfl)
theorem dX10_opens_15 : decode cX10_opens 15 = .ok (.dup, 1) := dk_89 (dk_at dksX10_opens_0 15 rfl rfl)
theorem dX10_opens_16 : decode cX10_opens 16 = .ok (.getfield 141, 3) := dk_180 0 141 (dk_at dksX10_opens_0 16 rfl rfl)
theorem dX10_opens_19 : decode cX10_opens 19 = .ok (.iconst 1, 1) := dk_4 (dk_at dksX10_opens_0 19 rfl rfl)
theorem dX10_opens_20 : decode cX10_opens 20 = .ok (.iadd, 1) := dk_96 (dk_at dksX10_opens_0 20 rfl rfl)
theorem dX10_opens_21 : decode cX10_opens 21 = .ok (.putfield 141, 3) := dk_181 0 141 (dk_at dksX10_opens_0 21 rfl rfl)
theorem dX10_opens_24 : decode cX10_opens 24 = .ok (.aload_n 0, 1) := dk_42 (dk_at dksX10_opens_1 0 rfl rfl)
theorem dX10_opens_25 : decode cX10_opens 25 = .ok (.getfield 103, 3) := dk_180 0 103 (dk_at dksX10_opens_1 1 rfl rfl)
theorem dX10_opens_28 : decode cX10_opens 28 = .ok (.ifCond .ne 7, 3) := dk_154 0 7 (dk_at dksX10_opens_1 4 rfl rfl)
theorem dX10_opens_31 : decode cX10_opens 31 = .ok (.aload_n 0, 1) := dk_42 (dk_at dksX10_opens_1 7 rfl rfl)
theorem dX10_opens_32 : decode cX10_opens 32 = .ok (.invokevirtual 123, 3) := dk_182 0 123 (dk_at dksX10_opens_1 8 rfl rfl)
theorem dX10_opens_35 : decode cX10_opens 35 = .ok (.return_, 1) := dk_177 (dk_at dksX10_opens_1 11 rfl rfl)
abbrev cX10_mark : ByteArray := prog_33_method_18_code
def yX10_mark : MethodName := ⟨RX10, "mark", "(III)I"⟩
def dkwX10_mark_3 : List UInt8 := [2, 79, 42, 180, 0, 13, 16, 7, 92, 46, 4, 96, 79, 42, 180, 0, 13, 16, 7, 46, 4, 100, 172]
abbrev dktX10_mark_3 : List UInt8 := dkwX10_mark_3 ++ []
def dkwX10_mark_2 : List UInt8 := [21, 4, 4, 96, 28, 79, 42, 180, 0, 13, 21, 4, 5, 96, 29, 79, 42, 180, 0, 13, 21, 4, 6, 96]
abbrev dktX10_mark_2 : List UInt8 := dkwX10_mark_2 ++ dktX10_mark_3
def dkwX10_mark_1 : List UInt8 := [7, 42, 180, 0, 13, 16, 7, 46, 104, 96, 54, 4, 42, 180, 0, 13, 21, 4, 27, 79, 42, 180, 0, 13]
abbrev dktX10_mark_1 : List UInt8 := dkwX10_mark_1 ++ dktX10_mark_2
def dkwX10_mark_0 : List UInt8 := [42, 180, 0, 103, 154, 0, 16, 42, 180, 0, 13, 16, 7, 46, 17, 1, 194, 160, 0, 5, 3, 172, 16, 66]
abbrev dktX10_mark_0 : List UInt8 := dkwX10_mark_0 ++ dktX10_mark_1
theorem dksX10_mark_0 : cX10_mark.data.toList.drop 0 = dktX10_mark_0 := by decide +kernel
theorem dksX10_mark_1 : cX10_mark.data.toList.drop 24 = dktX10_mark_1 := dk_seg dksX10_mark_0 24 rfl rfl
theorem dksX10_mark_2 : cX10_mark.data.toList.drop 48 = dktX10_mark_2 := dk_seg dksX10_mark_1 24 rfl rfl
theorem dksX10_mark_3 : cX10_mark.data.toList.drop 72 = dktX10_mark_3 := dk_seg dksX10_mark_2 24 rfl rfl
theorem dX10_mark_0 : decode cX10_mark 0 = .ok (.aload_n 0, 1) := dk_42 (dk_at dksX10_mark_0 0 rfl rfl)
theorem dX10_mark_1 : decode cX10_mark 1 = .ok (.getfield 103, 3) := dk_180 0 103 (dk_at dksX10_mark_0 1 rfl rfl)
theorem dX10_mark_4 : decode cX10_mark 4 = .ok (.ifCond .ne 16, 3) := dk_154 0 16 (dk_at dksX10_mark_0 4 rfl rfl)
theorem dX10_mark_7 : decode cX10_mark 7 = .ok (.aload_n 0, 1) := dk_42 (dk_at dksX10_mark_0 7 rfl rfl)
theorem dX10_mark_8 : decode cX10_mark 8 = .ok (.getfield 13, 3) := dk_180 0 13 (dk_at dksX10_mark_0 8 rfl rfl)
theorem dX10_mark_11 : decode cX10_mark 11 = .ok (.bipush 7, 2) := dk_16 7 (dk_at dksX10_mark_0 11 rfl rfl)
theorem dX10_mark_13 : decode cX10_mark 13 = .ok (.iaload, 1) := dk_46 (dk_at dksX10_mark_0 13 rfl rfl)
theorem dX10_mark_14 : decode cX10_mark 14 = .ok (.sipush 450, 3) := dk_17 1 194 (dk_at dksX10_mark_0 14 rfl rfl)
theorem dX10_mark_17 : decode cX10_mark 17 = .ok (.if_icmp .ne 5, 3) := dk_160 0 5 (dk_at dksX10_mark_0 17 rfl rfl)
theorem dX10_mark_20 : decode cX10_mark 20 = .ok (.iconst 0, 1) := dk_3 (dk_at dksX10_mark_0 20 rfl rfl)
theorem dX10_mark_21 : decode cX10_mark 21 = .ok (.ireturn, 1) := dk_172 (dk_at dksX10_mark_0 21 rfl rfl)
theorem dX10_mark_22 : decode cX10_mark 22 = .ok (.bipush 66, 2) := dk_16 66 (dk_at dksX10_mark_0 22 rfl rfl)
theorem dX10_mark_24 : decode cX10_mark 24 = .ok (.iconst 4, 1) := dk_7 (dk_at dksX10_mark_1 0 rfl rfl)
theorem dX10_mark_25 : decode cX10_mark 25 = .ok (.aload_n 0, 1) := dk_42 (dk_at dksX10_mark_1 1 rfl rfl)
theorem dX10_mark_26 : decode cX10_mark 26 = .ok (.getfield 13, 3) := dk_180 0 13 (dk_at dksX10_mark_1 2 rfl rfl)
theorem dX10_mark_29 : decode cX10_mark 29 = .ok (.bipush 7, 2) := dk_16 7 (dk_at dksX10_mark_1 5 rfl rfl)
theorem dX10_mark_31 : decode cX10_mark 31 = .ok (.iaload, 1) := dk_46 (dk_at dksX10_mark_1 7 rfl rfl)
theorem dX10_mark_32 : decode cX10_mark 32 = .ok (.imul, 1) := dk_104 (dk_at dksX10_mark_1 8 rfl rfl)
theorem dX10_mark_33 : decode cX10_mark 33 = .ok (.iadd, 1) := dk_96 (dk_at dksX10_mark_1 9 rfl rfl)
theorem dX10_mark_34 : decode cX10_mark 34 = .ok (.istore 4, 2) := dk_54 4 (dk_at dksX10_mark_1 10 rfl rfl)
theorem dX10_mark_36 : decode cX10_mark 36 = .ok (.aload_n 0, 1) := dk_42 (dk_at dksX10_mark_1 12 rfl rfl)
theorem dX10_mark_37 : decode cX10_mark 37 = .ok (.getfield 13, 3) := dk_180 0 13 (dk_at dksX10_mark_1 13 rfl rfl)
theorem dX10_mark_40 : decode cX10_mark 40 = .ok (.iload 4, 2) := dk_21 4 (dk_at dksX10_mark_1 16 rfl rfl)
theorem dX10_mark_42 : decode cX10_mark 42 = .ok (.iload_n 1, 1) := dk_27 (dk_at dksX10_mark_1 18 rfl rfl)
theorem dX10_mark_43 : decode cX10_mark 43 = .ok (.iastore, 1) := dk_79 (dk_at dksX10_mark_1 19 rfl rfl)
theorem dX10_mark_44 : decode cX10_mark 44 = .ok (.aload_n 0, 1) := dk_42 (dk_at dksX10_mark_1 20 rfl rfl)
theorem dX10_mark_45 : decode cX10_mark 45 = .ok (.getfield 13, 3) := dk_180 0 13 (dk_at dksX10_mark_1 21 rfl rfl)
theorem dX10_mark_48 : decode cX10_mark 48 = .ok (.iload 4, 2) := dk_21 4 (dk_at dksX10_mark_2 0 rfl rfl)
theorem dX10_mark_50 : decode cX10_mark 50 = .ok (.iconst 1, 1) := dk_4 (dk_at dksX10_mark_2 2 rfl rfl)
theorem dX10_mark_51 : decode cX10_mark 51 = .ok (.iadd, 1) := dk_96 (dk_at dksX10_mark_2 3 rfl rfl)
theorem dX10_mark_52 : decode cX10_mark 52 = .ok (.iload_n 2, 1) := dk_28 (dk_at dksX10_mark_2 4 rfl rfl)
theorem dX10_mark_53 : decode cX10_mark 53 = .ok (.iastore, 1) := dk_79 (dk_at dksX10_mark_2 5 rfl rfl)
theorem dX10_mark_54 : decode cX10_mark 54 = .ok (.aload_n 0, 1) := dk_42 (dk_at dksX10_mark_2 6 rfl rfl)
theorem dX10_mark_55 : decode cX10_mark 55 = .ok (.getfield 13, 3) := dk_180 0 13 (dk_at dksX10_mark_2 7 rfl rfl)
theorem dX10_mark_58 : decode cX10_mark 58 = .ok (.iload 4, 2) := dk_21 4 (dk_at dksX10_mark_2 10 rfl rfl)
theorem dX10_mark_60 : decode cX10_mark 60 = .ok (.iconst 2, 1) := dk_5 (dk_at dksX10_mark_2 12 rfl rfl)
theorem dX10_mark_61 : decode cX10_mark 61 = .ok (.iadd, 1) := dk_96 (dk_at dksX10_mark_2 13 rfl rfl)
theorem dX10_mark_62 : decode cX10_mark 62 = .ok (.iload_n 3, 1) := dk_29 (dk_at dksX10_mark_2 14 rfl rfl)
theorem dX10_mark_63 : decode cX10_mark 63 = .ok (.iastore, 1) := dk_79 (dk_at dksX10_mark_2 15 rfl rfl)
theorem dX10_mark_64 : decode cX10_mark 64 = .ok (.aload_n 0, 1) := dk_42 (dk_at dksX10_mark_2 16 rfl rfl)
theorem dX10_mark_65 : decode cX10_mark 65 = .ok (.getfield 13, 3) := dk_180 0 13 (dk_at dksX10_mark_2 17 rfl rfl)
theorem dX10_mark_68 : decode cX10_mark 68 = .ok (.iload 4, 2) := dk_21 4 (dk_at dksX10_mark_2 20 rfl rfl)
theorem dX10_mark_70 : decode cX10_mark 70 = .ok (.iconst 3, 1) := dk_6 (dk_at dksX10_mark_2 22 rfl rfl)
theorem dX10_mark_71 : decode cX10_mark 71 = .ok (.iadd, 1) := dk_96 (dk_at dksX10_mark_2 23 rfl rfl)
theorem dX10_mark_72 : decode cX10_mark 72 = .ok (.iconst (-1), 1) := dk_2 (dk_at dksX10_mark_3 0 rfl rfl)
theorem dX10_mark_73 : decode cX10_mark 73 = .ok (.iastore, 1) := dk_79 (dk_at dksX10_mark_3 1 rfl rfl)
theorem dX10_mark_74 : decode cX10_mark 74 = .ok (.aload_n 0, 1) := dk_42 (dk_at dksX10_mark_3 2 rfl rfl)
theorem dX10_mark_75 : decode cX10_mark 75 = .ok (.getfield 13, 3) := dk_180 0 13 (dk_at dksX10_mark_3 3 rfl rfl)
theorem dX10_mark_78 : decode cX10_mark 78 = .ok (.bipush 7, 2) := dk_16 7 (dk_at dksX10_mark_3 6 rfl rfl)
theorem dX10_mark_80 : decode cX10_mark 80 = .ok (.dup2, 1) := dk_92 (dk_at dksX10_mark_3 8 rfl rfl)
theorem dX10_mark_81 : decode cX10_mark 81 = .ok (.iaload, 1) := dk_46 (dk_at dksX10_mark_3 9 rfl rfl)
theorem dX10_mark_82 : decode cX10_mark 82 = .ok (.iconst 1, 1) := dk_4 (dk_at dksX10_mark_3 10 rfl rfl)
theorem dX10_mark_83 : decode cX10_mark 83 = .ok (.iadd, 1) := dk_96 (dk_at dksX10_mark_3 11 rfl rfl)
theorem dX10_mark_84 : decode cX10_mark 84 = .ok (.iastore, 1) := dk_79 (dk_at dksX10_mark_3 12 rfl rfl)
theorem dX10_mark_85 : decode cX10_mark 85 = .ok (.aload_n 0, 1) := dk_42 (dk_at dksX10_mark_3 13 rfl rfl)
theorem dX10_mark_86 : decode cX10_mark 86 = .ok (.getfield 13, 3) := dk_180 0 13 (dk_at dksX10_mark_3 14 rfl rfl)
theorem dX10_mark_89 : decode cX10_mark 89 = .ok (.bipush 7, 2) := dk_16 7 (dk_at dksX10_mark_3 17 rfl rfl)
theorem dX10_mark_91 : decode cX10_mark 91 = .ok (.iaload, 1) := dk_46 (dk_at dksX10_mark_3 19 rfl rfl)
theorem dX10_mark_92 : decode cX10_mark 92 = .ok (.iconst 1, 1) := dk_4 (dk_at dksX10_mark_3 20 rfl rfl)
theorem dX10_mark_93 : decode cX10_mark 93 = .ok (.isub, 1) := dk_100 (dk_at dksX10_mark_3 21 rfl rfl)
theorem dX10_mark_94 : decode cX10_mark 94 = .ok (.ireturn, 1) := dk_172 (dk_at dksX10_mark_3 22 rfl rfl)
abbrev cX10_isSign : ByteArray := prog_33_method_15_code
def yX10_isSign : MethodName := ⟨RX10, "isSign", "(I)Z"⟩
def dkwX10_isSign_1 : List UInt8 := [167, 0, 4, 3, 172]
abbrev dktX10_isSign_1 : List UInt8 := dkwX10_isSign_1 ++ []
def dkwX10_isSign_0 : List UInt8 := [42, 180, 0, 103, 154, 0, 23, 42, 180, 0, 86, 6, 160, 0, 15, 42, 180, 0, 100, 27, 160, 0, 7, 4]
abbrev dktX10_isSign_0 : List UInt8 := dkwX10_isSign_0 ++ dktX10_isSign_1
theorem dksX10_isSign_0 : cX10_isSign.data.toList.drop 0 = dktX10_isSign_0 := by decide +kernel
theorem dksX10_isSign_1 : cX10_isSign.data.toList.drop 24 = dktX10_isSign_1 := dk_seg dksX10_isSign_0 24 rfl rfl
theorem dX10_isSign_0 : decode cX10_isSign 0 = .ok (.aload_n 0, 1) := dk_42 (dk_at dksX10_isSign_0 0 rfl rfl)
theorem dX10_isSign_1 : decode cX10_isSign 1 = .ok (.getfield 103, 3) := dk_180 0 103 (dk_at dksX10_isSign_0 1 rfl rfl)
theorem dX10_isSign_4 : decode cX10_isSign 4 = .ok (.ifCond .ne 23, 3) := dk_154 0 23 (dk_at dksX10_isSign_0 4 rfl rfl)
theorem dX10_isSign_7 : decode cX10_isSign 7 = .ok (.aload_n 0, 1) := dk_42 (dk_at dksX10_isSign_0 7 rfl rfl)
theorem dX10_isSign_8 : decode cX10_isSign 8 = .ok (.getfield 86, 3) := dk_180 0 86 (dk_at dksX10_isSign_0 8 rfl rfl)
theorem dX10_isSign_11 : decode cX10_isSign 11 = .ok (.iconst 3, 1) := dk_6 (dk_at dksX10_isSign_0 11 rfl rfl)
theorem dX10_isSign_12 : decode cX10_isSign 12 = .ok (.if_icmp .ne 15, 3) := dk_160 0 15 (dk_at dksX10_isSign_0 12 rfl rfl)
theorem dX10_isSign_15 : decode cX10_isSign 15 = .ok (.aload_n 0, 1) := dk_42 (dk_at dksX10_isSign_0 15 rfl rfl)
theorem dX10_isSign_16 : decode cX10_isSign 16 = .ok (.getfield 100, 3) := dk_180 0 100 (dk_at dksX10_isSign_0 16 rfl rfl)
theorem dX10_isSign_19 : decode cX10_isSign 19 = .ok (.iload_n 1, 1) := dk_27 (dk_at dksX10_isSign_0 19 rfl rfl)
theorem dX10_isSign_20 : decode cX10_isSign 20 = .ok (.if_icmp .ne 7, 3) := dk_160 0 7 (dk_at dksX10_isSign_0 20 rfl rfl)
theorem dX10_isSign_23 : decode cX10_isSign 23 = .ok (.iconst 1, 1) := dk_4 (dk_at dksX10_isSign_0 23 rfl rfl)
theorem dX10_isSign_24 : decode cX10_isSign 24 = .ok (.goto 4, 3) := dk_167 0 4 (dk_at dksX10_isSign_1 0 rfl rfl)
theorem dX10_isSign_27 : decode cX10_isSign 27 = .ok (.iconst 0, 1) := dk_3 (dk_at dksX10_isSign_1 3 rfl rfl)
theorem dX10_isSign_28 : decode cX10_isSign 28 = .ok (.ireturn, 1) := dk_172 (dk_at dksX10_isSign_1 4 rfl rfl)
abbrev cX10_readWithin : ByteArray := prog_33_method_22_code
def yX10_readWithin : MethodName := ⟨RX10, "readWithin", "()I"⟩
def dkwX10_readWithin_1 : List UInt8 := [16, 41, 182, 0, 150, 42, 89, 180, 0, 141, 4, 100, 181, 0, 141, 27, 172]
abbrev dktX10_readWithin_1 : List UInt8 := dkwX10_readWithin_1 ++ []
def dkwX10_readWithin_0 : List UInt8 := [42, 16, 40, 182, 0, 126, 154, 0, 8, 42, 5, 182, 0, 129, 42, 182, 0, 144, 42, 182, 0, 147, 60, 42]
abbrev dktX10_readWithin_0 : List UInt8 := dkwX10_readWithin_0 ++ dktX10_readWithin_1
theorem dksX10_readWithin_0 : cX10_readWithin.data.toList.drop 0 = dktX10_readWithin_0 := by decide +kernel
theorem dksX10_readWithin_1 : cX10_readWithin.data.toList.drop 24 = dktX10_readWithin_1 := dk_seg dksX10_readWithin_0 24 rfl rfl
theorem dX10_readWithin_0 : decode cX10_readWithin 0 = .ok (.aload_n 0, 1) := dk_42 (dk_at dksX10_readWithin_0 0 rfl rfl)
theorem dX10_readWithin_1 : decode cX10_readWithin 1 = .ok (.bipush 40, 2) := dk_16 40 (dk_at dksX10_readWithin_0 1 rfl rfl)
theorem dX10_readWithin_3 : decode cX10_readWithin 3 = .ok (.invokevirtual 126, 3) := dk_182 0 126 (dk_at dksX10_readWithin_0 3 rfl rfl)
theorem dX10_readWithin_6 : decode cX10_readWithin 6 = .ok (.ifCond .ne 8, 3) := dk_154 0 8 (dk_at dksX10_readWithin_0 6 rfl rfl)
theorem dX10_readWithin_9 : decode cX10_readWithin 9 = .ok (.aload_n 0, 1) := dk_42 (dk_at dksX10_readWithin_0 9 rfl rfl)
theorem dX10_readWithin_10 : decode cX10_readWithin 10 = .ok (.iconst 2, 1) := dk_5 (dk_at dksX10_readWithin_0 10 rfl rfl)
theorem dX10_readWithin_11 : decode cX10_readWithin 11 = .ok (.invokevirtual 129, 3) := dk_182 0 129 (dk_at dksX10_readWithin_0 11 rfl rfl)
theorem dX10_readWithin_14 : decode cX10_readWithin 14 = .ok (.aload_n 0, 1) := dk_42 (dk_at dksX10_readWithin_0 14 rfl rfl)
theorem dX10_readWithin_15 : decode cX10_readWithin 15 = .ok (.invokevirtual 144, 3) := dk_182 0 144 (dk_at dksX10_readWithin_0 15 rfl rfl)
theorem dX10_readWithin_18 : decode cX10_readWithin 18 = .ok (.aload_n 0, 1) := dk_42 (dk_at dksX10_readWithin_0 18 rfl rfl)
theorem dX10_readWithin_19 : decode cX10_readWithin 19 = .ok (.invokevirtual 147, 3) := dk_182 0 147 (dk_at dksX10_readWithin_0 19 rfl rfl)
theorem dX10_readWithin_22 : decode cX10_readWithin 22 = .ok (.istore_n 1, 1) := dk_60 (dk_at dksX10_readWithin_0 22 rfl rfl)
theorem dX10_readWithin_23 : decode cX10_readWithin 23 = .ok (.aload_n 0, 1) := dk_42 (dk_at dksX10_readWithin_0 23 rfl rfl)
theorem dX10_readWithin_24 : decode cX10_readWithin 24 = .ok (.bipush 41, 2) := dk_16 41 (dk_at dksX10_readWithin_1 0 rfl rfl)
theorem dX10_readWithin_26 : decode cX10_readWithin 26 = .ok (.invokevirtual 150, 3) := dk_182 0 150 (dk_at dksX10_readWithin_1 2 rfl rfl)
theorem dX10_readWithin_29 : decode cX10_readWithin 29 = .ok (.aload_n 0, 1) := dk_42 (dk_at dksX10_readWithin_1 5 rfl rfl)
theorem dX10_readWithin_30 : decode cX10_readWithin 30 = .ok (.dup, 1) := dk_89 (dk_at dksX10_readWithin_1 6 rfl rfl)
theorem dX10_readWithin_31 : decode cX10_readWithin 31 = .ok (.getfield 141, 3) := dk_180 0 141 (dk_at dksX10_readWithin_1 7 rfl rfl)
theorem dX10_readWithin_34 : decode cX10_readWithin 34 = .ok (.iconst 1, 1) := dk_4 (dk_at dksX10_readWithin_1 10 rfl rfl)
theorem dX10_readWithin_35 : decode cX10_readWithin 35 = .ok (.isub, 1) := dk_100 (dk_at dksX10_readWithin_1 11 rfl rfl)
theorem dX10_readWithin_36 : decode cX10_readWithin 36 = .ok (.putfield 141, 3) := dk_181 0 141 (dk_at dksX10_readWithin_1 12 rfl rfl)
theorem dX10_readWithin_39 : decode cX10_readWithin 39 = .ok (.iload_n 1, 1) := dk_27 (dk_at dksX10_readWithin_1 15 rfl rfl)
theorem dX10_readWithin_40 : decode cX10_readWithin 40 = .ok (.ireturn, 1) := dk_172 (dk_at dksX10_readWithin_1 16 rfl rfl)
abbrev cX10_sign : ByteArray := prog_33_method_16_code
def yX10_sign : MethodName := ⟨RX10, "sign", "(I)V"⟩
def dkwX10_sign_1 : List UInt8 := [177]
abbrev dktX10_sign_1 : List UInt8 := dkwX10_sign_1 ++ []
def dkwX10_sign_0 : List UInt8 := [42, 27, 182, 0, 126, 154, 0, 8, 42, 5, 182, 0, 129, 42, 180, 0, 103, 154, 0, 7, 42, 182, 0, 123]
abbrev dktX10_sign_0 : List UInt8 := dkwX10_sign_0 ++ dktX10_sign_1
theorem dksX10_sign_0 : cX10_sign.data.toList.drop 0 = dktX10_sign_0 := by decide +kernel
theorem dksX10_sign_1 : cX10_sign.data.toList.drop 24 = dktX10_sign_1 := dk_seg dksX10_sign_0 24 rfl rfl
theorem dX10_sign_0 : decode cX10_sign 0 = .ok (.aload_n 0, 1) := dk_42 (dk_at dksX10_sign_0 0 rfl rfl)
theorem dX10_sign_1 : decode cX10_sign 1 = .ok (.iload_n 1, 1) := dk_27 (dk_at dksX10_sign_0 1 rfl rfl)
theorem dX10_sign_2 : decode cX10_sign 2 = .ok (.invokevirtual 126, 3) := dk_182 0 126 (dk_at dksX10_sign_0 2 rfl rfl)
theorem dX10_sign_5 : decode cX10_sign 5 = .ok (.ifCond .ne 8, 3) := dk_154 0 8 (dk_at dksX10_sign_0 5 rfl rfl)
theorem dX10_sign_8 : decode cX10_sign 8 = .ok (.aload_n 0, 1) := dk_42 (dk_at dksX10_sign_0 8 rfl rfl)
theorem dX10_sign_9 : decode cX10_sign 9 = .ok (.iconst 2, 1) := dk_5 (dk_at dksX10_sign_0 9 rfl rfl)
theorem dX10_sign_10 : decode cX10_sign 10 = .ok (.invokevirtual 129, 3) := dk_182 0 129 (dk_at dksX10_sign_0 10 rfl rfl)
theorem dX10_sign_13 : decode cX10_sign 13 = .ok (.aload_n 0, 1) := dk_42 (dk_at dksX10_sign_0 13 rfl rfl)
theorem dX10_sign_14 : decode cX10_sign 14 = .ok (.getfield 103, 3) := dk_180 0 103 (dk_at dksX10_sign_0 14 rfl rfl)
theorem dX10_sign_17 : decode cX10_sign 17 = .ok (.ifCond .ne 7, 3) := dk_154 0 7 (dk_at dksX10_sign_0 17 rfl rfl)
theorem dX10_sign_20 : decode cX10_sign 20 = .ok (.aload_n 0, 1) := dk_42 (dk_at dksX10_sign_0 20 rfl rfl)
theorem dX10_sign_21 : decode cX10_sign 21 = .ok (.invokevirtual 123, 3) := dk_182 0 123 (dk_at dksX10_sign_0 21 rfl rfl)
theorem dX10_sign_24 : decode cX10_sign 24 = .ok (.return_, 1) := dk_177 (dk_at dksX10_sign_1 0 rfl rfl)
abbrev cX10_beside : ByteArray := prog_33_method_19_code
def yX10_beside : MethodName := ⟨RX10, "beside", "(II)V"⟩
def dkwX10_beside_0 : List UInt8 := [42, 180, 0, 103, 154, 0, 17, 42, 180, 0, 13, 16, 66, 7, 27, 104, 96, 6, 96, 28, 79, 177]
abbrev dktX10_beside_0 : List UInt8 := dkwX10_beside_0 ++ []
theorem dksX10_beside_0 : cX10_beside.data.toList.drop 0 = dktX10_beside_0 := by decide +kernel
theorem dX10_beside_0 : decode cX10_beside 0 = .ok (.aload_n 0, 1) := dk_42 (dk_at dksX10_beside_0 0 rfl rfl)
theorem dX10_beside_1 : decode cX10_beside 1 = .ok (.getfield 103, 3) := dk_180 0 103 (dk_at dksX10_beside_0 1 rfl rfl)
theorem dX10_beside_4 : decode cX10_beside 4 = .ok (.ifCond .ne 17, 3) := dk_154 0 17 (dk_at dksX10_beside_0 4 rfl rfl)
theorem dX10_beside_7 : decode cX10_beside 7 = .ok (.aload_n 0, 1) := dk_42 (dk_at dksX10_beside_0 7 rfl rfl)
theorem dX10_beside_8 : decode cX10_beside 8 = .ok (.getfield 13, 3) := dk_180 0 13 (dk_at dksX10_beside_0 8 rfl rfl)
theorem dX10_beside_11 : decode cX10_beside 11 = .ok (.bipush 66, 2) := dk_16 66 (dk_at dksX10_beside_0 11 rfl rfl)
theorem dX10_beside_13 : decode cX10_beside 13 = .ok (.iconst 4, 1) := dk_7 (dk_at dksX10_beside_0 13 rfl rfl)
theorem dX10_beside_14 : decode cX10_beside 14 = .ok (.iload_n 1, 1) := dk_27 (dk_at dksX10_beside_0 14 rfl rfl)
theorem dX10_beside_15 : decode cX10_beside 15 = .ok (.imul, 1) := dk_104 (dk_at dksX10_beside_0 15 rfl rfl)
theorem dX10_beside_16 : decode cX10_beside 16 = .ok (.iadd, 1) := dk_96 (dk_at dksX10_beside_0 16 rfl rfl)
theorem dX10_beside_17 : decode cX10_beside 17 = .ok (.iconst 3, 1) := dk_6 (dk_at dksX10_beside_0 17 rfl rfl)
theorem dX10_beside_18 : decode cX10_beside 18 = .ok (.iadd, 1) := dk_96 (dk_at dksX10_beside_0 18 rfl rfl)
theorem dX10_beside_19 : decode cX10_beside 19 = .ok (.iload_n 2, 1) := dk_28 (dk_at dksX10_beside_0 19 rfl rfl)
theorem dX10_beside_20 : decode cX10_beside 20 = .ok (.iastore, 1) := dk_79 (dk_at dksX10_beside_0 20 rfl rfl)
theorem dX10_beside_21 : decode cX10_beside 21 = .ok (.return_, 1) := dk_177 (dk_at dksX10_beside_0 21 rfl rfl)
abbrev cX10_copies : ByteArray := prog_33_method_5_code
def yX10_copies : MethodName := ⟨RX10, "copies", "([I[I)V"⟩
def dkwX10_copies_0 : List UInt8 := [3, 61, 28, 17, 7, 76, 162, 0, 15, 43, 28, 42, 28, 46, 79, 132, 2, 1, 167, 255, 240, 177]
abbrev dktX10_copies_0 : List UInt8 := dkwX10_copies_0 ++ []
theorem dksX10_copies_0 : cX10_copies.data.toList.drop 0 = dktX10_copies_0 := by decide +kernel
theorem dX10_copies_0 : decode cX10_copies 0 = .ok (.iconst 0, 1) := dk_3 (dk_at dksX10_copies_0 0 rfl rfl)
theorem dX10_copies_1 : decode cX10_copies 1 = .ok (.istore_n 2, 1) := dk_61 (dk_at dksX10_copies_0 1 rfl rfl)
theorem dX10_copies_2 : decode cX10_copies 2 = .ok (.iload_n 2, 1) := dk_28 (dk_at dksX10_copies_0 2 rfl rfl)
theorem dX10_copies_3 : decode cX10_copies 3 = .ok (.sipush 1868, 3) := dk_17 7 76 (dk_at dksX10_copies_0 3 rfl rfl)
theorem dX10_copies_6 : decode cX10_copies 6 = .ok (.if_icmp .ge 15, 3) := dk_162 0 15 (dk_at dksX10_copies_0 6 rfl rfl)
theorem dX10_copies_9 : decode cX10_copies 9 = .ok (.aload_n 1, 1) := dk_43 (dk_at dksX10_copies_0 9 rfl rfl)
theorem dX10_copies_10 : decode cX10_copies 10 = .ok (.iload_n 2, 1) := dk_28 (dk_at dksX10_copies_0 10 rfl rfl)
theorem dX10_copies_11 : decode cX10_copies 11 = .ok (.aload_n 0, 1) := dk_42 (dk_at dksX10_copies_0 11 rfl rfl)
theorem dX10_copies_12 : decode cX10_copies 12 = .ok (.iload_n 2, 1) := dk_28 (dk_at dksX10_copies_0 12 rfl rfl)
theorem dX10_copies_13 : decode cX10_copies 13 = .ok (.iaload, 1) := dk_46 (dk_at dksX10_copies_0 13 rfl rfl)
theorem dX10_copies_14 : decode cX10_copies 14 = .ok (.iastore, 1) := dk_79 (dk_at dksX10_copies_0 14 rfl rfl)
theorem dX10_copies_15 : decode cX10_copies 15 = .ok (.iinc 2 1, 3) := dk_132 2 1 (dk_at dksX10_copies_0 15 rfl rfl)
theorem dX10_copies_18 : decode cX10_copies 18 = .ok (.goto (-16), 3) := dk_167 255 240 (dk_at dksX10_copies_0 18 rfl rfl)
theorem dX10_copies_21 : decode cX10_copies 21 = .ok (.return_, 1) := dk_177 (dk_at dksX10_copies_0 21 rfl rfl)
abbrev cX10_fault : ByteArray := prog_33_method_31_code
def yX10_fault : MethodName := ⟨RX10, "fault", "(I)I"⟩
def dkwX10_fault_1 : List UInt8 := [180, 0, 29, 167, 0, 4, 2, 172]
abbrev dktX10_fault_1 : List UInt8 := dkwX10_fault_1 ++ []
def dkwX10_fault_0 : List UInt8 := [42, 3, 181, 0, 71, 27, 154, 0, 10, 42, 180, 0, 243, 167, 0, 16, 27, 4, 160, 0, 10, 42]
abbrev dktX10_fault_0 : List UInt8 := dkwX10_fault_0 ++ dktX10_fault_1
theorem dksX10_fault_0 : cX10_fault.data.toList.drop 0 = dktX10_fault_0 := by decide +kernel
theorem dksX10_fault_1 : cX10_fault.data.toList.drop 22 = dktX10_fault_1 := dk_seg dksX10_fault_0 22 rfl rfl
theorem dX10_fault_0 : decode cX10_fault 0 = .ok (.aload_n 0, 1) := dk_42 (dk_at dksX10_fault_0 0 rfl rfl)
theorem dX10_fault_1 : decode cX10_fault 1 = .ok (.iconst 0, 1) := dk_3 (dk_at dksX10_fault_0 1 rfl rfl)
theorem dX10_fault_2 : decode cX10_fault 2 = .ok (.putfield 71, 3) := dk_181 0 71 (dk_at dksX10_fault_0 2 rfl rfl)
theorem dX10_fault_5 : decode cX10_fault 5 = .ok (.iload_n 1, 1) := dk_27 (dk_at dksX10_fault_0 5 rfl rfl)
theorem dX10_fault_6 : decode cX10_fault 6 = .ok (.ifCond .ne 10, 3) := dk_154 0 10 (dk_at dksX10_fault_0 6 rfl rfl)
theorem dX10_fault_9 : decode cX10_fault 9 = .ok (.aload_n 0, 1) := dk_42 (dk_at dksX10_fault_0 9 rfl rfl)
theorem dX10_fault_10 : decode cX10_fault 10 = .ok (.getfield 243, 3) := dk_180 0 243 (dk_at dksX10_fault_0 10 rfl rfl)
theorem dX10_fault_13 : decode cX10_fault 13 = .ok (.goto 16, 3) := dk_167 0 16 (dk_at dksX10_fault_0 13 rfl rfl)
theorem dX10_fault_16 : decode cX10_fault 16 = .ok (.iload_n 1, 1) := dk_27 (dk_at dksX10_fault_0 16 rfl rfl)
theorem dX10_fault_17 : decode cX10_fault 17 = .ok (.iconst 1, 1) := dk_4 (dk_at dksX10_fault_0 17 rfl rfl)
theorem dX10_fault_18 : decode cX10_fault 18 = .ok (.if_icmp .ne 10, 3) := dk_160 0 10 (dk_at dksX10_fault_0 18 rfl rfl)
theorem dX10_fault_21 : decode cX10_fault 21 = .ok (.aload_n 0, 1) := dk_42 (dk_at dksX10_fault_0 21 rfl rfl)
theorem dX10_fault_22 : decode cX10_fault 22 = .ok (.getfield 29, 3) := dk_180 0 29 (dk_at dksX10_fault_1 0 rfl rfl)
theorem dX10_fault_25 : decode cX10_fault 25 = .ok (.goto 4, 3) := dk_167 0 4 (dk_at dksX10_fault_1 3 rfl rfl)
theorem dX10_fault_28 : decode cX10_fault 28 = .ok (.iconst (-1), 1) := dk_2 (dk_at dksX10_fault_1 6 rfl rfl)
theorem dX10_fault_29 : decode cX10_fault 29 = .ok (.ireturn, 1) := dk_172 (dk_at dksX10_fault_1 7 rfl rfl)
abbrev cX10_world : ByteArray := prog_33_method_38_code
def yX10_world : MethodName := ⟨RX10, "world", "(II)I"⟩
def dkwX10_world_2 : List UInt8 := [167, 0, 9, 42, 180, 0, 36, 27, 46, 172]
abbrev dktX10_world_2 : List UInt8 := dkwX10_world_2 ++ []
def dkwX10_world_1 : List UInt8 := [184, 0, 133, 154, 0, 9, 42, 5, 182, 0, 237, 172, 28, 154, 0, 12, 42, 180, 0, 33, 27, 46]
abbrev dktX10_world_1 : List UInt8 := dkwX10_world_1 ++ dktX10_world_2
def dkwX10_world_0 : List UInt8 := [42, 3, 181, 0, 71, 42, 27, 182, 1, 0, 154, 0, 9, 42, 4, 182, 0, 237, 172, 28, 133, 9, 10]
abbrev dktX10_world_0 : List UInt8 := dkwX10_world_0 ++ dktX10_world_1
theorem dksX10_world_0 : cX10_world.data.toList.drop 0 = dktX10_world_0 := by decide +kernel
theorem dksX10_world_1 : cX10_world.data.toList.drop 23 = dktX10_world_1 := dk_seg dksX10_world_0 23 rfl rfl
theorem dksX10_world_2 : cX10_world.data.toList.drop 45 = dktX10_world_2 := dk_seg dksX10_world_1 22 rfl rfl
theorem dX10_world_0 : decode cX10_world 0 = .ok (.aload_n 0, 1) := dk_42 (dk_at dksX10_world_0 0 rfl rfl)
theorem dX10_world_1 : decode cX10_world 1 = .ok (.iconst 0, 1) := dk_3 (dk_at dksX10_world_0 1 rfl rfl)
theorem dX10_world_2 : decode cX10_world 2 = .ok (.putfield 71, 3) := dk_181 0 71 (dk_at dksX10_world_0 2 rfl rfl)
theorem dX10_world_5 : decode cX10_world 5 = .ok (.aload_n 0, 1) := dk_42 (dk_at dksX10_world_0 5 rfl rfl)
theorem dX10_world_6 : decode cX10_world 6 = .ok (.iload_n 1, 1) := dk_27 (dk_at dksX10_world_0 6 rfl rfl)
theorem dX10_world_7 : decode cX10_world 7 = .ok (.invokevirtual 256, 3) := dk_182 1 0 (dk_at dksX10_world_0 7 rfl rfl)
theorem dX10_world_10 : decode cX10_world 10 = .ok (.ifCond .ne 9, 3) := dk_154 0 9 (dk_at dksX10_world_0 10 rfl rfl)
theorem dX10_world_13 : decode cX10_world 13 = .ok (.aload_n 0, 1) := dk_42 (dk_at dksX10_world_0 13 rfl rfl)
theorem dX10_world_14 : decode cX10_world 14 = .ok (.iconst 1, 1) := dk_4 (dk_at dksX10_world_0 14 rfl rfl)
theorem dX10_world_15 : decode cX10_world 15 = .ok (.invokevirtual 237, 3) := dk_182 0 237 (dk_at dksX10_world_0 15 rfl rfl)
theorem dX10_world_18 : decode cX10_world 18 = .ok (.ireturn, 1) := dk_172 (dk_at dksX10_world_0 18 rfl rfl)
theorem dX10_world_19 : decode cX10_world 19 = .ok (.iload_n 2, 1) := dk_28 (dk_at dksX10_world_0 19 rfl rfl)
theorem dX10_world_20 : decode cX10_world 20 = .ok (.i2l, 1) := dk_133 (dk_at dksX10_world_0 20 rfl rfl)
theorem dX10_world_21 : decode cX10_world 21 = .ok (.lconst 0, 1) := dk_9 (dk_at dksX10_world_0 21 rfl rfl)
theorem dX10_world_22 : decode cX10_world 22 = .ok (.lconst 1, 1) := dk_10 (dk_at dksX10_world_0 22 rfl rfl)
theorem dX10_world_23 : decode cX10_world 23 = .ok (.invokestatic 133, 3) := dk_184 0 133 (dk_at dksX10_world_1 0 rfl rfl)
theorem dX10_world_26 : decode cX10_world 26 = .ok (.ifCond .ne 9, 3) := dk_154 0 9 (dk_at dksX10_world_1 3 rfl rfl)
theorem dX10_world_29 : decode cX10_world 29 = .ok (.aload_n 0, 1) := dk_42 (dk_at dksX10_world_1 6 rfl rfl)
theorem dX10_world_30 : decode cX10_world 30 = .ok (.iconst 2, 1) := dk_5 (dk_at dksX10_world_1 7 rfl rfl)
theorem dX10_world_31 : decode cX10_world 31 = .ok (.invokevirtual 237, 3) := dk_182 0 237 (dk_at dksX10_world_1 8 rfl rfl)
theorem dX10_world_34 : decode cX10_world 34 = .ok (.ireturn, 1) := dk_172 (dk_at dksX10_world_1 11 rfl rfl)
theorem dX10_world_35 : decode cX10_world 35 = .ok (.iload_n 2, 1) := dk_28 (dk_at dksX10_world_1 12 rfl rfl)
theorem dX10_world_36 : decode cX10_world 36 = .ok (.ifCond .ne 12, 3) := dk_154 0 12 (dk_at dksX10_world_1 13 rfl rfl)
theorem dX10_world_39 : decode cX10_world 39 = .ok (.aload_n 0, 1) := dk_42 (dk_at dksX10_world_1 16 rfl rfl)
theorem dX10_world_40 : decode cX10_world 40 = .ok (.getfield 33, 3) := dk_180 0 33 (dk_at dksX10_world_1 17 rfl rfl)
theorem dX10_world_43 : decode cX10_world 43 = .ok (.iload_n 1, 1) := dk_27 (dk_at dksX10_world_1 20 rfl rfl)
theorem dX10_world_44 : decode cX10_world 44 = .ok (.iaload, 1) := dk_46 (dk_at dksX10_world_1 21 rfl rfl)
theorem dX10_world_45 : decode cX10_world 45 = .ok (.goto 9, 3) := dk_167 0 9 (dk_at dksX10_world_2 0 rfl rfl)
theorem dX10_world_48 : decode cX10_world 48 = .ok (.aload_n 0, 1) := dk_42 (dk_at dksX10_world_2 3 rfl rfl)
theorem dX10_world_49 : decode cX10_world 49 = .ok (.getfield 36, 3) := dk_180 0 36 (dk_at dksX10_world_2 4 rfl rfl)
theorem dX10_world_52 : decode cX10_world 52 = .ok (.iload_n 1, 1) := dk_27 (dk_at dksX10_world_2 7 rfl rfl)
theorem dX10_world_53 : decode cX10_world 53 = .ok (.iaload, 1) := dk_46 (dk_at dksX10_world_2 8 rfl rfl)
theorem dX10_world_54 : decode cX10_world 54 = .ok (.ireturn, 1) := dk_172 (dk_at dksX10_world_2 9 rfl rfl)
abbrev cX10_isWorld : ByteArray := prog_33_method_33_code
def yX10_isWorld : MethodName := ⟨RX10, "isWorld", "(I)Z"⟩
def dkwX10_isWorld_0 : List UInt8 := [42, 182, 0, 253, 27, 133, 9, 42, 180, 0, 250, 4, 100, 133, 184, 0, 133, 172]
abbrev dktX10_isWorld_0 : List UInt8 := dkwX10_isWorld_0 ++ []
theorem dksX10_isWorld_0 : cX10_isWorld.data.toList.drop 0 = dktX10_isWorld_0 := by decide +kernel
theorem dX10_isWorld_0 : decode cX10_isWorld 0 = .ok (.aload_n 0, 1) := dk_42 (dk_at dksX10_isWorld_0 0 rfl rfl)
theorem dX10_isWorld_1 : decode cX10_isWorld 1 = .ok (.invokevirtual 253, 3) := dk_182 0 253 (dk_at dksX10_isWorld_0 1 rfl rfl)
theorem dX10_isWorld_4 : decode cX10_isWorld 4 = .ok (.iload_n 1, 1) := dk_27 (dk_at dksX10_isWorld_0 4 rfl rfl)
theorem dX10_isWorld_5 : decode cX10_isWorld 5 = .ok (.i2l, 1) := dk_133 (dk_at dksX10_isWorld_0 5 rfl rfl)
theorem dX10_isWorld_6 : decode cX10_isWorld 6 = .ok (.lconst 0, 1) := dk_9 (dk_at dksX10_isWorld_0 6 rfl rfl)
theorem dX10_isWorld_7 : decode cX10_isWorld 7 = .ok (.aload_n 0, 1) := dk_42 (dk_at dksX10_isWorld_0 7 rfl rfl)
theorem dX10_isWorld_8 : decode cX10_isWorld 8 = .ok (.getfield 250, 3) := dk_180 0 250 (dk_at dksX10_isWorld_0 8 rfl rfl)
theorem dX10_isWorld_11 : decode cX10_isWorld 11 = .ok (.iconst 1, 1) := dk_4 (dk_at dksX10_isWorld_0 11 rfl rfl)
theorem dX10_isWorld_12 : decode cX10_isWorld 12 = .ok (.isub, 1) := dk_100 (dk_at dksX10_isWorld_0 12 rfl rfl)
theorem dX10_isWorld_13 : decode cX10_isWorld 13 = .ok (.i2l, 1) := dk_133 (dk_at dksX10_isWorld_0 13 rfl rfl)
theorem dX10_isWorld_14 : decode cX10_isWorld 14 = .ok (.invokestatic 133, 3) := dk_184 0 133 (dk_at dksX10_isWorld_0 14 rfl rfl)
theorem dX10_isWorld_17 : decode cX10_isWorld 17 = .ok (.ireturn, 1) := dk_172 (dk_at dksX10_isWorld_0 17 rfl rfl)
abbrev cX10_layPairs : ByteArray := prog_33_method_32_code
def yX10_layPairs : MethodName := ⟨RX10, "layPairs", "()V"⟩
def dkwX10_layPairs_3 : List UInt8 := [79, 42, 89, 180, 0, 250, 4, 96, 181, 0, 250, 132, 2, 1, 167, 255, 201, 132, 1, 1, 167, 255, 176, 177]
abbrev dktX10_layPairs_3 : List UInt8 := dkwX10_layPairs_3 ++ []
def dkwX10_layPairs_2 : List UInt8 := [6, 46, 163, 0, 39, 42, 180, 0, 33, 42, 180, 0, 250, 27, 79, 42, 180, 0, 36, 42, 180, 0, 250, 28]
abbrev dktX10_layPairs_2 : List UInt8 := dkwX10_layPairs_2 ++ dktX10_layPairs_3
def dkwX10_layPairs_1 : List UInt8 := [180, 0, 9, 7, 46, 96, 61, 28, 42, 180, 0, 9, 5, 46, 163, 0, 51, 27, 28, 96, 42, 180, 0, 9]
abbrev dktX10_layPairs_1 : List UInt8 := dkwX10_layPairs_1 ++ dktX10_layPairs_2
def dkwX10_layPairs_0 : List UInt8 := [42, 3, 181, 0, 250, 42, 180, 0, 9, 4, 46, 60, 27, 42, 180, 0, 9, 5, 46, 163, 0, 76, 27, 42]
abbrev dktX10_layPairs_0 : List UInt8 := dkwX10_layPairs_0 ++ dktX10_layPairs_1
theorem dksX10_layPairs_0 : cX10_layPairs.data.toList.drop 0 = dktX10_layPairs_0 := by decide +kernel
theorem dksX10_layPairs_1 : cX10_layPairs.data.toList.drop 24 = dktX10_layPairs_1 := dk_seg dksX10_layPairs_0 24 rfl rfl
theorem dksX10_layPairs_2 : cX10_layPairs.data.toList.drop 48 = dktX10_layPairs_2 := dk_seg dksX10_layPairs_1 24 rfl rfl
theorem dksX10_layPairs_3 : cX10_layPairs.data.toList.drop 72 = dktX10_layPairs_3 := dk_seg dksX10_layPairs_2 24 rfl rfl
theorem dX10_layPairs_0 : decode cX10_layPairs 0 = .ok (.aload_n 0, 1) := dk_42 (dk_at dksX10_layPairs_0 0 rfl rfl)
theorem dX10_layPairs_1 : decode cX10_layPairs 1 = .ok (.iconst 0, 1) := dk_3 (dk_at dksX10_layPairs_0 1 rfl rfl)
theorem dX10_layPairs_2 : decode cX10_layPairs 2 = .ok (.putfield 250, 3) := dk_181 0 250 (dk_at dksX10_layPairs_0 2 rfl rfl)
theorem dX10_layPairs_5 : decode cX10_layPairs 5 = .ok (.aload_n 0, 1) := dk_42 (dk_at dksX10_layPairs_0 5 rfl rfl)
theorem dX10_layPairs_6 : decode cX10_layPairs 6 = .ok (.getfield 9, 3) := dk_180 0 9 (dk_at dksX10_layPairs_0 6 rfl rfl)
theorem dX10_layPairs_9 : decode cX10_layPairs 9 = .ok (.iconst 1, 1) := dk_4 (dk_at dksX10_layPairs_0 9 rfl rfl)
theorem dX10_layPairs_10 : decode cX10_layPairs 10 = .ok (.iaload, 1) := dk_46 (dk_at dksX10_layPairs_0 10 rfl rfl)
theorem dX10_layPairs_11 : decode cX10_layPairs 11 = .ok (.istore_n 1, 1) := dk_60 (dk_at dksX10_layPairs_0 11 rfl rfl)
theorem dX10_layPairs_12 : decode cX10_layPairs 12 = .ok (.iload_n 1, 1) := dk_27 (dk_at dksX10_layPairs_0 12 rfl rfl)
theorem dX10_layPairs_13 : decode cX10_layPairs 13 = .ok (.aload_n 0, 1) := dk_42 (dk_at dksX10_layPairs_0 13 rfl rfl)
theorem dX10_layPairs_14 : decode cX10_layPairs 14 = .ok (.getfield 9, 3) := dk_180 0 9 (dk_at dksX10_layPairs_0 14 rfl rfl)
theorem dX10_layPairs_17 : decode cX10_layPairs 17 = .ok (.iconst 2, 1) := dk_5 (dk_at dksX10_layPairs_0 17 rfl rfl)
theorem dX10_layPairs_18 : decode cX10_layPairs 18 = .ok (.iaload, 1) := dk_46 (dk_at dksX10_layPairs_0 18 rfl rfl)
theorem dX10_layPairs_19 : decode cX10_layPairs 19 = .ok (.if_icmp .gt 76, 3) := dk_163 0 76 (dk_at dksX10_layPairs_0 19 rfl rfl)
theorem dX10_layPairs_22 : decode cX10_layPairs 22 = .ok (.iload_n 1, 1) := dk_27 (dk_at dksX10_layPairs_0 22 rfl rfl)
theorem dX10_layPairs_23 : decode cX10_layPairs 23 = .ok (.aload_n 0, 1) := dk_42 (dk_at dksX10_layPairs_0 23 rfl rfl)
theorem dX10_layPairs_24 : decode cX10_layPairs 24 = .ok (.getfield 9, 3) := dk_180 0 9 (dk_at dksX10_layPairs_1 0 rfl rfl)
theorem dX10_layPairs_27 : decode cX10_layPairs 27 = .ok (.iconst 4, 1) := dk_7 (dk_at dksX10_layPairs_1 3 rfl rfl)
theorem dX10_layPairs_28 : decode cX10_layPairs 28 = .ok (.iaload, 1) := dk_46 (dk_at dksX10_layPairs_1 4 rfl rfl)
theorem dX10_layPairs_29 : decode cX10_layPairs 29 = .ok (.iadd, 1) := dk_96 (dk_at dksX10_layPairs_1 5 rfl rfl)
theorem dX10_layPairs_30 : decode cX10_layPairs 30 = .ok (.istore_n 2, 1) := dk_61 (dk_at dksX10_layPairs_1 6 rfl rfl)
theorem dX10_layPairs_31 : decode cX10_layPairs 31 = .ok (.iload_n 2, 1) := dk_28 (dk_at dksX10_layPairs_1 7 rfl rfl)
theorem dX10_layPairs_32 : decode cX10_layPairs 32 = .ok (.aload_n 0, 1) := dk_42 (dk_at dksX10_layPairs_1 8 rfl rfl)
theorem dX10_layPairs_33 : decode cX10_layPairs 33 = .ok (.getfield 9, 3) := dk_180 0 9 (dk_at dksX10_layPairs_1 9 rfl rfl)
theorem dX10_layPairs_36 : decode cX10_layPairs 36 = .ok (.iconst 2, 1) := dk_5 (dk_at dksX10_layPairs_1 12 rfl rfl)
theorem dX10_layPairs_37 : decode cX10_layPairs 37 = .ok (.iaload, 1) := dk_46 (dk_at dksX10_layPairs_1 13 rfl rfl)
theorem dX10_layPairs_38 : decode cX10_layPairs 38 = .ok (.if_icmp .gt 51, 3) := dk_163 0 51 (dk_at dksX10_layPairs_1 14 rfl rfl)
theorem dX10_layPairs_41 : decode cX10_layPairs 41 = .ok (.iload_n 1, 1) := dk_27 (dk_at dksX10_layPairs_1 17 rfl rfl)
theorem dX10_layPairs_42 : decode cX10_layPairs 42 = .ok (.iload_n 2, 1) := dk_28 (dk_at dksX10_layPairs_1 18 rfl rfl)
theorem dX10_layPairs_43 : decode cX10_layPairs 43 = .ok (.iadd, 1) := dk_96 (dk_at dksX10_layPairs_1 19 rfl rfl)
theorem dX10_layPairs_44 : decode cX10_layPairs 44 = .ok (.aload_n 0, 1) := dk_42 (dk_at dksX10_layPairs_1 20 rfl rfl)
theorem dX10_layPairs_45 : decode cX10_layPairs 45 = .ok (.getfield 9, 3) := dk_180 0 9 (dk_at dksX10_layPairs_1 21 rfl rfl)
theorem dX10_layPairs_48 : decode cX10_layPairs 48 = .ok (.iconst 3, 1) := dk_6 (dk_at dksX10_layPairs_2 0 rfl rfl)
theorem dX10_layPairs_49 : decode cX10_layPairs 49 = .ok (.iaload, 1) := dk_46 (dk_at dksX10_layPairs_2 1 rfl rfl)
theorem dX10_layPairs_50 : decode cX10_layPairs 50 = .ok (.if_icmp .gt 39, 3) := dk_163 0 39 (dk_at dksX10_layPairs_2 2 rfl rfl)
theorem dX10_layPairs_53 : decode cX10_layPairs 53 = .ok (.aload_n 0, 1) := dk_42 (dk_at dksX10_layPairs_2 5 rfl rfl)
theorem dX10_layPairs_54 : decode cX10_layPairs 54 = .ok (.getfield 33, 3) := dk_180 0 33 (dk_at dksX10_layPairs_2 6 rfl rfl)
theorem dX10_layPairs_57 : decode cX10_layPairs 57 = .ok (.aload_n 0, 1) := dk_42 (dk_at dksX10_layPairs_2 9 rfl rfl)
theorem dX10_layPairs_58 : decode cX10_layPairs 58 = .ok (.getfield 250, 3) := dk_180 0 250 (dk_at dksX10_layPairs_2 10 rfl rfl)
theorem dX10_layPairs_61 : decode cX10_layPairs 61 = .ok (.iload_n 1, 1) := dk_27 (dk_at dksX10_layPairs_2 13 rfl rfl)
theorem dX10_layPairs_62 : decode cX10_layPairs 62 = .ok (.iastore, 1) := dk_79 (dk_at dksX10_layPairs_2 14 rfl rfl)
theorem dX10_layPairs_63 : decode cX10_layPairs 63 = .ok (.aload_n 0, 1) := dk_42 (dk_at dksX10_layPairs_2 15 rfl rfl)
theorem dX10_layPairs_64 : decode cX10_layPairs 64 = .ok (.getfield 36, 3) := dk_180 0 36 (dk_at dksX10_layPairs_2 16 rfl rfl)
theorem dX10_layPairs_67 : decode cX10_layPairs 67 = .ok (.aload_n 0, 1) := dk_42 (dk_at dksX10_layPairs_2 19 rfl rfl)
theorem dX10_layPairs_68 : decode cX10_layPairs 68 = .ok (.getfield 250, 3) := dk_180 0 250 (dk_at dksX10_layPairs_2 20 rfl rfl)
theorem dX10_layPairs_71 : decode cX10_layPairs 71 = .ok (.iload_n 2, 1) := dk_28 (dk_at dksX10_layPairs_2 23 rfl rfl)
theorem dX10_layPairs_72 : decode cX10_layPairs 72 = .ok (.iastore, 1) := dk_79 (dk_at dksX10_layPairs_3 0 rfl rfl)
theorem dX10_layPairs_73 : decode cX10_layPairs 73 = .ok (.aload_n 0, 1) := dk_42 (dk_at dksX10_layPairs_3 1 rfl rfl)
theorem dX10_layPairs_74 : decode cX10_layPairs 74 = .ok (.dup, 1) := dk_89 (dk_at dksX10_layPairs_3 2 rfl rfl)
theorem dX10_layPairs_75 : decode cX10_layPairs 75 = .ok (.getfield 250, 3) := dk_180 0 250 (dk_at dksX10_layPairs_3 3 rfl rfl)
theorem dX10_layPairs_78 : decode cX10_layPairs 78 = .ok (.iconst 1, 1) := dk_4 (dk_at dksX10_layPairs_3 6 rfl rfl)
theorem dX10_layPairs_79 : decode cX10_layPairs 79 = .ok (.iadd, 1) := dk_96 (dk_at dksX10_layPairs_3 7 rfl rfl)
theorem dX10_layPairs_80 : decode cX10_layPairs 80 = .ok (.putfield 250, 3) := dk_181 0 250 (dk_at dksX10_layPairs_3 8 rfl rfl)
theorem dX10_layPairs_83 : decode cX10_layPairs 83 = .ok (.iinc 2 1, 3) := dk_132 2 1 (dk_at dksX10_layPairs_3 11 rfl rfl)
theorem dX10_layPairs_86 : decode cX10_layPairs 86 = .ok (.goto (-55), 3) := dk_167 255 201 (dk_at dksX10_layPairs_3 14 rfl rfl)
theorem dX10_layPairs_89 : decode cX10_layPairs 89 = .ok (.iinc 1 1, 3) := dk_132 1 1 (dk_at dksX10_layPairs_3 17 rfl rfl)
theorem dX10_layPairs_92 : decode cX10_layPairs 92 = .ok (.goto (-80), 3) := dk_167 255 176 (dk_at dksX10_layPairs_3 20 rfl rfl)
theorem dX10_layPairs_95 : decode cX10_layPairs 95 = .ok (.return_, 1) := dk_177 (dk_at dksX10_layPairs_3 23 rfl rfl)
abbrev cX10_pair : ByteArray := prog_33_method_39_code
def yX10_pair : MethodName := ⟨RX10, "pair", "(II)I"⟩
def dkwX10_pair_2 : List UInt8 := [172, 132, 3, 1, 167, 255, 215, 2, 172]
abbrev dktX10_pair_2 : List UInt8 := dkwX10_pair_2 ++ []
def dkwX10_pair_1 : List UInt8 := [46, 27, 28, 184, 1, 3, 160, 0, 19, 42, 180, 0, 36, 29, 46, 27, 28, 184, 1, 8, 160, 0, 5, 29]
abbrev dktX10_pair_1 : List UInt8 := dkwX10_pair_1 ++ dktX10_pair_2
def dkwX10_pair_0 : List UInt8 := [42, 3, 181, 0, 71, 42, 182, 0, 253, 3, 62, 29, 42, 180, 0, 250, 162, 0, 39, 42, 180, 0, 33, 29]
abbrev dktX10_pair_0 : List UInt8 := dkwX10_pair_0 ++ dktX10_pair_1
theorem dksX10_pair_0 : cX10_pair.data.toList.drop 0 = dktX10_pair_0 := by decide +kernel
theorem dksX10_pair_1 : cX10_pair.data.toList.drop 24 = dktX10_pair_1 := dk_seg dksX10_pair_0 24 rfl rfl
theorem dksX10_pair_2 : cX10_pair.data.toList.drop 48 = dktX10_pair_2 := dk_seg dksX10_pair_1 24 rfl rfl
theorem dX10_pair_0 : decode cX10_pair 0 = .ok (.aload_n 0, 1) := dk_42 (dk_at dksX10_pair_0 0 rfl rfl)
theorem dX10_pair_1 : decode cX10_pair 1 = .ok (.iconst 0, 1) := dk_3 (dk_at dksX10_pair_0 1 rfl rfl)
theorem dX10_pair_2 : decode cX10_pair 2 = .ok (.putfield 71, 3) := dk_181 0 71 (dk_at dksX10_pair_0 2 rfl rfl)
theorem dX10_pair_5 : decode cX10_pair 5 = .ok (.aload_n 0, 1) := dk_42 (dk_at dksX10_pair_0 5 rfl rfl)
theorem dX10_pair_6 : decode cX10_pair 6 = .ok (.invokevirtual 253, 3) := dk_182 0 253 (dk_at dksX10_pair_0 6 rfl rfl)
theorem dX10_pair_9 : decode cX10_pair 9 = .ok (.iconst 0, 1) := dk_3 (dk_at dksX10_pair_0 9 rfl rfl)
theorem dX10_pair_10 : decode cX10_pair 10 = .ok (.istore_n 3, 1) := dk_62 (dk_at dksX10_pair_0 10 rfl rfl)
theorem dX10_pair_11 : decode cX10_pair 11 = .ok (.iload_n 3, 1) := dk_29 (dk_at dksX10_pair_0 11 rfl rfl)
theorem dX10_pair_12 : decode cX10_pair 12 = .ok (.aload_n 0, 1) := dk_42 (dk_at dksX10_pair_0 12 rfl rfl)
theorem dX10_pair_13 : decode cX10_pair 13 = .ok (.getfield 250, 3) := dk_180 0 250 (dk_at dksX10_pair_0 13 rfl rfl)
theorem dX10_pair_16 : decode cX10_pair 16 = .ok (.if_icmp .ge 39, 3) := dk_162 0 39 (dk_at dksX10_pair_0 16 rfl rfl)
theorem dX10_pair_19 : decode cX10_pair 19 = .ok (.aload_n 0, 1) := dk_42 (dk_at dksX10_pair_0 19 rfl rfl)
theorem dX10_pair_20 : decode cX10_pair 20 = .ok (.getfield 33, 3) := dk_180 0 33 (dk_at dksX10_pair_0 20 rfl rfl)
theorem dX10_pair_23 : decode cX10_pair 23 = .ok (.iload_n 3, 1) := dk_29 (dk_at dksX10_pair_0 23 rfl rfl)
theorem dX10_pair_24 : decode cX10_pair 24 = .ok (.iaload, 1) := dk_46 (dk_at dksX10_pair_1 0 rfl rfl)
theorem dX10_pair_25 : decode cX10_pair 25 = .ok (.iload_n 1, 1) := dk_27 (dk_at dksX10_pair_1 1 rfl rfl)
theorem dX10_pair_26 : decode cX10_pair 26 = .ok (.iload_n 2, 1) := dk_28 (dk_at dksX10_pair_1 2 rfl rfl)
theorem dX10_pair_27 : decode cX10_pair 27 = .ok (.invokestatic 259, 3) := dk_184 1 3 (dk_at dksX10_pair_1 3 rfl rfl)
theorem dX10_pair_30 : decode cX10_pair 30 = .ok (.if_icmp .ne 19, 3) := dk_160 0 19 (dk_at dksX10_pair_1 6 rfl rfl)
theorem dX10_pair_33 : decode cX10_pair 33 = .ok (.aload_n 0, 1) := dk_42 (dk_at dksX10_pair_1 9 rfl rfl)
theorem dX10_pair_34 : decode cX10_pair 34 = .ok (.getfield 36, 3) := dk_180 0 36 (dk_at dksX10_pair_1 10 rfl rfl)
theorem dX10_pair_37 : decode cX10_pair 37 = .ok (.iload_n 3, 1) := dk_29 (dk_at dksX10_pair_1 13 rfl rfl)
theorem dX10_pair_38 : decode cX10_pair 38 = .ok (.iaload, 1) := dk_46 (dk_at dksX10_pair_1 14 rfl rfl)
theorem dX10_pair_39 : decode cX10_pair 39 = .ok (.iload_n 1, 1) := dk_27 (dk_at dksX10_pair_1 15 rfl rfl)
theorem dX10_pair_40 : decode cX10_pair 40 = .ok (.iload_n 2, 1) := dk_28 (dk_at dksX10_pair_1 16 rfl rfl)
theorem dX10_pair_41 : decode cX10_pair 41 = .ok (.invokestatic 264, 3) := dk_184 1 8 (dk_at dksX10_pair_1 17 rfl rfl)
theorem dX10_pair_44 : decode cX10_pair 44 = .ok (.if_icmp .ne 5, 3) := dk_160 0 5 (dk_at dksX10_pair_1 20 rfl rfl)
theorem dX10_pair_47 : decode cX10_pair 47 = .ok (.iload_n 3, 1) := dk_29 (dk_at dksX10_pair_1 23 rfl rfl)
theorem dX10_pair_48 : decode cX10_pair 48 = .ok (.ireturn, 1) := dk_172 (dk_at dksX10_pair_2 0 rfl rfl)
theorem dX10_pair_49 : decode cX10_pair 49 = .ok (.iinc 3 1, 3) := dk_132 3 1 (dk_at dksX10_pair_2 1 rfl rfl)
theorem dX10_pair_52 : decode cX10_pair 52 = .ok (.goto (-41), 3) := dk_167 255 215 (dk_at dksX10_pair_2 4 rfl rfl)
theorem dX10_pair_55 : decode cX10_pair 55 = .ok (.iconst (-1), 1) := dk_2 (dk_at dksX10_pair_2 7 rfl rfl)
theorem dX10_pair_56 : decode cX10_pair 56 = .ok (.ireturn, 1) := dk_172 (dk_at dksX10_pair_2 8 rfl rfl)
abbrev cX10_told : ByteArray := prog_33_method_41_code
def yX10_told : MethodName := ⟨RX10, "told", "(II)I"⟩
def dkwX10_told_1 : List UInt8 := [181, 0, 71, 42, 180, 0, 71, 158, 0, 7, 3, 167, 0, 9, 42, 27, 28, 182, 1, 17, 172]
abbrev dktX10_told_1 : List UInt8 := dkwX10_told_1 ++ []
def dkwX10_told_0 : List UInt8 := [42, 42, 27, 182, 1, 14, 153, 0, 15, 42, 28, 182, 1, 0, 153, 0, 7, 3, 167, 0, 4, 4]
abbrev dktX10_told_0 : List UInt8 := dkwX10_told_0 ++ dktX10_told_1
theorem dksX10_told_0 : cX10_told.data.toList.drop 0 = dktX10_told_0 := by decide +kernel
theorem dksX10_told_1 : cX10_told.data.toList.drop 22 = dktX10_told_1 := dk_seg dksX10_told_0 22 rfl rfl
theorem dX10_told_0 : decode cX10_told 0 = .ok (.aload_n 0, 1) := dk_42 (dk_at dksX10_told_0 0 rfl rfl)
theorem dX10_told_1 : decode cX10_told 1 = .ok (.aload_n 0, 1) := dk_42 (dk_at dksX10_told_0 1 rfl rfl)
theorem dX10_told_2 : decode cX10_told 2 = .ok (.iload_n 1, 1) := dk_27 (dk_at dksX10_told_0 2 rfl rfl)
theorem dX10_told_3 : decode cX10_told 3 = .ok (.invokevirtual 270, 3) := dk_182 1 14 (dk_at dksX10_told_0 3 rfl rfl)
theorem dX10_told_6 : decode cX10_told 6 = .ok (.ifCond .eq 15, 3) := dk_153 0 15 (dk_at dksX10_told_0 6 rfl rfl)
theorem dX10_told_9 : decode cX10_told 9 = .ok (.aload_n 0, 1) := dk_42 (dk_at dksX10_told_0 9 rfl rfl)
theorem dX10_told_10 : decode cX10_told 10 = .ok (.iload_n 2, 1) := dk_28 (dk_at dksX10_told_0 10 rfl rfl)
theorem dX10_told_11 : decode cX10_told 11 = .ok (.invokevirtual 256, 3) := dk_182 1 0 (dk_at dksX10_told_0 11 rfl rfl)
theorem dX10_told_14 : decode cX10_told 14 = .ok (.ifCond .eq 7, 3) := dk_153 0 7 (dk_at dksX10_told_0 14 rfl rfl)
theorem dX10_told_17 : decode cX10_told 17 = .ok (.iconst 0, 1) := dk_3 (dk_at dksX10_told_0 17 rfl rfl)
theorem dX10_told_18 : decode cX10_told 18 = .ok (.goto 4, 3) := dk_167 0 4 (dk_at dksX10_told_0 18 rfl rfl)
theorem dX10_told_21 : decode cX10_told 21 = .ok (.iconst 1, 1) := dk_4 (dk_at dksX10_told_0 21 rfl rfl)
theorem dX10_told_22 : decode cX10_told 22 = .ok (.putfield 71, 3) := dk_181 0 71 (dk_at dksX10_told_1 0 rfl rfl)
theorem dX10_told_25 : decode cX10_told 25 = .ok (.aload_n 0, 1) := dk_42 (dk_at dksX10_told_1 3 rfl rfl)
theorem dX10_told_26 : decode cX10_told 26 = .ok (.getfield 71, 3) := dk_180 0 71 (dk_at dksX10_told_1 4 rfl rfl)
theorem dX10_told_29 : decode cX10_told 29 = .ok (.ifCond .le 7, 3) := dk_158 0 7 (dk_at dksX10_told_1 7 rfl rfl)
theorem dX10_told_32 : decode cX10_told 32 = .ok (.iconst 0, 1) := dk_3 (dk_at dksX10_told_1 10 rfl rfl)
theorem dX10_told_33 : decode cX10_told 33 = .ok (.goto 9, 3) := dk_167 0 9 (dk_at dksX10_told_1 11 rfl rfl)
theorem dX10_told_36 : decode cX10_told 36 = .ok (.aload_n 0, 1) := dk_42 (dk_at dksX10_told_1 14 rfl rfl)
theorem dX10_told_37 : decode cX10_told 37 = .ok (.iload_n 1, 1) := dk_27 (dk_at dksX10_told_1 15 rfl rfl)
theorem dX10_told_38 : decode cX10_told 38 = .ok (.iload_n 2, 1) := dk_28 (dk_at dksX10_told_1 16 rfl rfl)
theorem dX10_told_39 : decode cX10_told 39 = .ok (.invokevirtual 273, 3) := dk_182 1 17 (dk_at dksX10_told_1 17 rfl rfl)
theorem dX10_told_42 : decode cX10_told 42 = .ok (.ireturn, 1) := dk_172 (dk_at dksX10_told_1 20 rfl rfl)
abbrev cX10_isSpeaker : ByteArray := prog_33_method_34_code
def yX10_isSpeaker : MethodName := ⟨RX10, "isSpeaker", "(I)Z"⟩
def dkwX10_isSpeaker_0 : List UInt8 := [27, 133, 9, 42, 180, 0, 9, 8, 46, 4, 100, 133, 184, 0, 133, 172]
abbrev dktX10_isSpeaker_0 : List UInt8 := dkwX10_isSpeaker_0 ++ []
theorem dksX10_isSpeaker_0 : cX10_isSpeaker.data.toList.drop 0 = dktX10_isSpeaker_0 := by decide +kernel
theorem dX10_isSpeaker_0 : decode cX10_isSpeaker 0 = .ok (.iload_n 1, 1) := dk_27 (dk_at dksX10_isSpeaker_0 0 rfl rfl)
theorem dX10_isSpeaker_1 : decode cX10_isSpeaker 1 = .ok (.i2l, 1) := dk_133 (dk_at dksX10_isSpeaker_0 1 rfl rfl)
theorem dX10_isSpeaker_2 : decode cX10_isSpeaker 2 = .ok (.lconst 0, 1) := dk_9 (dk_at dksX10_isSpeaker_0 2 rfl rfl)
theorem dX10_isSpeaker_3 : decode cX10_isSpeaker 3 = .ok (.aload_n 0, 1) := dk_42 (dk_at dksX10_isSpeaker_0 3 rfl rfl)
theorem dX10_isSpeaker_4 : decode cX10_isSpeaker 4 = .ok (.getfield 9, 3) := dk_180 0 9 (dk_at dksX10_isSpeaker_0 4 rfl rfl)
theorem dX10_isSpeaker_7 : decode cX10_isSpeaker 7 = .ok (.iconst 5, 1) := dk_8 (dk_at dksX10_isSpeaker_0 7 rfl rfl)
theorem dX10_isSpeaker_8 : decode cX10_isSpeaker 8 = .ok (.iaload, 1) := dk_46 (dk_at dksX10_isSpeaker_0 8 rfl rfl)
theorem dX10_isSpeaker_9 : decode cX10_isSpeaker 9 = .ok (.iconst 1, 1) := dk_4 (dk_at dksX10_isSpeaker_0 9 rfl rfl)
theorem dX10_isSpeaker_10 : decode cX10_isSpeaker 10 = .ok (.isub, 1) := dk_100 (dk_at dksX10_isSpeaker_0 10 rfl rfl)
theorem dX10_isSpeaker_11 : decode cX10_isSpeaker 11 = .ok (.i2l, 1) := dk_133 (dk_at dksX10_isSpeaker_0 11 rfl rfl)
theorem dX10_isSpeaker_12 : decode cX10_isSpeaker 12 = .ok (.invokestatic 133, 3) := dk_184 0 133 (dk_at dksX10_isSpeaker_0 12 rfl rfl)
theorem dX10_isSpeaker_15 : decode cX10_isSpeaker 15 = .ok (.ireturn, 1) := dk_172 (dk_at dksX10_isSpeaker_0 15 rfl rfl)
abbrev cX10_slip : ByteArray := prog_33_method_40_code
def yX10_slip : MethodName := ⟨RX10, "slip", "(II)I"⟩
def dkwX10_slip_3 : List UInt8 := [21, 4, 21, 4, 104, 96, 172, 29, 21, 4, 96, 5, 112, 172, 29, 21, 4, 96, 16, 10, 112, 172, 3, 172]
abbrev dktX10_slip_3 : List UInt8 := dkwX10_slip_3 ++ []
def dkwX10_slip_2 : List UInt8 := [29, 21, 4, 96, 172, 29, 21, 4, 104, 172, 21, 4, 172, 29, 172, 21, 4, 29, 100, 172, 29, 29, 104]
abbrev dktX10_slip_2 : List UInt8 := dkwX10_slip_2 ++ dktX10_slip_3
def dkwX10_slip_1 : List UInt8 := [170, 0, 0, 0, 0, 0, 92, 0, 0, 0, 0, 0, 0, 0, 7, 0, 0, 0, 47, 0, 0, 0, 52, 0, 0, 0, 57, 0, 0, 0, 60, 0, 0, 0, 62, 0, 0, 0, 67, 0, 0, 0, 77, 0, 0, 0, 84]
abbrev dktX10_slip_1 : List UInt8 := dkwX10_slip_1 ++ dktX10_slip_2
def dkwX10_slip_0 : List UInt8 := [42, 180, 0, 33, 28, 46, 62, 42, 180, 0, 36, 28, 46, 54, 4, 42, 27, 3, 182, 1, 11]
abbrev dktX10_slip_0 : List UInt8 := dkwX10_slip_0 ++ dktX10_slip_1
theorem dksX10_slip_0 : cX10_slip.data.toList.drop 0 = dktX10_slip_0 := by decide +kernel
theorem dksX10_slip_1 : cX10_slip.data.toList.drop 21 = dktX10_slip_1 := dk_seg dksX10_slip_0 21 rfl rfl
theorem dksX10_slip_2 : cX10_slip.data.toList.drop 68 = dktX10_slip_2 := dk_seg dksX10_slip_1 47 rfl rfl
theorem dksX10_slip_3 : cX10_slip.data.toList.drop 91 = dktX10_slip_3 := dk_seg dksX10_slip_2 23 rfl rfl
theorem dX10_slip_0 : decode cX10_slip 0 = .ok (.aload_n 0, 1) := dk_42 (dk_at dksX10_slip_0 0 rfl rfl)
theorem dX10_slip_1 : decode cX10_slip 1 = .ok (.getfield 33, 3) := dk_180 0 33 (dk_at dksX10_slip_0 1 rfl rfl)
theorem dX10_slip_4 : decode cX10_slip 4 = .ok (.iload_n 2, 1) := dk_28 (dk_at dksX10_slip_0 4 rfl rfl)
theorem dX10_slip_5 : decode cX10_slip 5 = .ok (.iaload, 1) := dk_46 (dk_at dksX10_slip_0 5 rfl rfl)
theorem dX10_slip_6 : decode cX10_slip 6 = .ok (.istore_n 3, 1) := dk_62 (dk_at dksX10_slip_0 6 rfl rfl)
theorem dX10_slip_7 : decode cX10_slip 7 = .ok (.aload_n 0, 1) := dk_42 (dk_at dksX10_slip_0 7 rfl rfl)
theorem dX10_slip_8 : decode cX10_slip 8 = .ok (.getfield 36, 3) := dk_180 0 36 (dk_at dksX10_slip_0 8 rfl rfl)
theorem dX10_slip_11 : decode cX10_slip 11 = .ok (.iload_n 2, 1) := dk_28 (dk_at dksX10_slip_0 11 rfl rfl)
theorem dX10_slip_12 : decode cX10_slip 12 = .ok (.iaload, 1) := dk_46 (dk_at dksX10_slip_0 12 rfl rfl)
theorem dX10_slip_13 : decode cX10_slip 13 = .ok (.istore 4, 2) := dk_54 4 (dk_at dksX10_slip_0 13 rfl rfl)
theorem dX10_slip_15 : decode cX10_slip 15 = .ok (.aload_n 0, 1) := dk_42 (dk_at dksX10_slip_0 15 rfl rfl)
theorem dX10_slip_16 : decode cX10_slip 16 = .ok (.iload_n 1, 1) := dk_27 (dk_at dksX10_slip_0 16 rfl rfl)
theorem dX10_slip_17 : decode cX10_slip 17 = .ok (.iconst 0, 1) := dk_3 (dk_at dksX10_slip_0 17 rfl rfl)
theorem dX10_slip_18 : decode cX10_slip 18 = .ok (.invokevirtual 267, 3) := dk_182 1 11 (dk_at dksX10_slip_0 18 rfl rfl)
theorem dX10_slip_21 : decode cX10_slip 21 = .ok (.tableswitch 92 0 7 #[47, 52, 57, 60, 62, 67, 77, 84], 47) := by decide +kernel
theorem dX10_slip_68 : decode cX10_slip 68 = .ok (.iload_n 3, 1) := dk_29 (dk_at dksX10_slip_2 0 rfl rfl)
theorem dX10_slip_69 : decode cX10_slip 69 = .ok (.iload 4, 2) := dk_21 4 (dk_at dksX10_slip_2 1 rfl rfl)
theorem dX10_slip_71 : decode cX10_slip 71 = .ok (.iadd, 1) := dk_96 (dk_at dksX10_slip_2 3 rfl rfl)
theorem dX10_slip_72 : decode cX10_slip 72 = .ok (.ireturn, 1) := dk_172 (dk_at dksX10_slip_2 4 rfl rfl)
theorem dX10_slip_73 : decode cX10_slip 73 = .ok (.iload_n 3, 1) := dk_29 (dk_at dksX10_slip_2 5 rfl rfl)
theorem dX10_slip_74 : decode cX10_slip 74 = .ok (.iload 4, 2) := dk_21 4 (dk_at dksX10_slip_2 6 rfl rfl)
theorem dX10_slip_76 : decode cX10_slip 76 = .ok (.imul, 1) := dk_104 (dk_at dksX10_slip_2 8 rfl rfl)
theorem dX10_slip_77 : decode cX10_slip 77 = .ok (.ireturn, 1) := dk_172 (dk_at dksX10_slip_2 9 rfl rfl)
theorem dX10_slip_78 : decode cX10_slip 78 = .ok (.iload 4, 2) := dk_21 4 (dk_at dksX10_slip_2 10 rfl rfl)
theorem dX10_slip_80 : decode cX10_slip 80 = .ok (.ireturn, 1) := dk_172 (dk_at dksX10_slip_2 12 rfl rfl)
theorem dX10_slip_81 : decode cX10_slip 81 = .ok (.iload_n 3, 1) := dk_29 (dk_at dksX10_slip_2 13 rfl rfl)
theorem dX10_slip_82 : decode cX10_slip 82 = .ok (.ireturn, 1) := dk_172 (dk_at dksX10_slip_2 14 rfl rfl)
theorem dX10_slip_83 : decode cX10_slip 83 = .ok (.iload 4, 2) := dk_21 4 (dk_at dksX10_slip_2 15 rfl rfl)
theorem dX10_slip_85 : decode cX10_slip 85 = .ok (.iload_n 3, 1) := dk_29 (dk_at dksX10_slip_2 17 rfl rfl)
theorem dX10_slip_86 : decode cX10_slip 86 = .ok (.isub, 1) := dk_100 (dk_at dksX10_slip_2 18 rfl rfl)
theorem dX10_slip_87 : decode cX10_slip 87 = .ok (.ireturn, 1) := dk_172 (dk_at dksX10_slip_2 19 rfl rfl)
theorem dX10_slip_88 : decode cX10_slip 88 = .ok (.iload_n 3, 1) := dk_29 (dk_at dksX10_slip_2 20 rfl rfl)
theorem dX10_slip_89 : decode cX10_slip 89 = .ok (.iload_n 3, 1) := dk_29 (dk_at dksX10_slip_2 21 rfl rfl)
theorem dX10_slip_90 : decode cX10_slip 90 = .ok (.imul, 1) := dk_104 (dk_at dksX10_slip_2 22 rfl rfl)
theorem dX10_slip_91 : decode cX10_slip 91 = .ok (.iload 4, 2) := dk_21 4 (dk_at dksX10_slip_3 0 rfl rfl)
theorem dX10_slip_93 : decode cX10_slip 93 = .ok (.iload 4, 2) := dk_21 4 (dk_at dksX10_slip_3 2 rfl rfl)
theorem dX10_slip_95 : decode cX10_slip 95 = .ok (.imul, 1) := dk_104 (dk_at dksX10_slip_3 4 rfl rfl)
theorem dX10_slip_96 : decode cX10_slip 96 = .ok (.iadd, 1) := dk_96 (dk_at dksX10_slip_3 5 rfl rfl)
theorem dX10_slip_97 : decode cX10_slip 97 = .ok (.ireturn, 1) := dk_172 (dk_at dksX10_slip_3 6 rfl rfl)
theorem dX10_slip_98 : decode cX10_slip 98 = .ok (.iload_n 3, 1) := dk_29 (dk_at dksX10_slip_3 7 rfl rfl)
theorem dX10_slip_99 : decode cX10_slip 99 = .ok (.iload 4, 2) := dk_21 4 (dk_at dksX10_slip_3 8 rfl rfl)
theorem dX10_slip_101 : decode cX10_slip 101 = .ok (.iadd, 1) := dk_96 (dk_at dksX10_slip_3 10 rfl rfl)
theorem dX10_slip_102 : decode cX10_slip 102 = .ok (.iconst 2, 1) := dk_5 (dk_at dksX10_slip_3 11 rfl rfl)
theorem dX10_slip_103 : decode cX10_slip 103 = .ok (.irem, 1) := dk_112 (dk_at dksX10_slip_3 12 rfl rfl)
theorem dX10_slip_104 : decode cX10_slip 104 = .ok (.ireturn, 1) := dk_172 (dk_at dksX10_slip_3 13 rfl rfl)
theorem dX10_slip_105 : decode cX10_slip 105 = .ok (.iload_n 3, 1) := dk_29 (dk_at dksX10_slip_3 14 rfl rfl)
theorem dX10_slip_106 : decode cX10_slip 106 = .ok (.iload 4, 2) := dk_21 4 (dk_at dksX10_slip_3 15 rfl rfl)
theorem dX10_slip_108 : decode cX10_slip 108 = .ok (.iadd, 1) := dk_96 (dk_at dksX10_slip_3 17 rfl rfl)
theorem dX10_slip_109 : decode cX10_slip 109 = .ok (.bipush 10, 2) := dk_16 10 (dk_at dksX10_slip_3 18 rfl rfl)
theorem dX10_slip_111 : decode cX10_slip 111 = .ok (.irem, 1) := dk_112 (dk_at dksX10_slip_3 20 rfl rfl)
theorem dX10_slip_112 : decode cX10_slip 112 = .ok (.ireturn, 1) := dk_172 (dk_at dksX10_slip_3 21 rfl rfl)
theorem dX10_slip_113 : decode cX10_slip 113 = .ok (.iconst 0, 1) := dk_3 (dk_at dksX10_slip_3 22 rfl rfl)
theorem dX10_slip_114 : decode cX10_slip 114 = .ok (.ireturn, 1) := dk_172 (dk_at dksX10_slip_3 23 rfl rfl)
abbrev cX10_of : ByteArray := prog_33_method_36_code
def yX10_of : MethodName := ⟨RX10, "of", "(II)I"⟩
def dkwX10_of_0 : List UInt8 := [42, 180, 0, 9, 16, 8, 6, 27, 104, 96, 28, 96, 46, 172]
abbrev dktX10_of_0 : List UInt8 := dkwX10_of_0 ++ []
theorem dksX10_of_0 : cX10_of.data.toList.drop 0 = dktX10_of_0 := by decide +kernel
theorem dX10_of_0 : decode cX10_of 0 = .ok (.aload_n 0, 1) := dk_42 (dk_at dksX10_of_0 0 rfl rfl)
theorem dX10_of_1 : decode cX10_of 1 = .ok (.getfield 9, 3) := dk_180 0 9 (dk_at dksX10_of_0 1 rfl rfl)
theorem dX10_of_4 : decode cX10_of 4 = .ok (.bipush 8, 2) := dk_16 8 (dk_at dksX10_of_0 4 rfl rfl)
theorem dX10_of_6 : decode cX10_of 6 = .ok (.iconst 3, 1) := dk_6 (dk_at dksX10_of_0 6 rfl rfl)
theorem dX10_of_7 : decode cX10_of 7 = .ok (.iload_n 1, 1) := dk_27 (dk_at dksX10_of_0 7 rfl rfl)
theorem dX10_of_8 : decode cX10_of 8 = .ok (.imul, 1) := dk_104 (dk_at dksX10_of_0 8 rfl rfl)
theorem dX10_of_9 : decode cX10_of 9 = .ok (.iadd, 1) := dk_96 (dk_at dksX10_of_0 9 rfl rfl)
theorem dX10_of_10 : decode cX10_of 10 = .ok (.iload_n 2, 1) := dk_28 (dk_at dksX10_of_0 10 rfl rfl)
theorem dX10_of_11 : decode cX10_of 11 = .ok (.iadd, 1) := dk_96 (dk_at dksX10_of_0 11 rfl rfl)
theorem dX10_of_12 : decode cX10_of 12 = .ok (.iaload, 1) := dk_46 (dk_at dksX10_of_0 12 rfl rfl)
theorem dX10_of_13 : decode cX10_of 13 = .ok (.ireturn, 1) := dk_172 (dk_at dksX10_of_0 13 rfl rfl)
abbrev cX10_speaker : ByteArray := prog_33_method_43_code
def yX10_speaker : MethodName := ⟨RX10, "speaker", "(II)I"⟩
def dkwX10_speaker_2 : List UInt8 := [162, 0, 12, 42, 27, 28, 182, 1, 11, 167, 0, 8, 42, 27, 182, 1, 25, 172]
abbrev dktX10_speaker_2 : List UInt8 := dkwX10_speaker_2 ++ []
def dkwX10_speaker_1 : List UInt8 := [153, 0, 7, 3, 167, 0, 4, 5, 181, 0, 71, 42, 180, 0, 71, 158, 0, 5, 3, 172, 28, 6]
abbrev dktX10_speaker_1 : List UInt8 := dkwX10_speaker_1 ++ dktX10_speaker_2
def dkwX10_speaker_0 : List UInt8 := [42, 42, 27, 182, 1, 14, 154, 0, 7, 4, 167, 0, 20, 28, 133, 9, 20, 1, 23, 184, 0, 133]
abbrev dktX10_speaker_0 : List UInt8 := dkwX10_speaker_0 ++ dktX10_speaker_1
theorem dksX10_speaker_0 : cX10_speaker.data.toList.drop 0 = dktX10_speaker_0 := by decide +kernel
theorem dksX10_speaker_1 : cX10_speaker.data.toList.drop 22 = dktX10_speaker_1 := dk_seg dksX10_speaker_0 22 rfl rfl
theorem dksX10_speaker_2 : cX10_speaker.data.toList.drop 44 = dktX10_speaker_2 := dk_seg dksX10_speaker_1 22 rfl rfl
theorem dX10_speaker_0 : decode cX10_speaker 0 = .ok (.aload_n 0, 1) := dk_42 (dk_at dksX10_speaker_0 0 rfl rfl)
theorem dX10_speaker_1 : decode cX10_speaker 1 = .ok (.aload_n 0, 1) := dk_42 (dk_at dksX10_speaker_0 1 rfl rfl)
theorem dX10_speaker_2 : decode cX10_speaker 2 = .ok (.iload_n 1, 1) := dk_27 (dk_at dksX10_speaker_0 2 rfl rfl)
theorem dX10_speaker_3 : decode cX10_speaker 3 = .ok (.invokevirtual 270, 3) := dk_182 1 14 (dk_at dksX10_speaker_0 3 rfl rfl)
theorem dX10_speaker_6 : decode cX10_speaker 6 = .ok (.ifCond .ne 7, 3) := dk_154 0 7 (dk_at dksX10_speaker_0 6 rfl rfl)
theorem dX10_speaker_9 : decode cX10_speaker 9 = .ok (.iconst 1, 1) := dk_4 (dk_at dksX10_speaker_0 9 rfl rfl)
theorem dX10_speaker_10 : decode cX10_speaker 10 = .ok (.goto 20, 3) := dk_167 0 20 (dk_at dksX10_speaker_0 10 rfl rfl)
theorem dX10_speaker_13 : decode cX10_speaker 13 = .ok (.iload_n 2, 1) := dk_28 (dk_at dksX10_speaker_0 13 rfl rfl)
theorem dX10_speaker_14 : decode cX10_speaker 14 = .ok (.i2l, 1) := dk_133 (dk_at dksX10_speaker_0 14 rfl rfl)
theorem dX10_speaker_15 : decode cX10_speaker 15 = .ok (.lconst 0, 1) := dk_9 (dk_at dksX10_speaker_0 15 rfl rfl)
theorem dX10_speaker_16 : decode cX10_speaker 16 = .ok (.ldc2_w 279, 3) := dk_20 1 23 (dk_at dksX10_speaker_0 16 rfl rfl)
theorem dX10_speaker_19 : decode cX10_speaker 19 = .ok (.invokestatic 133, 3) := dk_184 0 133 (dk_at dksX10_speaker_0 19 rfl rfl)
theorem dX10_speaker_22 : decode cX10_speaker 22 = .ok (.ifCond .eq 7, 3) := dk_153 0 7 (dk_at dksX10_speaker_1 0 rfl rfl)
theorem dX10_speaker_25 : decode cX10_speaker 25 = .ok (.iconst 0, 1) := dk_3 (dk_at dksX10_speaker_1 3 rfl rfl)
theorem dX10_speaker_26 : decode cX10_speaker 26 = .ok (.goto 4, 3) := dk_167 0 4 (dk_at dksX10_speaker_1 4 rfl rfl)
theorem dX10_speaker_29 : decode cX10_speaker 29 = .ok (.iconst 2, 1) := dk_5 (dk_at dksX10_speaker_1 7 rfl rfl)
theorem dX10_speaker_30 : decode cX10_speaker 30 = .ok (.putfield 71, 3) := dk_181 0 71 (dk_at dksX10_speaker_1 8 rfl rfl)
theorem dX10_speaker_33 : decode cX10_speaker 33 = .ok (.aload_n 0, 1) := dk_42 (dk_at dksX10_speaker_1 11 rfl rfl)
theorem dX10_speaker_34 : decode cX10_speaker 34 = .ok (.getfield 71, 3) := dk_180 0 71 (dk_at dksX10_speaker_1 12 rfl rfl)
theorem dX10_speaker_37 : decode cX10_speaker 37 = .ok (.ifCond .le 5, 3) := dk_158 0 5 (dk_at dksX10_speaker_1 15 rfl rfl)
theorem dX10_speaker_40 : decode cX10_speaker 40 = .ok (.iconst 0, 1) := dk_3 (dk_at dksX10_speaker_1 18 rfl rfl)
theorem dX10_speaker_41 : decode cX10_speaker 41 = .ok (.ireturn, 1) := dk_172 (dk_at dksX10_speaker_1 19 rfl rfl)
theorem dX10_speaker_42 : decode cX10_speaker 42 = .ok (.iload_n 2, 1) := dk_28 (dk_at dksX10_speaker_1 20 rfl rfl)
theorem dX10_speaker_43 : decode cX10_speaker 43 = .ok (.iconst 3, 1) := dk_6 (dk_at dksX10_speaker_1 21 rfl rfl)
theorem dX10_speaker_44 : decode cX10_speaker 44 = .ok (.if_icmp .ge 12, 3) := dk_162 0 12 (dk_at dksX10_speaker_2 0 rfl rfl)
theorem dX10_speaker_47 : decode cX10_speaker 47 = .ok (.aload_n 0, 1) := dk_42 (dk_at dksX10_speaker_2 3 rfl rfl)
theorem dX10_speaker_48 : decode cX10_speaker 48 = .ok (.iload_n 1, 1) := dk_27 (dk_at dksX10_speaker_2 4 rfl rfl)
theorem dX10_speaker_49 : decode cX10_speaker 49 = .ok (.iload_n 2, 1) := dk_28 (dk_at dksX10_speaker_2 5 rfl rfl)
theorem dX10_speaker_50 : decode cX10_speaker 50 = .ok (.invokevirtual 267, 3) := dk_182 1 11 (dk_at dksX10_speaker_2 6 rfl rfl)
theorem dX10_speaker_53 : decode cX10_speaker 53 = .ok (.goto 8, 3) := dk_167 0 8 (dk_at dksX10_speaker_2 9 rfl rfl)
theorem dX10_speaker_56 : decode cX10_speaker 56 = .ok (.aload_n 0, 1) := dk_42 (dk_at dksX10_speaker_2 12 rfl rfl)
theorem dX10_speaker_57 : decode cX10_speaker 57 = .ok (.iload_n 1, 1) := dk_27 (dk_at dksX10_speaker_2 13 rfl rfl)
theorem dX10_speaker_58 : decode cX10_speaker 58 = .ok (.invokevirtual 281, 3) := dk_182 1 25 (dk_at dksX10_speaker_2 14 rfl rfl)
theorem dX10_speaker_61 : decode cX10_speaker 61 = .ok (.ireturn, 1) := dk_172 (dk_at dksX10_speaker_2 17 rfl rfl)
abbrev cX10_turnsOf : ByteArray := prog_33_method_42_code
def yX10_turnsOf : MethodName := ⟨RX10, "turnsOf", "(I)I"⟩
def dkwX10_turnsOf_1 : List UInt8 := [160, 0, 7, 4, 167, 0, 4, 3, 96, 61, 132, 3, 1, 167, 255, 225, 28, 172]
abbrev dktX10_turnsOf_1 : List UInt8 := dkwX10_turnsOf_1 ++ []
def dkwX10_turnsOf_0 : List UInt8 := [3, 61, 3, 62, 29, 42, 180, 0, 9, 16, 6, 46, 162, 0, 26, 28, 42, 29, 182, 1, 20, 27]
abbrev dktX10_turnsOf_0 : List UInt8 := dkwX10_turnsOf_0 ++ dktX10_turnsOf_1
theorem dksX10_turnsOf_0 : cX10_turnsOf.data.toList.drop 0 = dktX10_turnsOf_0 := by decide +kernel
theorem dksX10_turnsOf_1 : cX10_turnsOf.data.toList.drop 22 = dktX10_turnsOf_1 := dk_seg dksX10_turnsOf_0 22 rfl rfl
theorem dX10_turnsOf_0 : decode cX10_turnsOf 0 = .ok (.iconst 0, 1) := dk_3 (dk_at dksX10_turnsOf_0 0 rfl rfl)
theorem dX10_turnsOf_1 : decode cX10_turnsOf 1 = .ok (.istore_n 2, 1) := dk_61 (dk_at dksX10_turnsOf_0 1 rfl rfl)
theorem dX10_turnsOf_2 : decode cX10_turnsOf 2 = .ok (.iconst 0, 1) := dk_3 (dk_at dksX10_turnsOf_0 2 rfl rfl)
theorem dX10_turnsOf_3 : decode cX10_turnsOf 3 = .ok (.istore_n 3, 1) := dk_62 (dk_at dksX10_turnsOf_0 3 rfl rfl)
theorem dX10_turnsOf_4 : decode cX10_turnsOf 4 = .ok (.iload_n 3, 1) := dk_29 (dk_at dksX10_turnsOf_0 4 rfl rfl)
theorem dX10_turnsOf_5 : decode cX10_turnsOf 5 = .ok (.aload_n 0, 1) := dk_42 (dk_at dksX10_turnsOf_0 5 rfl rfl)
theorem dX10_turnsOf_6 : decode cX10_turnsOf 6 = .ok (.getfield 9, 3) := dk_180 0 9 (dk_at dksX10_turnsOf_0 6 rfl rfl)
theorem dX10_turnsOf_9 : decode cX10_turnsOf 9 = .ok (.bipush 6, 2) := dk_16 6 (dk_at dksX10_turnsOf_0 9 rfl rfl)
theorem dX10_turnsOf_11 : decode cX10_turnsOf 11 = .ok (.iaload, 1) := dk_46 (dk_at dksX10_turnsOf_0 11 rfl rfl)
theorem dX10_turnsOf_12 : decode cX10_turnsOf 12 = .ok (.if_icmp .ge 26, 3) := dk_162 0 26 (dk_at dksX10_turnsOf_0 12 rfl rfl)
theorem dX10_turnsOf_15 : decode cX10_turnsOf 15 = .ok (.iload_n 2, 1) := dk_28 (dk_at dksX10_turnsOf_0 15 rfl rfl)
theorem dX10_turnsOf_16 : decode cX10_turnsOf 16 = .ok (.aload_n 0, 1) := dk_42 (dk_at dksX10_turnsOf_0 16 rfl rfl)
theorem dX10_turnsOf_17 : decode cX10_turnsOf 17 = .ok (.iload_n 3, 1) := dk_29 (dk_at dksX10_turnsOf_0 17 rfl rfl)
theorem dX10_turnsOf_18 : decode cX10_turnsOf 18 = .ok (.invokevirtual 276, 3) := dk_182 1 20 (dk_at dksX10_turnsOf_0 18 rfl rfl)
theorem dX10_turnsOf_21 : decode cX10_turnsOf 21 = .ok (.iload_n 1, 1) := dk_27 (dk_at dksX10_turnsOf_0 21 rfl rfl)
theorem dX10_turnsOf_22 : decode cX10_turnsOf 22 = .ok (.if_icmp .ne 7, 3) := dk_160 0 7 (dk_at dksX10_turnsOf_1 0 rfl rfl)
theorem dX10_turnsOf_25 : decode cX10_turnsOf 25 = .ok (.iconst 1, 1) := dk_4 (dk_at dksX10_turnsOf_1 3 rfl rfl)
theorem dX10_turnsOf_26 : decode cX10_turnsOf 26 = .ok (.goto 4, 3) := dk_167 0 4 (dk_at dksX10_turnsOf_1 4 rfl rfl)
theorem dX10_turnsOf_29 : decode cX10_turnsOf 29 = .ok (.iconst 0, 1) := dk_3 (dk_at dksX10_turnsOf_1 7 rfl rfl)
theorem dX10_turnsOf_30 : decode cX10_turnsOf 30 = .ok (.iadd, 1) := dk_96 (dk_at dksX10_turnsOf_1 8 rfl rfl)
theorem dX10_turnsOf_31 : decode cX10_turnsOf 31 = .ok (.istore_n 2, 1) := dk_61 (dk_at dksX10_turnsOf_1 9 rfl rfl)
theorem dX10_turnsOf_32 : decode cX10_turnsOf 32 = .ok (.iinc 3 1, 3) := dk_132 3 1 (dk_at dksX10_turnsOf_1 10 rfl rfl)
theorem dX10_turnsOf_35 : decode cX10_turnsOf 35 = .ok (.goto (-31), 3) := dk_167 255 225 (dk_at dksX10_turnsOf_1 13 rfl rfl)
theorem dX10_turnsOf_38 : decode cX10_turnsOf 38 = .ok (.iload_n 2, 1) := dk_28 (dk_at dksX10_turnsOf_1 16 rfl rfl)
theorem dX10_turnsOf_39 : decode cX10_turnsOf 39 = .ok (.ireturn, 1) := dk_172 (dk_at dksX10_turnsOf_1 17 rfl rfl)
abbrev cX10_who : ByteArray := prog_33_method_37_code
def yX10_who : MethodName := ⟨RX10, "who", "(I)I"⟩
def dkwX10_who_0 : List UInt8 := [42, 180, 0, 9, 16, 26, 5, 27, 104, 96, 46, 172]
abbrev dktX10_who_0 : List UInt8 := dkwX10_who_0 ++ []
theorem dksX10_who_0 : cX10_who.data.toList.drop 0 = dktX10_who_0 := by decide +kernel
theorem dX10_who_0 : decode cX10_who 0 = .ok (.aload_n 0, 1) := dk_42 (dk_at dksX10_who_0 0 rfl rfl)
theorem dX10_who_1 : decode cX10_who 1 = .ok (.getfield 9, 3) := dk_180 0 9 (dk_at dksX10_who_0 1 rfl rfl)
theorem dX10_who_4 : decode cX10_who 4 = .ok (.bipush 26, 2) := dk_16 26 (dk_at dksX10_who_0 4 rfl rfl)
theorem dX10_who_6 : decode cX10_who 6 = .ok (.iconst 2, 1) := dk_5 (dk_at dksX10_who_0 6 rfl rfl)
theorem dX10_who_7 : decode cX10_who 7 = .ok (.iload_n 1, 1) := dk_27 (dk_at dksX10_who_0 7 rfl rfl)
theorem dX10_who_8 : decode cX10_who 8 = .ok (.imul, 1) := dk_104 (dk_at dksX10_who_0 8 rfl rfl)
theorem dX10_who_9 : decode cX10_who 9 = .ok (.iadd, 1) := dk_96 (dk_at dksX10_who_0 9 rfl rfl)
theorem dX10_who_10 : decode cX10_who 10 = .ok (.iaload, 1) := dk_46 (dk_at dksX10_who_0 10 rfl rfl)
theorem dX10_who_11 : decode cX10_who 11 = .ok (.ireturn, 1) := dk_172 (dk_at dksX10_who_0 11 rfl rfl)
abbrev cX10_turn : ByteArray := prog_33_method_44_code
def yX10_turn : MethodName := ⟨RX10, "turn", "(I)I"⟩
def dkwX10_turn_1 : List UInt8 := [182, 0, 237, 172]
abbrev dktX10_turn_1 : List UInt8 := dkwX10_turn_1 ++ []
def dkwX10_turn_0 : List UInt8 := [42, 3, 181, 0, 71, 42, 27, 182, 1, 28, 153, 0, 11, 42, 27, 182, 1, 20, 167, 0, 8, 42, 4]
abbrev dktX10_turn_0 : List UInt8 := dkwX10_turn_0 ++ dktX10_turn_1
theorem dksX10_turn_0 : cX10_turn.data.toList.drop 0 = dktX10_turn_0 := by decide +kernel
theorem dksX10_turn_1 : cX10_turn.data.toList.drop 23 = dktX10_turn_1 := dk_seg dksX10_turn_0 23 rfl rfl
theorem dX10_turn_0 : decode cX10_turn 0 = .ok (.aload_n 0, 1) := dk_42 (dk_at dksX10_turn_0 0 rfl rfl)
theorem dX10_turn_1 : decode cX10_turn 1 = .ok (.iconst 0, 1) := dk_3 (dk_at dksX10_turn_0 1 rfl rfl)
theorem dX10_turn_2 : decode cX10_turn 2 = .ok (.putfield 71, 3) := dk_181 0 71 (dk_at dksX10_turn_0 2 rfl rfl)
theorem dX10_turn_5 : decode cX10_turn 5 = .ok (.aload_n 0, 1) := dk_42 (dk_at dksX10_turn_0 5 rfl rfl)
theorem dX10_turn_6 : decode cX10_turn 6 = .ok (.iload_n 1, 1) := dk_27 (dk_at dksX10_turn_0 6 rfl rfl)
theorem dX10_turn_7 : decode cX10_turn 7 = .ok (.invokevirtual 284, 3) := dk_182 1 28 (dk_at dksX10_turn_0 7 rfl rfl)
theorem dX10_turn_10 : decode cX10_turn 10 = .ok (.ifCond .eq 11, 3) := dk_153 0 11 (dk_at dksX10_turn_0 10 rfl rfl)
theorem dX10_turn_13 : decode cX10_turn 13 = .ok (.aload_n 0, 1) := dk_42 (dk_at dksX10_turn_0 13 rfl rfl)
theorem dX10_turn_14 : decode cX10_turn 14 = .ok (.iload_n 1, 1) := dk_27 (dk_at dksX10_turn_0 14 rfl rfl)
theorem dX10_turn_15 : decode cX10_turn 15 = .ok (.invokevirtual 276, 3) := dk_182 1 20 (dk_at dksX10_turn_0 15 rfl rfl)
theorem dX10_turn_18 : decode cX10_turn 18 = .ok (.goto 8, 3) := dk_167 0 8 (dk_at dksX10_turn_0 18 rfl rfl)
theorem dX10_turn_21 : decode cX10_turn 21 = .ok (.aload_n 0, 1) := dk_42 (dk_at dksX10_turn_0 21 rfl rfl)
theorem dX10_turn_22 : decode cX10_turn 22 = .ok (.iconst 1, 1) := dk_4 (dk_at dksX10_turn_0 22 rfl rfl)
theorem dX10_turn_23 : decode cX10_turn 23 = .ok (.invokevirtual 237, 3) := dk_182 0 237 (dk_at dksX10_turn_1 0 rfl rfl)
theorem dX10_turn_26 : decode cX10_turn 26 = .ok (.ireturn, 1) := dk_172 (dk_at dksX10_turn_1 3 rfl rfl)
abbrev cX10_isTurn : ByteArray := prog_33_method_35_code
def yX10_isTurn : MethodName := ⟨RX10, "isTurn", "(I)Z"⟩
def dkwX10_isTurn_0 : List UInt8 := [27, 133, 9, 42, 180, 0, 9, 16, 6, 46, 4, 100, 133, 184, 0, 133, 172]
abbrev dktX10_isTurn_0 : List UInt8 := dkwX10_isTurn_0 ++ []
theorem dksX10_isTurn_0 : cX10_isTurn.data.toList.drop 0 = dktX10_isTurn_0 := by decide +kernel
theorem dX10_isTurn_0 : decode cX10_isTurn 0 = .ok (.iload_n 1, 1) := dk_27 (dk_at dksX10_isTurn_0 0 rfl rfl)
theorem dX10_isTurn_1 : decode cX10_isTurn 1 = .ok (.i2l, 1) := dk_133 (dk_at dksX10_isTurn_0 1 rfl rfl)
theorem dX10_isTurn_2 : decode cX10_isTurn 2 = .ok (.lconst 0, 1) := dk_9 (dk_at dksX10_isTurn_0 2 rfl rfl)
theorem dX10_isTurn_3 : decode cX10_isTurn 3 = .ok (.aload_n 0, 1) := dk_42 (dk_at dksX10_isTurn_0 3 rfl rfl)
theorem dX10_isTurn_4 : decode cX10_isTurn 4 = .ok (.getfield 9, 3) := dk_180 0 9 (dk_at dksX10_isTurn_0 4 rfl rfl)
theorem dX10_isTurn_7 : decode cX10_isTurn 7 = .ok (.bipush 6, 2) := dk_16 6 (dk_at dksX10_isTurn_0 7 rfl rfl)
theorem dX10_isTurn_9 : decode cX10_isTurn 9 = .ok (.iaload, 1) := dk_46 (dk_at dksX10_isTurn_0 9 rfl rfl)
theorem dX10_isTurn_10 : decode cX10_isTurn 10 = .ok (.iconst 1, 1) := dk_4 (dk_at dksX10_isTurn_0 10 rfl rfl)
theorem dX10_isTurn_11 : decode cX10_isTurn 11 = .ok (.isub, 1) := dk_100 (dk_at dksX10_isTurn_0 11 rfl rfl)
theorem dX10_isTurn_12 : decode cX10_isTurn 12 = .ok (.i2l, 1) := dk_133 (dk_at dksX10_isTurn_0 12 rfl rfl)
theorem dX10_isTurn_13 : decode cX10_isTurn 13 = .ok (.invokestatic 133, 3) := dk_184 0 133 (dk_at dksX10_isTurn_0 13 rfl rfl)
theorem dX10_isTurn_16 : decode cX10_isTurn 16 = .ok (.ireturn, 1) := dk_172 (dk_at dksX10_isTurn_0 16 rfl rfl)
abbrev cX10_left : ByteArray := prog_33_method_62_code
def yX10_left : MethodName := ⟨RX10, "left", "(I)I"⟩
def dkwX10_left_1 : List UInt8 := [27, 182, 1, 77, 172]
abbrev dktX10_left_1 : List UInt8 := dkwX10_left_1 ++ []
def dkwX10_left_0 : List UInt8 := [42, 3, 181, 0, 71, 42, 27, 182, 1, 86, 154, 0, 9, 42, 4, 182, 0, 237, 172, 42, 182, 1, 74, 42]
abbrev dktX10_left_0 : List UInt8 := dkwX10_left_0 ++ dktX10_left_1
theorem dksX10_left_0 : cX10_left.data.toList.drop 0 = dktX10_left_0 := by decide +kernel
theorem dksX10_left_1 : cX10_left.data.toList.drop 24 = dktX10_left_1 := dk_seg dksX10_left_0 24 rfl rfl
theorem dX10_left_0 : decode cX10_left 0 = .ok (.aload_n 0, 1) := dk_42 (dk_at dksX10_left_0 0 rfl rfl)
theorem dX10_left_1 : decode cX10_left 1 = .ok (.iconst 0, 1) := dk_3 (dk_at dksX10_left_0 1 rfl rfl)
theorem dX10_left_2 : decode cX10_left 2 = .ok (.putfield 71, 3) := dk_181 0 71 (dk_at dksX10_left_0 2 rfl rfl)
theorem dX10_left_5 : decode cX10_left 5 = .ok (.aload_n 0, 1) := dk_42 (dk_at dksX10_left_0 5 rfl rfl)
theorem dX10_left_6 : decode cX10_left 6 = .ok (.iload_n 1, 1) := dk_27 (dk_at dksX10_left_0 6 rfl rfl)
theorem dX10_left_7 : decode cX10_left 7 = .ok (.invokevirtual 342, 3) := dk_182 1 86 (dk_at dksX10_left_0 7 rfl rfl)
theorem dX10_left_10 : decode cX10_left 10 = .ok (.ifCond .ne 9, 3) := dk_154 0 9 (dk_at dksX10_left_0 10 rfl rfl)
theorem dX10_left_13 : decode cX10_left 13 = .ok (.aload_n 0, 1) := dk_42 (dk_at dksX10_left_0 13 rfl rfl)
theorem dX10_left_14 : decode cX10_left 14 = .ok (.iconst 1, 1) := dk_4 (dk_at dksX10_left_0 14 rfl rfl)
theorem dX10_left_15 : decode cX10_left 15 = .ok (.invokevirtual 237, 3) := dk_182 0 237 (dk_at dksX10_left_0 15 rfl rfl)
theorem dX10_left_18 : decode cX10_left 18 = .ok (.ireturn, 1) := dk_172 (dk_at dksX10_left_0 18 rfl rfl)
theorem dX10_left_19 : decode cX10_left 19 = .ok (.aload_n 0, 1) := dk_42 (dk_at dksX10_left_0 19 rfl rfl)
theorem dX10_left_20 : decode cX10_left 20 = .ok (.invokevirtual 330, 3) := dk_182 1 74 (dk_at dksX10_left_0 20 rfl rfl)
theorem dX10_left_23 : decode cX10_left 23 = .ok (.aload_n 0, 1) := dk_42 (dk_at dksX10_left_0 23 rfl rfl)
theorem dX10_left_24 : decode cX10_left 24 = .ok (.iload_n 1, 1) := dk_27 (dk_at dksX10_left_1 0 rfl rfl)
theorem dX10_left_25 : decode cX10_left 25 = .ok (.invokevirtual 333, 3) := dk_182 1 77 (dk_at dksX10_left_1 1 rfl rfl)
theorem dX10_left_28 : decode cX10_left 28 = .ok (.ireturn, 1) := dk_172 (dk_at dksX10_left_1 4 rfl rfl)
abbrev cX10_isBehind : ByteArray := prog_33_method_61_code
def yX10_isBehind : MethodName := ⟨RX10, "isBehind", "(I)Z"⟩
def dkwX10_isBehind_0 : List UInt8 := [27, 133, 9, 42, 180, 0, 9, 16, 6, 46, 133, 184, 0, 133, 172]
abbrev dktX10_isBehind_0 : List UInt8 := dkwX10_isBehind_0 ++ []
theorem dksX10_isBehind_0 : cX10_isBehind.data.toList.drop 0 = dktX10_isBehind_0 := by decide +kernel
theorem dX10_isBehind_0 : decode cX10_isBehind 0 = .ok (.iload_n 1, 1) := dk_27 (dk_at dksX10_isBehind_0 0 rfl rfl)
theorem dX10_isBehind_1 : decode cX10_isBehind 1 = .ok (.i2l, 1) := dk_133 (dk_at dksX10_isBehind_0 1 rfl rfl)
theorem dX10_isBehind_2 : decode cX10_isBehind 2 = .ok (.lconst 0, 1) := dk_9 (dk_at dksX10_isBehind_0 2 rfl rfl)
theorem dX10_isBehind_3 : decode cX10_isBehind 3 = .ok (.aload_n 0, 1) := dk_42 (dk_at dksX10_isBehind_0 3 rfl rfl)
theorem dX10_isBehind_4 : decode cX10_isBehind 4 = .ok (.getfield 9, 3) := dk_180 0 9 (dk_at dksX10_isBehind_0 4 rfl rfl)
theorem dX10_isBehind_7 : decode cX10_isBehind 7 = .ok (.bipush 6, 2) := dk_16 6 (dk_at dksX10_isBehind_0 7 rfl rfl)
theorem dX10_isBehind_9 : decode cX10_isBehind 9 = .ok (.iaload, 1) := dk_46 (dk_at dksX10_isBehind_0 9 rfl rfl)
theorem dX10_isBehind_10 : decode cX10_isBehind 10 = .ok (.i2l, 1) := dk_133 (dk_at dksX10_isBehind_0 10 rfl rfl)
theorem dX10_isBehind_11 : decode cX10_isBehind 11 = .ok (.invokestatic 133, 3) := dk_184 0 133 (dk_at dksX10_isBehind_0 11 rfl rfl)
theorem dX10_isBehind_14 : decode cX10_isBehind 14 = .ok (.ireturn, 1) := dk_172 (dk_at dksX10_isBehind_0 14 rfl rfl)
abbrev cX10_lays : ByteArray := prog_33_method_58_code
def yX10_lays : MethodName := ⟨RX10, "lays", "()V"⟩
def dkwX10_lays_3 : List UInt8 := [3, 182, 1, 33, 132, 3, 1, 167, 255, 214, 132, 1, 1, 167, 255, 183, 42, 16, 21, 181, 1, 41, 177]
abbrev dktX10_lays_3 : List UInt8 := dkwX10_lays_3 ++ []
def dkwX10_lays_2 : List UInt8 := [96, 29, 42, 27, 29, 182, 1, 37, 153, 0, 16, 42, 28, 29, 182, 1, 37, 153, 0, 7, 4, 167, 0, 4]
abbrev dktX10_lays_2 : List UInt8 := dkwX10_lays_2 ++ dktX10_lays_3
def dkwX10_lays_1 : List UInt8 := [16, 21, 181, 1, 41, 42, 27, 182, 1, 71, 61, 3, 62, 29, 42, 180, 0, 250, 162, 0, 40, 42, 27, 4]
abbrev dktX10_lays_1 : List UInt8 := dkwX10_lays_1 ++ dktX10_lays_2
def dkwX10_lays_0 : List UInt8 := [42, 182, 0, 253, 42, 3, 4, 182, 1, 67, 3, 60, 27, 42, 180, 0, 9, 16, 6, 46, 162, 0, 68, 42]
abbrev dktX10_lays_0 : List UInt8 := dkwX10_lays_0 ++ dktX10_lays_1
theorem dksX10_lays_0 : cX10_lays.data.toList.drop 0 = dktX10_lays_0 := by decide +kernel
theorem dksX10_lays_1 : cX10_lays.data.toList.drop 24 = dktX10_lays_1 := dk_seg dksX10_lays_0 24 rfl rfl
theorem dksX10_lays_2 : cX10_lays.data.toList.drop 48 = dktX10_lays_2 := dk_seg dksX10_lays_1 24 rfl rfl
theorem dksX10_lays_3 : cX10_lays.data.toList.drop 72 = dktX10_lays_3 := dk_seg dksX10_lays_2 24 rfl rfl
theorem dX10_lays_0 : decode cX10_lays 0 = .ok (.aload_n 0, 1) := dk_42 (dk_at dksX10_lays_0 0 rfl rfl)
theorem dX10_lays_1 : decode cX10_lays 1 = .ok (.invokevirtual 253, 3) := dk_182 0 253 (dk_at dksX10_lays_0 1 rfl rfl)
theorem dX10_lays_4 : decode cX10_lays 4 = .ok (.aload_n 0, 1) := dk_42 (dk_at dksX10_lays_0 4 rfl rfl)
theorem dX10_lays_5 : decode cX10_lays 5 = .ok (.iconst 0, 1) := dk_3 (dk_at dksX10_lays_0 5 rfl rfl)
theorem dX10_lays_6 : decode cX10_lays 6 = .ok (.iconst 1, 1) := dk_4 (dk_at dksX10_lays_0 6 rfl rfl)
theorem dX10_lays_7 : decode cX10_lays 7 = .ok (.invokevirtual 323, 3) := dk_182 1 67 (dk_at dksX10_lays_0 7 rfl rfl)
theorem dX10_lays_10 : decode cX10_lays 10 = .ok (.iconst 0, 1) := dk_3 (dk_at dksX10_lays_0 10 rfl rfl)
theorem dX10_lays_11 : decode cX10_lays 11 = .ok (.istore_n 1, 1) := dk_60 (dk_at dksX10_lays_0 11 rfl rfl)
theorem dX10_lays_12 : decode cX10_lays 12 = .ok (.iload_n 1, 1) := dk_27 (dk_at dksX10_lays_0 12 rfl rfl)
theorem dX10_lays_13 : decode cX10_lays 13 = .ok (.aload_n 0, 1) := dk_42 (dk_at dksX10_lays_0 13 rfl rfl)
theorem dX10_lays_14 : decode cX10_lays 14 = .ok (.getfield 9, 3) := dk_180 0 9 (dk_at dksX10_lays_0 14 rfl rfl)
theorem dX10_lays_17 : decode cX10_lays 17 = .ok (.bipush 6, 2) := dk_16 6 (dk_at dksX10_lays_0 17 rfl rfl)
theorem dX10_lays_19 : decode cX10_lays 19 = .ok (.iaload, 1) := dk_46 (dk_at dksX10_lays_0 19 rfl rfl)
theorem dX10_lays_20 : decode cX10_lays 20 = .ok (.if_icmp .ge 68, 3) := dk_162 0 68 (dk_at dksX10_lays_0 20 rfl rfl)
theorem dX10_lays_23 : decode cX10_lays 23 = .ok (.aload_n 0, 1) := dk_42 (dk_at dksX10_lays_0 23 rfl rfl)
theorem dX10_lays_24 : decode cX10_lays 24 = .ok (.bipush 21, 2) := dk_16 21 (dk_at dksX10_lays_1 0 rfl rfl)
theorem dX10_lays_26 : decode cX10_lays 26 = .ok (.putfield 297, 3) := dk_181 1 41 (dk_at dksX10_lays_1 2 rfl rfl)
theorem dX10_lays_29 : decode cX10_lays 29 = .ok (.aload_n 0, 1) := dk_42 (dk_at dksX10_lays_1 5 rfl rfl)
theorem dX10_lays_30 : decode cX10_lays 30 = .ok (.iload_n 1, 1) := dk_27 (dk_at dksX10_lays_1 6 rfl rfl)
theorem dX10_lays_31 : decode cX10_lays 31 = .ok (.invokevirtual 327, 3) := dk_182 1 71 (dk_at dksX10_lays_1 7 rfl rfl)
theorem dX10_lays_34 : decode cX10_lays 34 = .ok (.istore_n 2, 1) := dk_61 (dk_at dksX10_lays_1 10 rfl rfl)
theorem dX10_lays_35 : decode cX10_lays 35 = .ok (.iconst 0, 1) := dk_3 (dk_at dksX10_lays_1 11 rfl rfl)
theorem dX10_lays_36 : decode cX10_lays 36 = .ok (.istore_n 3, 1) := dk_62 (dk_at dksX10_lays_1 12 rfl rfl)
theorem dX10_lays_37 : decode cX10_lays 37 = .ok (.iload_n 3, 1) := dk_29 (dk_at dksX10_lays_1 13 rfl rfl)
theorem dX10_lays_38 : decode cX10_lays 38 = .ok (.aload_n 0, 1) := dk_42 (dk_at dksX10_lays_1 14 rfl rfl)
theorem dX10_lays_39 : decode cX10_lays 39 = .ok (.getfield 250, 3) := dk_180 0 250 (dk_at dksX10_lays_1 15 rfl rfl)
theorem dX10_lays_42 : decode cX10_lays 42 = .ok (.if_icmp .ge 40, 3) := dk_162 0 40 (dk_at dksX10_lays_1 18 rfl rfl)
theorem dX10_lays_45 : decode cX10_lays 45 = .ok (.aload_n 0, 1) := dk_42 (dk_at dksX10_lays_1 21 rfl rfl)
theorem dX10_lays_46 : decode cX10_lays 46 = .ok (.iload_n 1, 1) := dk_27 (dk_at dksX10_lays_1 22 rfl rfl)
theorem dX10_lays_47 : decode cX10_lays 47 = .ok (.iconst 1, 1) := dk_4 (dk_at dksX10_lays_1 23 rfl rfl)
theorem dX10_lays_48 : decode cX10_lays 48 = .ok (.iadd, 1) := dk_96 (dk_at dksX10_lays_2 0 rfl rfl)
theorem dX10_lays_49 : decode cX10_lays 49 = .ok (.iload_n 3, 1) := dk_29 (dk_at dksX10_lays_2 1 rfl rfl)
theorem dX10_lays_50 : decode cX10_lays 50 = .ok (.aload_n 0, 1) := dk_42 (dk_at dksX10_lays_2 2 rfl rfl)
theorem dX10_lays_51 : decode cX10_lays 51 = .ok (.iload_n 1, 1) := dk_27 (dk_at dksX10_lays_2 3 rfl rfl)
theorem dX10_lays_52 : decode cX10_lays 52 = .ok (.iload_n 3, 1) := dk_29 (dk_at dksX10_lays_2 4 rfl rfl)
theorem dX10_lays_53 : decode cX10_lays 53 = .ok (.invokevirtual 293, 3) := dk_182 1 37 (dk_at dksX10_lays_2 5 rfl rfl)
theorem dX10_lays_56 : decode cX10_lays 56 = .ok (.ifCond .eq 16, 3) := dk_153 0 16 (dk_at dksX10_lays_2 8 rfl rfl)
theorem dX10_lays_59 : decode cX10_lays 59 = .ok (.aload_n 0, 1) := dk_42 (dk_at dksX10_lays_2 11 rfl rfl)
theorem dX10_lays_60 : decode cX10_lays 60 = .ok (.iload_n 2, 1) := dk_28 (dk_at dksX10_lays_2 12 rfl rfl)
theorem dX10_lays_61 : decode cX10_lays 61 = .ok (.iload_n 3, 1) := dk_29 (dk_at dksX10_lays_2 13 rfl rfl)
theorem dX10_lays_62 : decode cX10_lays 62 = .ok (.invokevirtual 293, 3) := dk_182 1 37 (dk_at dksX10_lays_2 14 rfl rfl)
theorem dX10_lays_65 : decode cX10_lays 65 = .ok (.ifCond .eq 7, 3) := dk_153 0 7 (dk_at dksX10_lays_2 17 rfl rfl)
theorem dX10_lays_68 : decode cX10_lays 68 = .ok (.iconst 1, 1) := dk_4 (dk_at dksX10_lays_2 20 rfl rfl)
theorem dX10_lays_69 : decode cX10_lays 69 = .ok (.goto 4, 3) := dk_167 0 4 (dk_at dksX10_lays_2 21 rfl rfl)
theorem dX10_lays_72 : decode cX10_lays 72 = .ok (.iconst 0, 1) := dk_3 (dk_at dksX10_lays_3 0 rfl rfl)
theorem dX10_lays_73 : decode cX10_lays 73 = .ok (.invokevirtual 289, 3) := dk_182 1 33 (dk_at dksX10_lays_3 1 rfl rfl)
theorem dX10_lays_76 : decode cX10_lays 76 = .ok (.iinc 3 1, 3) := dk_132 3 1 (dk_at dksX10_lays_3 4 rfl rfl)
theorem dX10_lays_79 : decode cX10_lays 79 = .ok (.goto (-42), 3) := dk_167 255 214 (dk_at dksX10_lays_3 7 rfl rfl)
theorem dX10_lays_82 : decode cX10_lays 82 = .ok (.iinc 1 1, 3) := dk_132 1 1 (dk_at dksX10_lays_3 10 rfl rfl)
theorem dX10_lays_85 : decode cX10_lays 85 = .ok (.goto (-73), 3) := dk_167 255 183 (dk_at dksX10_lays_3 13 rfl rfl)
theorem dX10_lays_88 : decode cX10_lays 88 = .ok (.aload_n 0, 1) := dk_42 (dk_at dksX10_lays_3 16 rfl rfl)
theorem dX10_lays_89 : decode cX10_lays 89 = .ok (.bipush 21, 2) := dk_16 21 (dk_at dksX10_lays_3 17 rfl rfl)
theorem dX10_lays_91 : decode cX10_lays 91 = .ok (.putfield 297, 3) := dk_181 1 41 (dk_at dksX10_lays_3 19 rfl rfl)
theorem dX10_lays_94 : decode cX10_lays 94 = .ok (.return_, 1) := dk_177 (dk_at dksX10_lays_3 22 rfl rfl)
abbrev cX10_fills : ByteArray := prog_33_method_47_code
def yX10_fills : MethodName := ⟨RX10, "fills", "(IZ)V"⟩
def dkwX10_fills_0 : List UInt8 := [3, 62, 29, 42, 180, 0, 250, 162, 0, 16, 42, 27, 29, 28, 182, 1, 33, 132, 3, 1, 167, 255, 238, 177]
abbrev dktX10_fills_0 : List UInt8 := dkwX10_fills_0 ++ []
theorem dksX10_fills_0 : cX10_fills.data.toList.drop 0 = dktX10_fills_0 := by decide +kernel
theorem dX10_fills_0 : decode cX10_fills 0 = .ok (.iconst 0, 1) := dk_3 (dk_at dksX10_fills_0 0 rfl rfl)
theorem dX10_fills_1 : decode cX10_fills 1 = .ok (.istore_n 3, 1) := dk_62 (dk_at dksX10_fills_0 1 rfl rfl)
theorem dX10_fills_2 : decode cX10_fills 2 = .ok (.iload_n 3, 1) := dk_29 (dk_at dksX10_fills_0 2 rfl rfl)
theorem dX10_fills_3 : decode cX10_fills 3 = .ok (.aload_n 0, 1) := dk_42 (dk_at dksX10_fills_0 3 rfl rfl)
theorem dX10_fills_4 : decode cX10_fills 4 = .ok (.getfield 250, 3) := dk_180 0 250 (dk_at dksX10_fills_0 4 rfl rfl)
theorem dX10_fills_7 : decode cX10_fills 7 = .ok (.if_icmp .ge 16, 3) := dk_162 0 16 (dk_at dksX10_fills_0 7 rfl rfl)
theorem dX10_fills_10 : decode cX10_fills 10 = .ok (.aload_n 0, 1) := dk_42 (dk_at dksX10_fills_0 10 rfl rfl)
theorem dX10_fills_11 : decode cX10_fills 11 = .ok (.iload_n 1, 1) := dk_27 (dk_at dksX10_fills_0 11 rfl rfl)
theorem dX10_fills_12 : decode cX10_fills 12 = .ok (.iload_n 3, 1) := dk_29 (dk_at dksX10_fills_0 12 rfl rfl)
theorem dX10_fills_13 : decode cX10_fills 13 = .ok (.iload_n 2, 1) := dk_28 (dk_at dksX10_fills_0 13 rfl rfl)
theorem dX10_fills_14 : decode cX10_fills 14 = .ok (.invokevirtual 289, 3) := dk_182 1 33 (dk_at dksX10_fills_0 14 rfl rfl)
theorem dX10_fills_17 : decode cX10_fills 17 = .ok (.iinc 3 1, 3) := dk_132 3 1 (dk_at dksX10_fills_0 17 rfl rfl)
theorem dX10_fills_20 : decode cX10_fills 20 = .ok (.goto (-18), 3) := dk_167 255 238 (dk_at dksX10_fills_0 20 rfl rfl)
theorem dX10_fills_23 : decode cX10_fills 23 = .ok (.return_, 1) := dk_177 (dk_at dksX10_fills_0 23 rfl rfl)
abbrev cX10_puts : ByteArray := prog_33_method_46_code
def yX10_puts : MethodName := ⟨RX10, "puts", "(IIZ)V"⟩
def dkwX10_puts_2 : List UInt8 := [21, 4, 47, 22, 5, 20, 1, 31, 131, 127, 80, 177]
abbrev dktX10_puts_2 : List UInt8 := dkwX10_puts_2 ++ []
def dkwX10_puts_1 : List UInt8 := [21, 4, 29, 153, 0, 16, 42, 180, 0, 39, 21, 4, 47, 22, 5, 129, 167, 0, 17, 42, 180, 0, 39]
abbrev dktX10_puts_1 : List UInt8 := dkwX10_puts_1 ++ dktX10_puts_2
def dkwX10_puts_0 : List UInt8 := [16, 29, 27, 104, 28, 16, 6, 122, 96, 54, 4, 10, 28, 16, 63, 126, 121, 55, 5, 42, 180, 0, 39]
abbrev dktX10_puts_0 : List UInt8 := dkwX10_puts_0 ++ dktX10_puts_1
theorem dksX10_puts_0 : cX10_puts.data.toList.drop 0 = dktX10_puts_0 := by decide +kernel
theorem dksX10_puts_1 : cX10_puts.data.toList.drop 23 = dktX10_puts_1 := dk_seg dksX10_puts_0 23 rfl rfl
theorem dksX10_puts_2 : cX10_puts.data.toList.drop 46 = dktX10_puts_2 := dk_seg dksX10_puts_1 23 rfl rfl
theorem dX10_puts_0 : decode cX10_puts 0 = .ok (.bipush 29, 2) := dk_16 29 (dk_at dksX10_puts_0 0 rfl rfl)
theorem dX10_puts_2 : decode cX10_puts 2 = .ok (.iload_n 1, 1) := dk_27 (dk_at dksX10_puts_0 2 rfl rfl)
theorem dX10_puts_3 : decode cX10_puts 3 = .ok (.imul, 1) := dk_104 (dk_at dksX10_puts_0 3 rfl rfl)
theorem dX10_puts_4 : decode cX10_puts 4 = .ok (.iload_n 2, 1) := dk_28 (dk_at dksX10_puts_0 4 rfl rfl)
theorem dX10_puts_5 : decode cX10_puts 5 = .ok (.bipush 6, 2) := dk_16 6 (dk_at dksX10_puts_0 5 rfl rfl)
theorem dX10_puts_7 : decode cX10_puts 7 = .ok (.ishr, 1) := dk_122 (dk_at dksX10_puts_0 7 rfl rfl)
theorem dX10_puts_8 : decode cX10_puts 8 = .ok (.iadd, 1) := dk_96 (dk_at dksX10_puts_0 8 rfl rfl)
theorem dX10_puts_9 : decode cX10_puts 9 = .ok (.istore 4, 2) := dk_54 4 (dk_at dksX10_puts_0 9 rfl rfl)
theorem dX10_puts_11 : decode cX10_puts 11 = .ok (.lconst 1, 1) := dk_10 (dk_at dksX10_puts_0 11 rfl rfl)
theorem dX10_puts_12 : decode cX10_puts 12 = .ok (.iload_n 2, 1) := dk_28 (dk_at dksX10_puts_0 12 rfl rfl)
theorem dX10_puts_13 : decode cX10_puts 13 = .ok (.bipush 63, 2) := dk_16 63 (dk_at dksX10_puts_0 13 rfl rfl)
theorem dX10_puts_15 : decode cX10_puts 15 = .ok (.iand, 1) := dk_126 (dk_at dksX10_puts_0 15 rfl rfl)
theorem dX10_puts_16 : decode cX10_puts 16 = .ok (.lshl, 1) := dk_121 (dk_at dksX10_puts_0 16 rfl rfl)
theorem dX10_puts_17 : decode cX10_puts 17 = .ok (.lstore 5, 2) := dk_55 5 (dk_at dksX10_puts_0 17 rfl rfl)
theorem dX10_puts_19 : decode cX10_puts 19 = .ok (.aload_n 0, 1) := dk_42 (dk_at dksX10_puts_0 19 rfl rfl)
theorem dX10_puts_20 : decode cX10_puts 20 = .ok (.getfield 39, 3) := dk_180 0 39 (dk_at dksX10_puts_0 20 rfl rfl)
theorem dX10_puts_23 : decode cX10_puts 23 = .ok (.iload 4, 2) := dk_21 4 (dk_at dksX10_puts_1 0 rfl rfl)
theorem dX10_puts_25 : decode cX10_puts 25 = .ok (.iload_n 3, 1) := dk_29 (dk_at dksX10_puts_1 2 rfl rfl)
theorem dX10_puts_26 : decode cX10_puts 26 = .ok (.ifCond .eq 16, 3) := dk_153 0 16 (dk_at dksX10_puts_1 3 rfl rfl)
theorem dX10_puts_29 : decode cX10_puts 29 = .ok (.aload_n 0, 1) := dk_42 (dk_at dksX10_puts_1 6 rfl rfl)
theorem dX10_puts_30 : decode cX10_puts 30 = .ok (.getfield 39, 3) := dk_180 0 39 (dk_at dksX10_puts_1 7 rfl rfl)
theorem dX10_puts_33 : decode cX10_puts 33 = .ok (.iload 4, 2) := dk_21 4 (dk_at dksX10_puts_1 10 rfl rfl)
theorem dX10_puts_35 : decode cX10_puts 35 = .ok (.laload, 1) := dk_47 (dk_at dksX10_puts_1 12 rfl rfl)
theorem dX10_puts_36 : decode cX10_puts 36 = .ok (.lload 5, 2) := dk_22 5 (dk_at dksX10_puts_1 13 rfl rfl)
theorem dX10_puts_38 : decode cX10_puts 38 = .ok (.lor, 1) := dk_129 (dk_at dksX10_puts_1 15 rfl rfl)
theorem dX10_puts_39 : decode cX10_puts 39 = .ok (.goto 17, 3) := dk_167 0 17 (dk_at dksX10_puts_1 16 rfl rfl)
theorem dX10_puts_42 : decode cX10_puts 42 = .ok (.aload_n 0, 1) := dk_42 (dk_at dksX10_puts_1 19 rfl rfl)
theorem dX10_puts_43 : decode cX10_puts 43 = .ok (.getfield 39, 3) := dk_180 0 39 (dk_at dksX10_puts_1 20 rfl rfl)
theorem dX10_puts_46 : decode cX10_puts 46 = .ok (.iload 4, 2) := dk_21 4 (dk_at dksX10_puts_2 0 rfl rfl)
theorem dX10_puts_48 : decode cX10_puts 48 = .ok (.laload, 1) := dk_47 (dk_at dksX10_puts_2 2 rfl rfl)
theorem dX10_puts_49 : decode cX10_puts 49 = .ok (.lload 5, 2) := dk_22 5 (dk_at dksX10_puts_2 3 rfl rfl)
theorem dX10_puts_51 : decode cX10_puts 51 = .ok (.ldc2_w 287, 3) := dk_20 1 31 (dk_at dksX10_puts_2 5 rfl rfl)
theorem dX10_puts_54 : decode cX10_puts 54 = .ok (.lxor, 1) := dk_131 (dk_at dksX10_puts_2 8 rfl rfl)
theorem dX10_puts_55 : decode cX10_puts 55 = .ok (.land, 1) := dk_127 (dk_at dksX10_puts_2 9 rfl rfl)
theorem dX10_puts_56 : decode cX10_puts 56 = .ok (.lastore, 1) := dk_80 (dk_at dksX10_puts_2 10 rfl rfl)
theorem dX10_puts_57 : decode cX10_puts 57 = .ok (.return_, 1) := dk_177 (dk_at dksX10_puts_2 11 rfl rfl)
abbrev cX10_mays : ByteArray := prog_33_method_57_code
def yX10_mays : MethodName := ⟨RX10, "mays", "(I)I"⟩
def dkwX10_mays_4 : List UInt8 := [182, 1, 33, 132, 5, 1, 167, 255, 220, 21, 4, 172]
abbrev dktX10_mays_4 : List UInt8 := dkwX10_mays_4 ++ []
def dkwX10_mays_3 : List UInt8 := [162, 0, 33, 42, 21, 4, 21, 5, 42, 21, 4, 21, 5, 182, 1, 37, 154, 0, 7, 4, 167, 0, 4, 3]
abbrev dktX10_mays_3 : List UInt8 := dkwX10_mays_3 ++ dktX10_mays_4
def dkwX10_mays_2 : List UInt8 := [182, 1, 64, 42, 28, 4, 182, 1, 11, 4, 160, 0, 45, 3, 54, 5, 21, 5, 42, 180, 0, 250]
abbrev dktX10_mays_2 : List UInt8 := dkwX10_mays_2 ++ dktX10_mays_3
def dkwX10_mays_1 : List UInt8 := [180, 0, 9, 16, 26, 5, 27, 104, 96, 4, 96, 46, 29, 182, 1, 51, 54, 4, 42, 28, 29, 21, 4]
abbrev dktX10_mays_1 : List UInt8 := dkwX10_mays_1 ++ dktX10_mays_2
def dkwX10_mays_0 : List UInt8 := [42, 27, 182, 1, 20, 61, 42, 28, 5, 182, 1, 11, 4, 160, 0, 7, 3, 167, 0, 4, 27, 62, 42, 42]
abbrev dktX10_mays_0 : List UInt8 := dkwX10_mays_0 ++ dktX10_mays_1
theorem dksX10_mays_0 : cX10_mays.data.toList.drop 0 = dktX10_mays_0 := by decide +kernel
theorem dksX10_mays_1 : cX10_mays.data.toList.drop 24 = dktX10_mays_1 := dk_seg dksX10_mays_0 24 rfl rfl
theorem dksX10_mays_2 : cX10_mays.data.toList.drop 47 = dktX10_mays_2 := dk_seg dksX10_mays_1 23 rfl rfl
theorem dksX10_mays_3 : cX10_mays.data.toList.drop 69 = dktX10_mays_3 := dk_seg dksX10_mays_2 22 rfl rfl
theorem dksX10_mays_4 : cX10_mays.data.toList.drop 93 = dktX10_mays_4 := dk_seg dksX10_mays_3 24 rfl rfl
theorem dX10_mays_0 : decode cX10_mays 0 = .ok (.aload_n 0, 1) := dk_42 (dk_at dksX10_mays_0 0 rfl rfl)
theorem dX10_mays_1 : decode cX10_mays 1 = .ok (.iload_n 1, 1) := dk_27 (dk_at dksX10_mays_0 1 rfl rfl)
theorem dX10_mays_2 : decode cX10_mays 2 = .ok (.invokevirtual 276, 3) := dk_182 1 20 (dk_at dksX10_mays_0 2 rfl rfl)
theorem dX10_mays_5 : decode cX10_mays 5 = .ok (.istore_n 2, 1) := dk_61 (dk_at dksX10_mays_0 5 rfl rfl)
theorem dX10_mays_6 : decode cX10_mays 6 = .ok (.aload_n 0, 1) := dk_42 (dk_at dksX10_mays_0 6 rfl rfl)
theorem dX10_mays_7 : decode cX10_mays 7 = .ok (.iload_n 2, 1) := dk_28 (dk_at dksX10_mays_0 7 rfl rfl)
theorem dX10_mays_8 : decode cX10_mays 8 = .ok (.iconst 2, 1) := dk_5 (dk_at dksX10_mays_0 8 rfl rfl)
theorem dX10_mays_9 : decode cX10_mays 9 = .ok (.invokevirtual 267, 3) := dk_182 1 11 (dk_at dksX10_mays_0 9 rfl rfl)
theorem dX10_mays_12 : decode cX10_mays 12 = .ok (.iconst 1, 1) := dk_4 (dk_at dksX10_mays_0 12 rfl rfl)
theorem dX10_mays_13 : decode cX10_mays 13 = .ok (.if_icmp .ne 7, 3) := dk_160 0 7 (dk_at dksX10_mays_0 13 rfl rfl)
theorem dX10_mays_16 : decode cX10_mays 16 = .ok (.iconst 0, 1) := dk_3 (dk_at dksX10_mays_0 16 rfl rfl)
theorem dX10_mays_17 : decode cX10_mays 17 = .ok (.goto 4, 3) := dk_167 0 4 (dk_at dksX10_mays_0 17 rfl rfl)
theorem dX10_mays_20 : decode cX10_mays 20 = .ok (.iload_n 1, 1) := dk_27 (dk_at dksX10_mays_0 20 rfl rfl)
theorem dX10_mays_21 : decode cX10_mays 21 = .ok (.istore_n 3, 1) := dk_62 (dk_at dksX10_mays_0 21 rfl rfl)
theorem dX10_mays_22 : decode cX10_mays 22 = .ok (.aload_n 0, 1) := dk_42 (dk_at dksX10_mays_0 22 rfl rfl)
theorem dX10_mays_23 : decode cX10_mays 23 = .ok (.aload_n 0, 1) := dk_42 (dk_at dksX10_mays_0 23 rfl rfl)
theorem dX10_mays_24 : decode cX10_mays 24 = .ok (.getfield 9, 3) := dk_180 0 9 (dk_at dksX10_mays_1 0 rfl rfl)
theorem dX10_mays_27 : decode cX10_mays 27 = .ok (.bipush 26, 2) := dk_16 26 (dk_at dksX10_mays_1 3 rfl rfl)
theorem dX10_mays_29 : decode cX10_mays 29 = .ok (.iconst 2, 1) := dk_5 (dk_at dksX10_mays_1 5 rfl rfl)
theorem dX10_mays_30 : decode cX10_mays 30 = .ok (.iload_n 1, 1) := dk_27 (dk_at dksX10_mays_1 6 rfl rfl)
theorem dX10_mays_31 : decode cX10_mays 31 = .ok (.imul, 1) := dk_104 (dk_at dksX10_mays_1 7 rfl rfl)
theorem dX10_mays_32 : decode cX10_mays 32 = .ok (.iadd, 1) := dk_96 (dk_at dksX10_mays_1 8 rfl rfl)
theorem dX10_mays_33 : decode cX10_mays 33 = .ok (.iconst 1, 1) := dk_4 (dk_at dksX10_mays_1 9 rfl rfl)
theorem dX10_mays_34 : decode cX10_mays 34 = .ok (.iadd, 1) := dk_96 (dk_at dksX10_mays_1 10 rfl rfl)
theorem dX10_mays_35 : decode cX10_mays 35 = .ok (.iaload, 1) := dk_46 (dk_at dksX10_mays_1 11 rfl rfl)
theorem dX10_mays_36 : decode cX10_mays 36 = .ok (.iload_n 3, 1) := dk_29 (dk_at dksX10_mays_1 12 rfl rfl)
theorem dX10_mays_37 : decode cX10_mays 37 = .ok (.invokevirtual 307, 3) := dk_182 1 51 (dk_at dksX10_mays_1 13 rfl rfl)
theorem dX10_mays_40 : decode cX10_mays 40 = .ok (.istore 4, 2) := dk_54 4 (dk_at dksX10_mays_1 16 rfl rfl)
theorem dX10_mays_42 : decode cX10_mays 42 = .ok (.aload_n 0, 1) := dk_42 (dk_at dksX10_mays_1 18 rfl rfl)
theorem dX10_mays_43 : decode cX10_mays 43 = .ok (.iload_n 2, 1) := dk_28 (dk_at dksX10_mays_1 19 rfl rfl)
theorem dX10_mays_44 : decode cX10_mays 44 = .ok (.iload_n 3, 1) := dk_29 (dk_at dksX10_mays_1 20 rfl rfl)
theorem dX10_mays_45 : decode cX10_mays 45 = .ok (.iload 4, 2) := dk_21 4 (dk_at dksX10_mays_1 21 rfl rfl)
theorem dX10_mays_47 : decode cX10_mays 47 = .ok (.invokevirtual 320, 3) := dk_182 1 64 (dk_at dksX10_mays_2 0 rfl rfl)
theorem dX10_mays_50 : decode cX10_mays 50 = .ok (.aload_n 0, 1) := dk_42 (dk_at dksX10_mays_2 3 rfl rfl)
theorem dX10_mays_51 : decode cX10_mays 51 = .ok (.iload_n 2, 1) := dk_28 (dk_at dksX10_mays_2 4 rfl rfl)
theorem dX10_mays_52 : decode cX10_mays 52 = .ok (.iconst 1, 1) := dk_4 (dk_at dksX10_mays_2 5 rfl rfl)
theorem dX10_mays_53 : decode cX10_mays 53 = .ok (.invokevirtual 267, 3) := dk_182 1 11 (dk_at dksX10_mays_2 6 rfl rfl)
theorem dX10_mays_56 : decode cX10_mays 56 = .ok (.iconst 1, 1) := dk_4 (dk_at dksX10_mays_2 9 rfl rfl)
theorem dX10_mays_57 : decode cX10_mays 57 = .ok (.if_icmp .ne 45, 3) := dk_160 0 45 (dk_at dksX10_mays_2 10 rfl rfl)
theorem dX10_mays_60 : decode cX10_mays 60 = .ok (.iconst 0, 1) := dk_3 (dk_at dksX10_mays_2 13 rfl rfl)
theorem dX10_mays_61 : decode cX10_mays 61 = .ok (.istore 5, 2) := dk_54 5 (dk_at dksX10_mays_2 14 rfl rfl)
theorem dX10_mays_63 : decode cX10_mays 63 = .ok (.iload 5, 2) := dk_21 5 (dk_at dksX10_mays_2 16 rfl rfl)
theorem dX10_mays_65 : decode cX10_mays 65 = .ok (.aload_n 0, 1) := dk_42 (dk_at dksX10_mays_2 18 rfl rfl)
theorem dX10_mays_66 : decode cX10_mays 66 = .ok (.getfield 250, 3) := dk_180 0 250 (dk_at dksX10_mays_2 19 rfl rfl)
theorem dX10_mays_69 : decode cX10_mays 69 = .ok (.if_icmp .ge 33, 3) := dk_162 0 33 (dk_at dksX10_mays_3 0 rfl rfl)
theorem dX10_mays_72 : decode cX10_mays 72 = .ok (.aload_n 0, 1) := dk_42 (dk_at dksX10_mays_3 3 rfl rfl)
theorem dX10_mays_73 : decode cX10_mays 73 = .ok (.iload 4, 2) := dk_21 4 (dk_at dksX10_mays_3 4 rfl rfl)
theorem dX10_mays_75 : decode cX10_mays 75 = .ok (.iload 5, 2) := dk_21 5 (dk_at dksX10_mays_3 6 rfl rfl)
theorem dX10_mays_77 : decode cX10_mays 77 = .ok (.aload_n 0, 1) := dk_42 (dk_at dksX10_mays_3 8 rfl rfl)
theorem dX10_mays_78 : decode cX10_mays 78 = .ok (.iload 4, 2) := dk_21 4 (dk_at dksX10_mays_3 9 rfl rfl)
theorem dX10_mays_80 : decode cX10_mays 80 = .ok (.iload 5, 2) := dk_21 5 (dk_at dksX10_mays_3 11 rfl rfl)
theorem dX10_mays_82 : decode cX10_mays 82 = .ok (.invokevirtual 293, 3) := dk_182 1 37 (dk_at dksX10_mays_3 13 rfl rfl)
theorem dX10_mays_85 : decode cX10_mays 85 = .ok (.ifCond .ne 7, 3) := dk_154 0 7 (dk_at dksX10_mays_3 16 rfl rfl)
theorem dX10_mays_88 : decode cX10_mays 88 = .ok (.iconst 1, 1) := dk_4 (dk_at dksX10_mays_3 19 rfl rfl)
theorem dX10_mays_89 : decode cX10_mays 89 = .ok (.goto 4, 3) := dk_167 0 4 (dk_at dksX10_mays_3 20 rfl rfl)
theorem dX10_mays_92 : decode cX10_mays 92 = .ok (.iconst 0, 1) := dk_3 (dk_at dksX10_mays_3 23 rfl rfl)
theorem dX10_mays_93 : decode cX10_mays 93 = .ok (.invokevirtual 289, 3) := dk_182 1 33 (dk_at dksX10_mays_4 0 rfl rfl)
theorem dX10_mays_96 : decode cX10_mays 96 = .ok (.iinc 5 1, 3) := dk_132 5 1 (dk_at dksX10_mays_4 3 rfl rfl)
theorem dX10_mays_99 : decode cX10_mays 99 = .ok (.goto (-36), 3) := dk_167 255 220 (dk_at dksX10_mays_4 6 rfl rfl)
theorem dX10_mays_102 : decode cX10_mays 102 = .ok (.iload 4, 2) := dk_21 4 (dk_at dksX10_mays_4 9 rfl rfl)
theorem dX10_mays_104 : decode cX10_mays 104 = .ok (.ireturn, 1) := dk_172 (dk_at dksX10_mays_4 11 rfl rfl)
abbrev cX10_soIn : ByteArray := prog_33_method_55_code
def yX10_soIn : MethodName := ⟨RX10, "soIn", "(II)I"⟩
def dkwX10_soIn_14 : List UInt8 := [46, 96, 21, 4, 164, 0, 7, 4, 167, 0, 4, 3, 182, 1, 33, 132, 8, 1, 167, 255, 146, 21, 7, 172]
abbrev dktX10_soIn_14 : List UInt8 := dkwX10_soIn_14 ++ []
def dkwX10_soIn_13 : List UInt8 := [160, 0, 7, 4, 167, 0, 32, 3, 167, 0, 28, 42, 180, 0, 33, 21, 8, 46, 42, 180, 0, 36, 21, 8]
abbrev dktX10_soIn_13 : List UInt8 := dkwX10_soIn_13 ++ dktX10_soIn_14
def dkwX10_soIn_12 : List UInt8 := [167, 0, 59, 29, 16, 7, 160, 0, 28, 42, 180, 0, 33, 21, 8, 46, 42, 180, 0, 36, 21, 8, 46]
abbrev dktX10_soIn_12 : List UInt8 := dkwX10_soIn_12 ++ dktX10_soIn_13
def dkwX10_soIn_11 : List UInt8 := [180, 0, 33, 21, 8, 46, 42, 180, 0, 36, 21, 8, 46, 96, 5, 112, 154, 0, 7, 4, 167, 0, 63, 3]
abbrev dktX10_soIn_11 : List UInt8 := dkwX10_soIn_11 ++ dktX10_soIn_12
def dkwX10_soIn_10 : List UInt8 := [54, 8, 21, 8, 42, 180, 0, 250, 162, 0, 107, 42, 21, 7, 21, 8, 29, 16, 6, 160, 0, 31, 42]
abbrev dktX10_soIn_10 : List UInt8 := dkwX10_soIn_10 ++ dktX10_soIn_11
def dkwX10_soIn_9 : List UInt8 := [21, 6, 21, 7, 182, 1, 61, 167, 0, 132, 42, 21, 4, 21, 6, 21, 7, 182, 1, 64, 167, 0, 119, 3]
abbrev dktX10_soIn_9 : List UInt8 := dkwX10_soIn_9 ++ dktX10_soIn_10
def dkwX10_soIn_8 : List UInt8 := [154, 0, 7, 4, 167, 0, 4, 3, 182, 1, 33, 132, 8, 1, 167, 255, 220, 167, 0, 145, 42, 21, 4]
abbrev dktX10_soIn_8 : List UInt8 := dkwX10_soIn_8 ++ dktX10_soIn_9
def dkwX10_soIn_7 : List UInt8 := [21, 8, 42, 180, 0, 250, 162, 0, 33, 42, 21, 7, 21, 8, 42, 21, 7, 21, 8, 182, 1, 37]
abbrev dktX10_soIn_7 : List UInt8 := dkwX10_soIn_7 ++ dktX10_soIn_8
def dkwX10_soIn_6 : List UInt8 := [42, 21, 7, 21, 5, 28, 29, 154, 0, 7, 4, 167, 0, 4, 3, 182, 1, 57, 167, 0, 190, 3, 54, 8]
abbrev dktX10_soIn_6 : List UInt8 := dkwX10_soIn_6 ++ dktX10_soIn_7
def dkwX10_soIn_5 : List UInt8 := [170, 0, 0, 0, 0, 0, 127, 0, 0, 0, 0, 0, 0, 0, 4, 0, 0, 0, 35, 0, 0, 0, 35, 0, 0, 0, 56, 0, 0, 0, 101, 0, 0, 0, 114]
abbrev dktX10_soIn_5 : List UInt8 := dkwX10_soIn_5 ++ dktX10_soIn_6
def dkwX10_soIn_4 : List UInt8 := [54, 7, 29]
abbrev dktX10_soIn_4 : List UInt8 := dkwX10_soIn_4 ++ dktX10_soIn_5
def dkwX10_soIn_3 : List UInt8 := [159, 0, 8, 29, 7, 160, 0, 14, 42, 21, 5, 21, 6, 182, 1, 51, 167, 0, 7, 42, 182, 1, 54]
abbrev dktX10_soIn_3 : List UInt8 := dkwX10_soIn_3 ++ dktX10_soIn_4
def dkwX10_soIn_2 : List UInt8 := [160, 0, 18, 42, 21, 4, 5, 182, 1, 11, 4, 160, 0, 7, 3, 167, 0, 4, 28, 54, 6, 29, 5]
abbrev dktX10_soIn_2 : List UInt8 := dkwX10_soIn_2 ++ dktX10_soIn_3
def dkwX10_soIn_1 : List UInt8 := [8, 160, 0, 16, 42, 21, 5, 21, 4, 28, 184, 1, 3, 182, 1, 51, 172, 29, 6, 159, 0, 8, 29, 7]
abbrev dktX10_soIn_1 : List UInt8 := dkwX10_soIn_1 ++ dktX10_soIn_2
def dkwX10_soIn_0 : List UInt8 := [42, 27, 3, 182, 1, 48, 62, 42, 27, 4, 182, 1, 48, 54, 4, 42, 27, 5, 182, 1, 48, 54, 5, 29]
abbrev dktX10_soIn_0 : List UInt8 := dkwX10_soIn_0 ++ dktX10_soIn_1
theorem dksX10_soIn_0 : cX10_soIn.data.toList.drop 0 = dktX10_soIn_0 := by decide +kernel
theorem dksX10_soIn_1 : cX10_soIn.data.toList.drop 24 = dktX10_soIn_1 := dk_seg dksX10_soIn_0 24 rfl rfl
theorem dksX10_soIn_2 : cX10_soIn.data.toList.drop 48 = dktX10_soIn_2 := dk_seg dksX10_soIn_1 24 rfl rfl
theorem dksX10_soIn_3 : cX10_soIn.data.toList.drop 71 = dktX10_soIn_3 := dk_seg dksX10_soIn_2 23 rfl rfl
theorem dksX10_soIn_4 : cX10_soIn.data.toList.drop 94 = dktX10_soIn_4 := dk_seg dksX10_soIn_3 23 rfl rfl
theorem dksX10_soIn_5 : cX10_soIn.data.toList.drop 97 = dktX10_soIn_5 := dk_seg dksX10_soIn_4 3 rfl rfl
theorem dksX10_soIn_6 : cX10_soIn.data.toList.drop 132 = dktX10_soIn_6 := dk_seg dksX10_soIn_5 35 rfl rfl
theorem dksX10_soIn_7 : cX10_soIn.data.toList.drop 156 = dktX10_soIn_7 := dk_seg dksX10_soIn_6 24 rfl rfl
theorem dksX10_soIn_8 : cX10_soIn.data.toList.drop 178 = dktX10_soIn_8 := dk_seg dksX10_soIn_7 22 rfl rfl
theorem dksX10_soIn_9 : cX10_soIn.data.toList.drop 201 = dktX10_soIn_9 := dk_seg dksX10_soIn_8 23 rfl rfl
theorem dksX10_soIn_10 : cX10_soIn.data.toList.drop 225 = dktX10_soIn_10 := dk_seg dksX10_soIn_9 24 rfl rfl
theorem dksX10_soIn_11 : cX10_soIn.data.toList.drop 248 = dktX10_soIn_11 := dk_seg dksX10_soIn_10 23 rfl rfl
theorem dksX10_soIn_12 : cX10_soIn.data.toList.drop 272 = dktX10_soIn_12 := dk_seg dksX10_soIn_11 24 rfl rfl
theorem dksX10_soIn_13 : cX10_soIn.data.toList.drop 295 = dktX10_soIn_13 := dk_seg dksX10_soIn_12 23 rfl rfl
theorem dksX10_soIn_14 : cX10_soIn.data.toList.drop 319 = dktX10_soIn_14 := dk_seg dksX10_soIn_13 24 rfl rfl
theorem dX10_soIn_0 : decode cX10_soIn 0 = .ok (.aload_n 0, 1) := dk_42 (dk_at dksX10_soIn_0 0 rfl rfl)
theorem dX10_soIn_1 : decode cX10_soIn 1 = .ok (.iload_n 1, 1) := dk_27 (dk_at dksX10_soIn_0 1 rfl rfl)
theorem dX10_soIn_2 : decode cX10_soIn 2 = .ok (.iconst 0, 1) := dk_3 (dk_at dksX10_soIn_0 2 rfl rfl)
theorem dX10_soIn_3 : decode cX10_soIn 3 = .ok (.invokevirtual 304, 3) := dk_182 1 48 (dk_at dksX10_soIn_0 3 rfl rfl)
theorem dX10_soIn_6 : decode cX10_soIn 6 = .ok (.istore_n 3, 1) := dk_62 (dk_at dksX10_soIn_0 6 rfl rfl)
theorem dX10_soIn_7 : decode cX10_soIn 7 = .ok (.aload_n 0, 1) := dk_42 (dk_at dksX10_soIn_0 7 rfl rfl)
theorem dX10_soIn_8 : decode cX10_soIn 8 = .ok (.iload_n 1, 1) := dk_27 (dk_at dksX10_soIn_0 8 rfl rfl)
theorem dX10_soIn_9 : decode cX10_soIn 9 = .ok (.iconst 1, 1) := dk_4 (dk_at dksX10_soIn_0 9 rfl rfl)
theorem dX10_soIn_10 : decode cX10_soIn 10 = .ok (.invokevirtual 304, 3) := dk_182 1 48 (dk_at dksX10_soIn_0 10 rfl rfl)
theorem dX10_soIn_13 : decode cX10_soIn 13 = .ok (.istore 4, 2) := dk_54 4 (dk_at dksX10_soIn_0 13 rfl rfl)
theorem dX10_soIn_15 : decode cX10_soIn 15 = .ok (.aload_n 0, 1) := dk_42 (dk_at dksX10_soIn_0 15 rfl rfl)
theorem dX10_soIn_16 : decode cX10_soIn 16 = .ok (.iload_n 1, 1) := dk_27 (dk_at dksX10_soIn_0 16 rfl rfl)
theorem dX10_soIn_17 : decode cX10_soIn 17 = .ok (.iconst 2, 1) := dk_5 (dk_at dksX10_soIn_0 17 rfl rfl)
theorem dX10_soIn_18 : decode cX10_soIn 18 = .ok (.invokevirtual 304, 3) := dk_182 1 48 (dk_at dksX10_soIn_0 18 rfl rfl)
theorem dX10_soIn_21 : decode cX10_soIn 21 = .ok (.istore 5, 2) := dk_54 5 (dk_at dksX10_soIn_0 21 rfl rfl)
theorem dX10_soIn_23 : decode cX10_soIn 23 = .ok (.iload_n 3, 1) := dk_29 (dk_at dksX10_soIn_0 23 rfl rfl)
theorem dX10_soIn_24 : decode cX10_soIn 24 = .ok (.iconst 5, 1) := dk_8 (dk_at dksX10_soIn_1 0 rfl rfl)
theorem dX10_soIn_25 : decode cX10_soIn 25 = .ok (.if_icmp .ne 16, 3) := dk_160 0 16 (dk_at dksX10_soIn_1 1 rfl rfl)
theorem dX10_soIn_28 : decode cX10_soIn 28 = .ok (.aload_n 0, 1) := dk_42 (dk_at dksX10_soIn_1 4 rfl rfl)
theorem dX10_soIn_29 : decode cX10_soIn 29 = .ok (.iload 5, 2) := dk_21 5 (dk_at dksX10_soIn_1 5 rfl rfl)
theorem dX10_soIn_31 : decode cX10_soIn 31 = .ok (.iload 4, 2) := dk_21 4 (dk_at dksX10_soIn_1 7 rfl rfl)
theorem dX10_soIn_33 : decode cX10_soIn 33 = .ok (.iload_n 2, 1) := dk_28 (dk_at dksX10_soIn_1 9 rfl rfl)
theorem dX10_soIn_34 : decode cX10_soIn 34 = .ok (.invokestatic 259, 3) := dk_184 1 3 (dk_at dksX10_soIn_1 10 rfl rfl)
theorem dX10_soIn_37 : decode cX10_soIn 37 = .ok (.invokevirtual 307, 3) := dk_182 1 51 (dk_at dksX10_soIn_1 13 rfl rfl)
theorem dX10_soIn_40 : decode cX10_soIn 40 = .ok (.ireturn, 1) := dk_172 (dk_at dksX10_soIn_1 16 rfl rfl)
theorem dX10_soIn_41 : decode cX10_soIn 41 = .ok (.iload_n 3, 1) := dk_29 (dk_at dksX10_soIn_1 17 rfl rfl)
theorem dX10_soIn_42 : decode cX10_soIn 42 = .ok (.iconst 3, 1) := dk_6 (dk_at dksX10_soIn_1 18 rfl rfl)
theorem dX10_soIn_43 : decode cX10_soIn 43 = .ok (.if_icmp .eq 8, 3) := dk_159 0 8 (dk_at dksX10_soIn_1 19 rfl rfl)
theorem dX10_soIn_46 : decode cX10_soIn 46 = .ok (.iload_n 3, 1) := dk_29 (dk_at dksX10_soIn_1 22 rfl rfl)
theorem dX10_soIn_47 : decode cX10_soIn 47 = .ok (.iconst 4, 1) := dk_7 (dk_at dksX10_soIn_1 23 rfl rfl)
theorem dX10_soIn_48 : decode cX10_soIn 48 = .ok (.if_icmp .ne 18, 3) := dk_160 0 18 (dk_at dksX10_soIn_2 0 rfl rfl)
theorem dX10_soIn_51 : decode cX10_soIn 51 = .ok (.aload_n 0, 1) := dk_42 (dk_at dksX10_soIn_2 3 rfl rfl)
theorem dX10_soIn_52 : decode cX10_soIn 52 = .ok (.iload 4, 2) := dk_21 4 (dk_at dksX10_soIn_2 4 rfl rfl)
theorem dX10_soIn_54 : decode cX10_soIn 54 = .ok (.iconst 2, 1) := dk_5 (dk_at dksX10_soIn_2 6 rfl rfl)
theorem dX10_soIn_55 : decode cX10_soIn 55 = .ok (.invokevirtual 267, 3) := dk_182 1 11 (dk_at dksX10_soIn_2 7 rfl rfl)
theorem dX10_soIn_58 : decode cX10_soIn 58 = .ok (.iconst 1, 1) := dk_4 (dk_at dksX10_soIn_2 10 rfl rfl)
theorem dX10_soIn_59 : decode cX10_soIn 59 = .ok (.if_icmp .ne 7, 3) := dk_160 0 7 (dk_at dksX10_soIn_2 11 rfl rfl)
theorem dX10_soIn_62 : decode cX10_soIn 62 = .ok (.iconst 0, 1) := dk_3 (dk_at dksX10_soIn_2 14 rfl rfl)
theorem dX10_soIn_63 : decode cX10_soIn 63 = .ok (.goto 4, 3) := dk_167 0 4 (dk_at dksX10_soIn_2 15 rfl rfl)
theorem dX10_soIn_66 : decode cX10_soIn 66 = .ok (.iload_n 2, 1) := dk_28 (dk_at dksX10_soIn_2 18 rfl rfl)
theorem dX10_soIn_67 : decode cX10_soIn 67 = .ok (.istore 6, 2) := dk_54 6 (dk_at dksX10_soIn_2 19 rfl rfl)
theorem dX10_soIn_69 : decode cX10_soIn 69 = .ok (.iload_n 3, 1) := dk_29 (dk_at dksX10_soIn_2 21 rfl rfl)
theorem dX10_soIn_70 : decode cX10_soIn 70 = .ok (.iconst 2, 1) := dk_5 (dk_at dksX10_soIn_2 22 rfl rfl)
theorem dX10_soIn_71 : decode cX10_soIn 71 = .ok (.if_icmp .eq 8, 3) := dk_159 0 8 (dk_at dksX10_soIn_3 0 rfl rfl)
theorem dX10_soIn_74 : decode cX10_soIn 74 = .ok (.iload_n 3, 1) := dk_29 (dk_at dksX10_soIn_3 3 rfl rfl)
theorem dX10_soIn_75 : decode cX10_soIn 75 = .ok (.iconst 4, 1) := dk_7 (dk_at dksX10_soIn_3 4 rfl rfl)
theorem dX10_soIn_76 : decode cX10_soIn 76 = .ok (.if_icmp .ne 14, 3) := dk_160 0 14 (dk_at dksX10_soIn_3 5 rfl rfl)
theorem dX10_soIn_79 : decode cX10_soIn 79 = .ok (.aload_n 0, 1) := dk_42 (dk_at dksX10_soIn_3 8 rfl rfl)
theorem dX10_soIn_80 : decode cX10_soIn 80 = .ok (.iload 5, 2) := dk_21 5 (dk_at dksX10_soIn_3 9 rfl rfl)
theorem dX10_soIn_82 : decode cX10_soIn 82 = .ok (.iload 6, 2) := dk_21 6 (dk_at dksX10_soIn_3 11 rfl rfl)
theorem dX10_soIn_84 : decode cX10_soIn 84 = .ok (.invokevirtual 307, 3) := dk_182 1 51 (dk_at dksX10_soIn_3 13 rfl rfl)
theorem dX10_soIn_87 : decode cX10_soIn 87 = .ok (.goto 7, 3) := dk_167 0 7 (dk_at dksX10_soIn_3 16 rfl rfl)
theorem dX10_soIn_90 : decode cX10_soIn 90 = .ok (.aload_n 0, 1) := dk_42 (dk_at dksX10_soIn_3 19 rfl rfl)
theorem dX10_soIn_91 : decode cX10_soIn 91 = .ok (.invokevirtual 310, 3) := dk_182 1 54 (dk_at dksX10_soIn_3 20 rfl rfl)
theorem dX10_soIn_94 : decode cX10_soIn 94 = .ok (.istore 7, 2) := dk_54 7 (dk_at dksX10_soIn_4 0 rfl rfl)
theorem dX10_soIn_96 : decode cX10_soIn 96 = .ok (.iload_n 3, 1) := dk_29 (dk_at dksX10_soIn_4 2 rfl rfl)
theorem dX10_soIn_97 : decode cX10_soIn 97 = .ok (.tableswitch 127 0 4 #[35, 35, 56, 101, 114], 35) := by decide +kernel
theorem dX10_soIn_132 : decode cX10_soIn 132 = .ok (.aload_n 0, 1) := dk_42 (dk_at dksX10_soIn_6 0 rfl rfl)
theorem dX10_soIn_133 : decode cX10_soIn 133 = .ok (.iload 7, 2) := dk_21 7 (dk_at dksX10_soIn_6 1 rfl rfl)
theorem dX10_soIn_135 : decode cX10_soIn 135 = .ok (.iload 5, 2) := dk_21 5 (dk_at dksX10_soIn_6 3 rfl rfl)
theorem dX10_soIn_137 : decode cX10_soIn 137 = .ok (.iload_n 2, 1) := dk_28 (dk_at dksX10_soIn_6 5 rfl rfl)
theorem dX10_soIn_138 : decode cX10_soIn 138 = .ok (.iload_n 3, 1) := dk_29 (dk_at dksX10_soIn_6 6 rfl rfl)
theorem dX10_soIn_139 : decode cX10_soIn 139 = .ok (.ifCond .ne 7, 3) := dk_154 0 7 (dk_at dksX10_soIn_6 7 rfl rfl)
theorem dX10_soIn_142 : decode cX10_soIn 142 = .ok (.iconst 1, 1) := dk_4 (dk_at dksX10_soIn_6 10 rfl rfl)
theorem dX10_soIn_143 : decode cX10_soIn 143 = .ok (.goto 4, 3) := dk_167 0 4 (dk_at dksX10_soIn_6 11 rfl rfl)
theorem dX10_soIn_146 : decode cX10_soIn 146 = .ok (.iconst 0, 1) := dk_3 (dk_at dksX10_soIn_6 14 rfl rfl)
theorem dX10_soIn_147 : decode cX10_soIn 147 = .ok (.invokevirtual 313, 3) := dk_182 1 57 (dk_at dksX10_soIn_6 15 rfl rfl)
theorem dX10_soIn_150 : decode cX10_soIn 150 = .ok (.goto 190, 3) := dk_167 0 190 (dk_at dksX10_soIn_6 18 rfl rfl)
theorem dX10_soIn_153 : decode cX10_soIn 153 = .ok (.iconst 0, 1) := dk_3 (dk_at dksX10_soIn_6 21 rfl rfl)
theorem dX10_soIn_154 : decode cX10_soIn 154 = .ok (.istore 8, 2) := dk_54 8 (dk_at dksX10_soIn_6 22 rfl rfl)
theorem dX10_soIn_156 : decode cX10_soIn 156 = .ok (.iload 8, 2) := dk_21 8 (dk_at dksX10_soIn_7 0 rfl rfl)
theorem dX10_soIn_158 : decode cX10_soIn 158 = .ok (.aload_n 0, 1) := dk_42 (dk_at dksX10_soIn_7 2 rfl rfl)
theorem dX10_soIn_159 : decode cX10_soIn 159 = .ok (.getfield 250, 3) := dk_180 0 250 (dk_at dksX10_soIn_7 3 rfl rfl)
theorem dX10_soIn_162 : decode cX10_soIn 162 = .ok (.if_icmp .ge 33, 3) := dk_162 0 33 (dk_at dksX10_soIn_7 6 rfl rfl)
theorem dX10_soIn_165 : decode cX10_soIn 165 = .ok (.aload_n 0, 1) := dk_42 (dk_at dksX10_soIn_7 9 rfl rfl)
theorem dX10_soIn_166 : decode cX10_soIn 166 = .ok (.iload 7, 2) := dk_21 7 (dk_at dksX10_soIn_7 10 rfl rfl)
theorem dX10_soIn_168 : decode cX10_soIn 168 = .ok (.iload 8, 2) := dk_21 8 (dk_at dksX10_soIn_7 12 rfl rfl)
theorem dX10_soIn_170 : decode cX10_soIn 170 = .ok (.aload_n 0, 1) := dk_42 (dk_at dksX10_soIn_7 14 rfl rfl)
theorem dX10_soIn_171 : decode cX10_soIn 171 = .ok (.iload 7, 2) := dk_21 7 (dk_at dksX10_soIn_7 15 rfl rfl)
theorem dX10_soIn_173 : decode cX10_soIn 173 = .ok (.iload 8, 2) := dk_21 8 (dk_at dksX10_soIn_7 17 rfl rfl)
theorem dX10_soIn_175 : decode cX10_soIn 175 = .ok (.invokevirtual 293, 3) := dk_182 1 37 (dk_at dksX10_soIn_7 19 rfl rfl)
theorem dX10_soIn_178 : decode cX10_soIn 178 = .ok (.ifCond .ne 7, 3) := dk_154 0 7 (dk_at dksX10_soIn_8 0 rfl rfl)
theorem dX10_soIn_181 : decode cX10_soIn 181 = .ok (.iconst 1, 1) := dk_4 (dk_at dksX10_soIn_8 3 rfl rfl)
theorem dX10_soIn_182 : decode cX10_soIn 182 = .ok (.goto 4, 3) := dk_167 0 4 (dk_at dksX10_soIn_8 4 rfl rfl)
theorem dX10_soIn_185 : decode cX10_soIn 185 = .ok (.iconst 0, 1) := dk_3 (dk_at dksX10_soIn_8 7 rfl rfl)
theorem dX10_soIn_186 : decode cX10_soIn 186 = .ok (.invokevirtual 289, 3) := dk_182 1 33 (dk_at dksX10_soIn_8 8 rfl rfl)
theorem dX10_soIn_189 : decode cX10_soIn 189 = .ok (.iinc 8 1, 3) := dk_132 8 1 (dk_at dksX10_soIn_8 11 rfl rfl)
theorem dX10_soIn_192 : decode cX10_soIn 192 = .ok (.goto (-36), 3) := dk_167 255 220 (dk_at dksX10_soIn_8 14 rfl rfl)
theorem dX10_soIn_195 : decode cX10_soIn 195 = .ok (.goto 145, 3) := dk_167 0 145 (dk_at dksX10_soIn_8 17 rfl rfl)
theorem dX10_soIn_198 : decode cX10_soIn 198 = .ok (.aload_n 0, 1) := dk_42 (dk_at dksX10_soIn_8 20 rfl rfl)
theorem dX10_soIn_199 : decode cX10_soIn 199 = .ok (.iload 4, 2) := dk_21 4 (dk_at dksX10_soIn_8 21 rfl rfl)
theorem dX10_soIn_201 : decode cX10_soIn 201 = .ok (.iload 6, 2) := dk_21 6 (dk_at dksX10_soIn_9 0 rfl rfl)
theorem dX10_soIn_203 : decode cX10_soIn 203 = .ok (.iload 7, 2) := dk_21 7 (dk_at dksX10_soIn_9 2 rfl rfl)
theorem dX10_soIn_205 : decode cX10_soIn 205 = .ok (.invokevirtual 317, 3) := dk_182 1 61 (dk_at dksX10_soIn_9 4 rfl rfl)
theorem dX10_soIn_208 : decode cX10_soIn 208 = .ok (.goto 132, 3) := dk_167 0 132 (dk_at dksX10_soIn_9 7 rfl rfl)
theorem dX10_soIn_211 : decode cX10_soIn 211 = .ok (.aload_n 0, 1) := dk_42 (dk_at dksX10_soIn_9 10 rfl rfl)
theorem dX10_soIn_212 : decode cX10_soIn 212 = .ok (.iload 4, 2) := dk_21 4 (dk_at dksX10_soIn_9 11 rfl rfl)
theorem dX10_soIn_214 : decode cX10_soIn 214 = .ok (.iload 6, 2) := dk_21 6 (dk_at dksX10_soIn_9 13 rfl rfl)
theorem dX10_soIn_216 : decode cX10_soIn 216 = .ok (.iload 7, 2) := dk_21 7 (dk_at dksX10_soIn_9 15 rfl rfl)
theorem dX10_soIn_218 : decode cX10_soIn 218 = .ok (.invokevirtual 320, 3) := dk_182 1 64 (dk_at dksX10_soIn_9 17 rfl rfl)
theorem dX10_soIn_221 : decode cX10_soIn 221 = .ok (.goto 119, 3) := dk_167 0 119 (dk_at dksX10_soIn_9 20 rfl rfl)
theorem dX10_soIn_224 : decode cX10_soIn 224 = .ok (.iconst 0, 1) := dk_3 (dk_at dksX10_soIn_9 23 rfl rfl)
theorem dX10_soIn_225 : decode cX10_soIn 225 = .ok (.istore 8, 2) := dk_54 8 (dk_at dksX10_soIn_10 0 rfl rfl)
theorem dX10_soIn_227 : decode cX10_soIn 227 = .ok (.iload 8, 2) := dk_21 8 (dk_at dksX10_soIn_10 2 rfl rfl)
theorem dX10_soIn_229 : decode cX10_soIn 229 = .ok (.aload_n 0, 1) := dk_42 (dk_at dksX10_soIn_10 4 rfl rfl)
theorem dX10_soIn_230 : decode cX10_soIn 230 = .ok (.getfield 250, 3) := dk_180 0 250 (dk_at dksX10_soIn_10 5 rfl rfl)
theorem dX10_soIn_233 : decode cX10_soIn 233 = .ok (.if_icmp .ge 107, 3) := dk_162 0 107 (dk_at dksX10_soIn_10 8 rfl rfl)
theorem dX10_soIn_236 : decode cX10_soIn 236 = .ok (.aload_n 0, 1) := dk_42 (dk_at dksX10_soIn_10 11 rfl rfl)
theorem dX10_soIn_237 : decode cX10_soIn 237 = .ok (.iload 7, 2) := dk_21 7 (dk_at dksX10_soIn_10 12 rfl rfl)
theorem dX10_soIn_239 : decode cX10_soIn 239 = .ok (.iload 8, 2) := dk_21 8 (dk_at dksX10_soIn_10 14 rfl rfl)
theorem dX10_soIn_241 : decode cX10_soIn 241 = .ok (.iload_n 3, 1) := dk_29 (dk_at dksX10_soIn_10 16 rfl rfl)
theorem dX10_soIn_242 : decode cX10_soIn 242 = .ok (.bipush 6, 2) := dk_16 6 (dk_at dksX10_soIn_10 17 rfl rfl)
theorem dX10_soIn_244 : decode cX10_soIn 244 = .ok (.if_icmp .ne 31, 3) := dk_160 0 31 (dk_at dksX10_soIn_10 19 rfl rfl)
theorem dX10_soIn_247 : decode cX10_soIn 247 = .ok (.aload_n 0, 1) := dk_42 (dk_at dksX10_soIn_10 22 rfl rfl)
theorem dX10_soIn_248 : decode cX10_soIn 248 = .ok (.getfield 33, 3) := dk_180 0 33 (dk_at dksX10_soIn_11 0 rfl rfl)
theorem dX10_soIn_251 : decode cX10_soIn 251 = .ok (.iload 8, 2) := dk_21 8 (dk_at dksX10_soIn_11 3 rfl rfl)
theorem dX10_soIn_253 : decode cX10_soIn 253 = .ok (.iaload, 1) := dk_46 (dk_at dksX10_soIn_11 5 rfl rfl)
theorem dX10_soIn_254 : decode cX10_soIn 254 = .ok (.aload_n 0, 1) := dk_42 (dk_at dksX10_soIn_11 6 rfl rfl)
theorem dX10_soIn_255 : decode cX10_soIn 255 = .ok (.getfield 36, 3) := dk_180 0 36 (dk_at dksX10_soIn_11 7 rfl rfl)
theorem dX10_soIn_258 : decode cX10_soIn 258 = .ok (.iload 8, 2) := dk_21 8 (dk_at dksX10_soIn_11 10 rfl rfl)
theorem dX10_soIn_260 : decode cX10_soIn 260 = .ok (.iaload, 1) := dk_46 (dk_at dksX10_soIn_11 12 rfl rfl)
theorem dX10_soIn_261 : decode cX10_soIn 261 = .ok (.iadd, 1) := dk_96 (dk_at dksX10_soIn_11 13 rfl rfl)
theorem dX10_soIn_262 : decode cX10_soIn 262 = .ok (.iconst 2, 1) := dk_5 (dk_at dksX10_soIn_11 14 rfl rfl)
theorem dX10_soIn_263 : decode cX10_soIn 263 = .ok (.irem, 1) := dk_112 (dk_at dksX10_soIn_11 15 rfl rfl)
theorem dX10_soIn_264 : decode cX10_soIn 264 = .ok (.ifCond .ne 7, 3) := dk_154 0 7 (dk_at dksX10_soIn_11 16 rfl rfl)
theorem dX10_soIn_267 : decode cX10_soIn 267 = .ok (.iconst 1, 1) := dk_4 (dk_at dksX10_soIn_11 19 rfl rfl)
theorem dX10_soIn_268 : decode cX10_soIn 268 = .ok (.goto 63, 3) := dk_167 0 63 (dk_at dksX10_soIn_11 20 rfl rfl)
theorem dX10_soIn_271 : decode cX10_soIn 271 = .ok (.iconst 0, 1) := dk_3 (dk_at dksX10_soIn_11 23 rfl rfl)
theorem dX10_soIn_272 : decode cX10_soIn 272 = .ok (.goto 59, 3) := dk_167 0 59 (dk_at dksX10_soIn_12 0 rfl rfl)
theorem dX10_soIn_275 : decode cX10_soIn 275 = .ok (.iload_n 3, 1) := dk_29 (dk_at dksX10_soIn_12 3 rfl rfl)
theorem dX10_soIn_276 : decode cX10_soIn 276 = .ok (.bipush 7, 2) := dk_16 7 (dk_at dksX10_soIn_12 4 rfl rfl)
theorem dX10_soIn_278 : decode cX10_soIn 278 = .ok (.if_icmp .ne 28, 3) := dk_160 0 28 (dk_at dksX10_soIn_12 6 rfl rfl)
theorem dX10_soIn_281 : decode cX10_soIn 281 = .ok (.aload_n 0, 1) := dk_42 (dk_at dksX10_soIn_12 9 rfl rfl)
theorem dX10_soIn_282 : decode cX10_soIn 282 = .ok (.getfield 33, 3) := dk_180 0 33 (dk_at dksX10_soIn_12 10 rfl rfl)
theorem dX10_soIn_285 : decode cX10_soIn 285 = .ok (.iload 8, 2) := dk_21 8 (dk_at dksX10_soIn_12 13 rfl rfl)
theorem dX10_soIn_287 : decode cX10_soIn 287 = .ok (.iaload, 1) := dk_46 (dk_at dksX10_soIn_12 15 rfl rfl)
theorem dX10_soIn_288 : decode cX10_soIn 288 = .ok (.aload_n 0, 1) := dk_42 (dk_at dksX10_soIn_12 16 rfl rfl)
theorem dX10_soIn_289 : decode cX10_soIn 289 = .ok (.getfield 36, 3) := dk_180 0 36 (dk_at dksX10_soIn_12 17 rfl rfl)
theorem dX10_soIn_292 : decode cX10_soIn 292 = .ok (.iload 8, 2) := dk_21 8 (dk_at dksX10_soIn_12 20 rfl rfl)
theorem dX10_soIn_294 : decode cX10_soIn 294 = .ok (.iaload, 1) := dk_46 (dk_at dksX10_soIn_12 22 rfl rfl)
theorem dX10_soIn_295 : decode cX10_soIn 295 = .ok (.if_icmp .ne 7, 3) := dk_160 0 7 (dk_at dksX10_soIn_13 0 rfl rfl)
theorem dX10_soIn_298 : decode cX10_soIn 298 = .ok (.iconst 1, 1) := dk_4 (dk_at dksX10_soIn_13 3 rfl rfl)
theorem dX10_soIn_299 : decode cX10_soIn 299 = .ok (.goto 32, 3) := dk_167 0 32 (dk_at dksX10_soIn_13 4 rfl rfl)
theorem dX10_soIn_302 : decode cX10_soIn 302 = .ok (.iconst 0, 1) := dk_3 (dk_at dksX10_soIn_13 7 rfl rfl)
theorem dX10_soIn_303 : decode cX10_soIn 303 = .ok (.goto 28, 3) := dk_167 0 28 (dk_at dksX10_soIn_13 8 rfl rfl)
theorem dX10_soIn_306 : decode cX10_soIn 306 = .ok (.aload_n 0, 1) := dk_42 (dk_at dksX10_soIn_13 11 rfl rfl)
theorem dX10_soIn_307 : decode cX10_soIn 307 = .ok (.getfield 33, 3) := dk_180 0 33 (dk_at dksX10_soIn_13 12 rfl rfl)
theorem dX10_soIn_310 : decode cX10_soIn 310 = .ok (.iload 8, 2) := dk_21 8 (dk_at dksX10_soIn_13 15 rfl rfl)
theorem dX10_soIn_312 : decode cX10_soIn 312 = .ok (.iaload, 1) := dk_46 (dk_at dksX10_soIn_13 17 rfl rfl)
theorem dX10_soIn_313 : decode cX10_soIn 313 = .ok (.aload_n 0, 1) := dk_42 (dk_at dksX10_soIn_13 18 rfl rfl)
theorem dX10_soIn_314 : decode cX10_soIn 314 = .ok (.getfield 36, 3) := dk_180 0 36 (dk_at dksX10_soIn_13 19 rfl rfl)
theorem dX10_soIn_317 : decode cX10_soIn 317 = .ok (.iload 8, 2) := dk_21 8 (dk_at dksX10_soIn_13 22 rfl rfl)
theorem dX10_soIn_319 : decode cX10_soIn 319 = .ok (.iaload, 1) := dk_46 (dk_at dksX10_soIn_14 0 rfl rfl)
theorem dX10_soIn_320 : decode cX10_soIn 320 = .ok (.iadd, 1) := dk_96 (dk_at dksX10_soIn_14 1 rfl rfl)
theorem dX10_soIn_321 : decode cX10_soIn 321 = .ok (.iload 4, 2) := dk_21 4 (dk_at dksX10_soIn_14 2 rfl rfl)
theorem dX10_soIn_323 : decode cX10_soIn 323 = .ok (.if_icmp .le 7, 3) := dk_164 0 7 (dk_at dksX10_soIn_14 4 rfl rfl)
theorem dX10_soIn_326 : decode cX10_soIn 326 = .ok (.iconst 1, 1) := dk_4 (dk_at dksX10_soIn_14 7 rfl rfl)
theorem dX10_soIn_327 : decode cX10_soIn 327 = .ok (.goto 4, 3) := dk_167 0 4 (dk_at dksX10_soIn_14 8 rfl rfl)
theorem dX10_soIn_330 : decode cX10_soIn 330 = .ok (.iconst 0, 1) := dk_3 (dk_at dksX10_soIn_14 11 rfl rfl)
theorem dX10_soIn_331 : decode cX10_soIn 331 = .ok (.invokevirtual 289, 3) := dk_182 1 33 (dk_at dksX10_soIn_14 12 rfl rfl)
theorem dX10_soIn_334 : decode cX10_soIn 334 = .ok (.iinc 8 1, 3) := dk_132 8 1 (dk_at dksX10_soIn_14 15 rfl rfl)
theorem dX10_soIn_337 : decode cX10_soIn 337 = .ok (.goto (-110), 3) := dk_167 255 146 (dk_at dksX10_soIn_14 18 rfl rfl)
theorem dX10_soIn_340 : decode cX10_soIn 340 = .ok (.iload 7, 2) := dk_21 7 (dk_at dksX10_soIn_14 21 rfl rfl)
theorem dX10_soIn_342 : decode cX10_soIn 342 = .ok (.ireturn, 1) := dk_172 (dk_at dksX10_soIn_14 23 rfl rfl)
abbrev cX10_markOf : ByteArray := prog_33_method_54_code
def yX10_markOf : MethodName := ⟨RX10, "markOf", "(II)I"⟩
def dkwX10_markOf_0 : List UInt8 := [42, 180, 0, 9, 16, 66, 7, 27, 104, 96, 28, 96, 46, 172]
abbrev dktX10_markOf_0 : List UInt8 := dkwX10_markOf_0 ++ []
theorem dksX10_markOf_0 : cX10_markOf.data.toList.drop 0 = dktX10_markOf_0 := by decide +kernel
theorem dX10_markOf_0 : decode cX10_markOf 0 = .ok (.aload_n 0, 1) := dk_42 (dk_at dksX10_markOf_0 0 rfl rfl)
theorem dX10_markOf_1 : decode cX10_markOf 1 = .ok (.getfield 9, 3) := dk_180 0 9 (dk_at dksX10_markOf_0 1 rfl rfl)
theorem dX10_markOf_4 : decode cX10_markOf 4 = .ok (.bipush 66, 2) := dk_16 66 (dk_at dksX10_markOf_0 4 rfl rfl)
theorem dX10_markOf_6 : decode cX10_markOf 6 = .ok (.iconst 4, 1) := dk_7 (dk_at dksX10_markOf_0 6 rfl rfl)
theorem dX10_markOf_7 : decode cX10_markOf 7 = .ok (.iload_n 1, 1) := dk_27 (dk_at dksX10_markOf_0 7 rfl rfl)
theorem dX10_markOf_8 : decode cX10_markOf 8 = .ok (.imul, 1) := dk_104 (dk_at dksX10_markOf_0 8 rfl rfl)
theorem dX10_markOf_9 : decode cX10_markOf 9 = .ok (.iadd, 1) := dk_96 (dk_at dksX10_markOf_0 9 rfl rfl)
theorem dX10_markOf_10 : decode cX10_markOf 10 = .ok (.iload_n 2, 1) := dk_28 (dk_at dksX10_markOf_0 10 rfl rfl)
theorem dX10_markOf_11 : decode cX10_markOf 11 = .ok (.iadd, 1) := dk_96 (dk_at dksX10_markOf_0 11 rfl rfl)
theorem dX10_markOf_12 : decode cX10_markOf 12 = .ok (.iaload, 1) := dk_46 (dk_at dksX10_markOf_0 12 rfl rfl)
theorem dX10_markOf_13 : decode cX10_markOf 13 = .ok (.ireturn, 1) := dk_172 (dk_at dksX10_markOf_0 13 rfl rfl)
abbrev cX10_pushes : ByteArray := prog_33_method_50_code
def yX10_pushes : MethodName := ⟨RX10, "pushes", "()I"⟩
def dkwX10_pushes_0 : List UInt8 := [42, 89, 180, 1, 41, 4, 96, 181, 1, 41, 42, 180, 1, 41, 4, 100, 172]
abbrev dktX10_pushes_0 : List UInt8 := dkwX10_pushes_0 ++ []
theorem dksX10_pushes_0 : cX10_pushes.data.toList.drop 0 = dktX10_pushes_0 := by decide +kernel
theorem dX10_pushes_0 : decode cX10_pushes 0 = .ok (.aload_n 0, 1) := dk_42 (dk_at dksX10_pushes_0 0 rfl rfl)
theorem dX10_pushes_1 : decode cX10_pushes 1 = .ok (.dup, 1) := dk_89 (dk_at dksX10_pushes_0 1 rfl rfl)
theorem dX10_pushes_2 : decode cX10_pushes 2 = .ok (.getfield 297, 3) := dk_180 1 41 (dk_at dksX10_pushes_0 2 rfl rfl)
theorem dX10_pushes_5 : decode cX10_pushes 5 = .ok (.iconst 1, 1) := dk_4 (dk_at dksX10_pushes_0 5 rfl rfl)
theorem dX10_pushes_6 : decode cX10_pushes 6 = .ok (.iadd, 1) := dk_96 (dk_at dksX10_pushes_0 6 rfl rfl)
theorem dX10_pushes_7 : decode cX10_pushes 7 = .ok (.putfield 297, 3) := dk_181 1 41 (dk_at dksX10_pushes_0 7 rfl rfl)
theorem dX10_pushes_10 : decode cX10_pushes 10 = .ok (.aload_n 0, 1) := dk_42 (dk_at dksX10_pushes_0 10 rfl rfl)
theorem dX10_pushes_11 : decode cX10_pushes 11 = .ok (.getfield 297, 3) := dk_180 1 41 (dk_at dksX10_pushes_0 11 rfl rfl)
theorem dX10_pushes_14 : decode cX10_pushes 14 = .ok (.iconst 1, 1) := dk_4 (dk_at dksX10_pushes_0 14 rfl rfl)
theorem dX10_pushes_15 : decode cX10_pushes 15 = .ok (.isub, 1) := dk_100 (dk_at dksX10_pushes_0 15 rfl rfl)
theorem dX10_pushes_16 : decode cX10_pushes 16 = .ok (.ireturn, 1) := dk_172 (dk_at dksX10_pushes_0 16 rfl rfl)
abbrev cX10_joins : ByteArray := prog_33_method_56_code
def yX10_joins : MethodName := ⟨RX10, "joins", "(IIIZ)V"⟩
def dkwX10_joins_4 : List UInt8 := [182, 1, 48, 54, 5, 167, 255, 177, 177]
abbrev dktX10_joins_4 : List UInt8 := dkwX10_joins_4 ++ []
def dkwX10_joins_3 : List UInt8 := [182, 1, 33, 132, 7, 1, 167, 255, 222, 42, 89, 180, 1, 41, 4, 100, 181, 1, 41, 42, 21, 5, 6]
abbrev dktX10_joins_3 : List UInt8 := dkwX10_joins_3 ++ dktX10_joins_4
def dkwX10_joins_2 : List UInt8 := [162, 0, 31, 42, 21, 6, 21, 7, 182, 1, 37, 21, 4, 160, 0, 12, 42, 27, 21, 7, 21, 4]
abbrev dktX10_joins_2 : List UInt8 := dkwX10_joins_2 ++ dktX10_joins_3
def dkwX10_joins_1 : List UInt8 := [42, 42, 21, 5, 5, 182, 1, 48, 29, 182, 1, 51, 54, 6, 3, 54, 7, 21, 7, 42, 180, 0, 250]
abbrev dktX10_joins_1 : List UInt8 := dkwX10_joins_1 ++ dktX10_joins_2
def dkwX10_joins_0 : List UInt8 := [42, 27, 21, 4, 154, 0, 7, 4, 167, 0, 4, 3, 182, 1, 67, 28, 54, 5, 21, 5, 2, 159, 0, 79]
abbrev dktX10_joins_0 : List UInt8 := dkwX10_joins_0 ++ dktX10_joins_1
theorem dksX10_joins_0 : cX10_joins.data.toList.drop 0 = dktX10_joins_0 := by decide +kernel
theorem dksX10_joins_1 : cX10_joins.data.toList.drop 24 = dktX10_joins_1 := dk_seg dksX10_joins_0 24 rfl rfl
theorem dksX10_joins_2 : cX10_joins.data.toList.drop 47 = dktX10_joins_2 := dk_seg dksX10_joins_1 23 rfl rfl
theorem dksX10_joins_3 : cX10_joins.data.toList.drop 69 = dktX10_joins_3 := dk_seg dksX10_joins_2 22 rfl rfl
theorem dksX10_joins_4 : cX10_joins.data.toList.drop 92 = dktX10_joins_4 := dk_seg dksX10_joins_3 23 rfl rfl
theorem dX10_joins_0 : decode cX10_joins 0 = .ok (.aload_n 0, 1) := dk_42 (dk_at dksX10_joins_0 0 rfl rfl)
theorem dX10_joins_1 : decode cX10_joins 1 = .ok (.iload_n 1, 1) := dk_27 (dk_at dksX10_joins_0 1 rfl rfl)
theorem dX10_joins_2 : decode cX10_joins 2 = .ok (.iload 4, 2) := dk_21 4 (dk_at dksX10_joins_0 2 rfl rfl)
theorem dX10_joins_4 : decode cX10_joins 4 = .ok (.ifCond .ne 7, 3) := dk_154 0 7 (dk_at dksX10_joins_0 4 rfl rfl)
theorem dX10_joins_7 : decode cX10_joins 7 = .ok (.iconst 1, 1) := dk_4 (dk_at dksX10_joins_0 7 rfl rfl)
theorem dX10_joins_8 : decode cX10_joins 8 = .ok (.goto 4, 3) := dk_167 0 4 (dk_at dksX10_joins_0 8 rfl rfl)
theorem dX10_joins_11 : decode cX10_joins 11 = .ok (.iconst 0, 1) := dk_3 (dk_at dksX10_joins_0 11 rfl rfl)
theorem dX10_joins_12 : decode cX10_joins 12 = .ok (.invokevirtual 323, 3) := dk_182 1 67 (dk_at dksX10_joins_0 12 rfl rfl)
theorem dX10_joins_15 : decode cX10_joins 15 = .ok (.iload_n 2, 1) := dk_28 (dk_at dksX10_joins_0 15 rfl rfl)
theorem dX10_joins_16 : decode cX10_joins 16 = .ok (.istore 5, 2) := dk_54 5 (dk_at dksX10_joins_0 16 rfl rfl)
theorem dX10_joins_18 : decode cX10_joins 18 = .ok (.iload 5, 2) := dk_21 5 (dk_at dksX10_joins_0 18 rfl rfl)
theorem dX10_joins_20 : decode cX10_joins 20 = .ok (.iconst (-1), 1) := dk_2 (dk_at dksX10_joins_0 20 rfl rfl)
theorem dX10_joins_21 : decode cX10_joins 21 = .ok (.if_icmp .eq 79, 3) := dk_159 0 79 (dk_at dksX10_joins_0 21 rfl rfl)
theorem dX10_joins_24 : decode cX10_joins 24 = .ok (.aload_n 0, 1) := dk_42 (dk_at dksX10_joins_1 0 rfl rfl)
theorem dX10_joins_25 : decode cX10_joins 25 = .ok (.aload_n 0, 1) := dk_42 (dk_at dksX10_joins_1 1 rfl rfl)
theorem dX10_joins_26 : decode cX10_joins 26 = .ok (.iload 5, 2) := dk_21 5 (dk_at dksX10_joins_1 2 rfl rfl)
theorem dX10_joins_28 : decode cX10_joins 28 = .ok (.iconst 2, 1) := dk_5 (dk_at dksX10_joins_1 4 rfl rfl)
theorem dX10_joins_29 : decode cX10_joins 29 = .ok (.invokevirtual 304, 3) := dk_182 1 48 (dk_at dksX10_joins_1 5 rfl rfl)
theorem dX10_joins_32 : decode cX10_joins 32 = .ok (.iload_n 3, 1) := dk_29 (dk_at dksX10_joins_1 8 rfl rfl)
theorem dX10_joins_33 : decode cX10_joins 33 = .ok (.invokevirtual 307, 3) := dk_182 1 51 (dk_at dksX10_joins_1 9 rfl rfl)
theorem dX10_joins_36 : decode cX10_joins 36 = .ok (.istore 6, 2) := dk_54 6 (dk_at dksX10_joins_1 12 rfl rfl)
theorem dX10_joins_38 : decode cX10_joins 38 = .ok (.iconst 0, 1) := dk_3 (dk_at dksX10_joins_1 14 rfl rfl)
theorem dX10_joins_39 : decode cX10_joins 39 = .ok (.istore 7, 2) := dk_54 7 (dk_at dksX10_joins_1 15 rfl rfl)
theorem dX10_joins_41 : decode cX10_joins 41 = .ok (.iload 7, 2) := dk_21 7 (dk_at dksX10_joins_1 17 rfl rfl)
theorem dX10_joins_43 : decode cX10_joins 43 = .ok (.aload_n 0, 1) := dk_42 (dk_at dksX10_joins_1 19 rfl rfl)
theorem dX10_joins_44 : decode cX10_joins 44 = .ok (.getfield 250, 3) := dk_180 0 250 (dk_at dksX10_joins_1 20 rfl rfl)
theorem dX10_joins_47 : decode cX10_joins 47 = .ok (.if_icmp .ge 31, 3) := dk_162 0 31 (dk_at dksX10_joins_2 0 rfl rfl)
theorem dX10_joins_50 : decode cX10_joins 50 = .ok (.aload_n 0, 1) := dk_42 (dk_at dksX10_joins_2 3 rfl rfl)
theorem dX10_joins_51 : decode cX10_joins 51 = .ok (.iload 6, 2) := dk_21 6 (dk_at dksX10_joins_2 4 rfl rfl)
theorem dX10_joins_53 : decode cX10_joins 53 = .ok (.iload 7, 2) := dk_21 7 (dk_at dksX10_joins_2 6 rfl rfl)
theorem dX10_joins_55 : decode cX10_joins 55 = .ok (.invokevirtual 293, 3) := dk_182 1 37 (dk_at dksX10_joins_2 8 rfl rfl)
theorem dX10_joins_58 : decode cX10_joins 58 = .ok (.iload 4, 2) := dk_21 4 (dk_at dksX10_joins_2 11 rfl rfl)
theorem dX10_joins_60 : decode cX10_joins 60 = .ok (.if_icmp .ne 12, 3) := dk_160 0 12 (dk_at dksX10_joins_2 13 rfl rfl)
theorem dX10_joins_63 : decode cX10_joins 63 = .ok (.aload_n 0, 1) := dk_42 (dk_at dksX10_joins_2 16 rfl rfl)
theorem dX10_joins_64 : decode cX10_joins 64 = .ok (.iload_n 1, 1) := dk_27 (dk_at dksX10_joins_2 17 rfl rfl)
theorem dX10_joins_65 : decode cX10_joins 65 = .ok (.iload 7, 2) := dk_21 7 (dk_at dksX10_joins_2 18 rfl rfl)
theorem dX10_joins_67 : decode cX10_joins 67 = .ok (.iload 4, 2) := dk_21 4 (dk_at dksX10_joins_2 20 rfl rfl)
theorem dX10_joins_69 : decode cX10_joins 69 = .ok (.invokevirtual 289, 3) := dk_182 1 33 (dk_at dksX10_joins_3 0 rfl rfl)
theorem dX10_joins_72 : decode cX10_joins 72 = .ok (.iinc 7 1, 3) := dk_132 7 1 (dk_at dksX10_joins_3 3 rfl rfl)
theorem dX10_joins_75 : decode cX10_joins 75 = .ok (.goto (-34), 3) := dk_167 255 222 (dk_at dksX10_joins_3 6 rfl rfl)
theorem dX10_joins_78 : decode cX10_joins 78 = .ok (.aload_n 0, 1) := dk_42 (dk_at dksX10_joins_3 9 rfl rfl)
theorem dX10_joins_79 : decode cX10_joins 79 = .ok (.dup, 1) := dk_89 (dk_at dksX10_joins_3 10 rfl rfl)
theorem dX10_joins_80 : decode cX10_joins 80 = .ok (.getfield 297, 3) := dk_180 1 41 (dk_at dksX10_joins_3 11 rfl rfl)
theorem dX10_joins_83 : decode cX10_joins 83 = .ok (.iconst 1, 1) := dk_4 (dk_at dksX10_joins_3 14 rfl rfl)
theorem dX10_joins_84 : decode cX10_joins 84 = .ok (.isub, 1) := dk_100 (dk_at dksX10_joins_3 15 rfl rfl)
theorem dX10_joins_85 : decode cX10_joins 85 = .ok (.putfield 297, 3) := dk_181 1 41 (dk_at dksX10_joins_3 16 rfl rfl)
theorem dX10_joins_88 : decode cX10_joins 88 = .ok (.aload_n 0, 1) := dk_42 (dk_at dksX10_joins_3 19 rfl rfl)
theorem dX10_joins_89 : decode cX10_joins 89 = .ok (.iload 5, 2) := dk_21 5 (dk_at dksX10_joins_3 20 rfl rfl)
theorem dX10_joins_91 : decode cX10_joins 91 = .ok (.iconst 3, 1) := dk_6 (dk_at dksX10_joins_3 22 rfl rfl)
theorem dX10_joins_92 : decode cX10_joins 92 = .ok (.invokevirtual 304, 3) := dk_182 1 48 (dk_at dksX10_joins_4 0 rfl rfl)
theorem dX10_joins_95 : decode cX10_joins 95 = .ok (.istore 5, 2) := dk_54 5 (dk_at dksX10_joins_4 3 rfl rfl)
theorem dX10_joins_97 : decode cX10_joins 97 = .ok (.goto (-79), 3) := dk_167 255 177 (dk_at dksX10_joins_4 5 rfl rfl)
theorem dX10_joins_100 : decode cX10_joins 100 = .ok (.return_, 1) := dk_177 (dk_at dksX10_joins_4 8 rfl rfl)
abbrev cX10_has : ByteArray := prog_33_method_45_code
def yX10_has : MethodName := ⟨RX10, "has", "(II)Z"⟩
def dkwX10_has_1 : List UInt8 := [154, 0, 7, 4, 167, 0, 4, 3, 172]
abbrev dktX10_has_1 : List UInt8 := dkwX10_has_1 ++ []
def dkwX10_has_0 : List UInt8 := [42, 180, 0, 39, 16, 29, 27, 104, 28, 16, 6, 122, 96, 47, 28, 16, 63, 126, 123, 10, 127, 10, 148]
abbrev dktX10_has_0 : List UInt8 := dkwX10_has_0 ++ dktX10_has_1
theorem dksX10_has_0 : cX10_has.data.toList.drop 0 = dktX10_has_0 := by decide +kernel
theorem dksX10_has_1 : cX10_has.data.toList.drop 23 = dktX10_has_1 := dk_seg dksX10_has_0 23 rfl rfl
theorem dX10_has_0 : decode cX10_has 0 = .ok (.aload_n 0, 1) := dk_42 (dk_at dksX10_has_0 0 rfl rfl)
theorem dX10_has_1 : decode cX10_has 1 = .ok (.getfield 39, 3) := dk_180 0 39 (dk_at dksX10_has_0 1 rfl rfl)
theorem dX10_has_4 : decode cX10_has 4 = .ok (.bipush 29, 2) := dk_16 29 (dk_at dksX10_has_0 4 rfl rfl)
theorem dX10_has_6 : decode cX10_has 6 = .ok (.iload_n 1, 1) := dk_27 (dk_at dksX10_has_0 6 rfl rfl)
theorem dX10_has_7 : decode cX10_has 7 = .ok (.imul, 1) := dk_104 (dk_at dksX10_has_0 7 rfl rfl)
theorem dX10_has_8 : decode cX10_has 8 = .ok (.iload_n 2, 1) := dk_28 (dk_at dksX10_has_0 8 rfl rfl)
theorem dX10_has_9 : decode cX10_has 9 = .ok (.bipush 6, 2) := dk_16 6 (dk_at dksX10_has_0 9 rfl rfl)
theorem dX10_has_11 : decode cX10_has 11 = .ok (.ishr, 1) := dk_122 (dk_at dksX10_has_0 11 rfl rfl)
theorem dX10_has_12 : decode cX10_has 12 = .ok (.iadd, 1) := dk_96 (dk_at dksX10_has_0 12 rfl rfl)
theorem dX10_has_13 : decode cX10_has 13 = .ok (.laload, 1) := dk_47 (dk_at dksX10_has_0 13 rfl rfl)
theorem dX10_has_14 : decode cX10_has 14 = .ok (.iload_n 2, 1) := dk_28 (dk_at dksX10_has_0 14 rfl rfl)
theorem dX10_has_15 : decode cX10_has 15 = .ok (.bipush 63, 2) := dk_16 63 (dk_at dksX10_has_0 15 rfl rfl)
theorem dX10_has_17 : decode cX10_has 17 = .ok (.iand, 1) := dk_126 (dk_at dksX10_has_0 17 rfl rfl)
theorem dX10_has_18 : decode cX10_has 18 = .ok (.lshr, 1) := dk_123 (dk_at dksX10_has_0 18 rfl rfl)
theorem dX10_has_19 : decode cX10_has 19 = .ok (.lconst 1, 1) := dk_10 (dk_at dksX10_has_0 19 rfl rfl)
theorem dX10_has_20 : decode cX10_has 20 = .ok (.land, 1) := dk_127 (dk_at dksX10_has_0 20 rfl rfl)
theorem dX10_has_21 : decode cX10_has 21 = .ok (.lconst 1, 1) := dk_10 (dk_at dksX10_has_0 21 rfl rfl)
theorem dX10_has_22 : decode cX10_has 22 = .ok (.lcmp, 1) := dk_148 (dk_at dksX10_has_0 22 rfl rfl)
theorem dX10_has_23 : decode cX10_has 23 = .ok (.ifCond .ne 7, 3) := dk_154 0 7 (dk_at dksX10_has_1 0 rfl rfl)
theorem dX10_has_26 : decode cX10_has 26 = .ok (.iconst 1, 1) := dk_4 (dk_at dksX10_has_1 3 rfl rfl)
theorem dX10_has_27 : decode cX10_has 27 = .ok (.goto 4, 3) := dk_167 0 4 (dk_at dksX10_has_1 4 rfl rfl)
theorem dX10_has_30 : decode cX10_has 30 = .ok (.iconst 0, 1) := dk_3 (dk_at dksX10_has_1 7 rfl rfl)
theorem dX10_has_31 : decode cX10_has 31 = .ok (.ireturn, 1) := dk_172 (dk_at dksX10_has_1 8 rfl rfl)
abbrev cX10_laysKnowing : ByteArray := prog_33_method_52_code
def yX10_laysKnowing : MethodName := ⟨RX10, "laysKnowing", "(III)V"⟩
def dkwX10_laysKnowing_2 : List UInt8 := [167, 0, 4, 3, 100, 154, 0, 7, 4, 167, 0, 4, 3, 182, 1, 33, 132, 4, 1, 167, 255, 201, 177]
abbrev dktX10_laysKnowing_2 : List UInt8 := dkwX10_laysKnowing_2 ++ []
def dkwX10_laysKnowing_1 : List UInt8 := [180, 0, 43, 42, 27, 21, 4, 182, 1, 17, 46, 42, 28, 21, 4, 182, 1, 37, 153, 0, 7, 4]
abbrev dktX10_laysKnowing_1 : List UInt8 := dkwX10_laysKnowing_1 ++ dktX10_laysKnowing_2
def dkwX10_laysKnowing_0 : List UInt8 := [42, 27, 28, 2, 182, 1, 44, 3, 54, 4, 21, 4, 42, 180, 0, 250, 162, 0, 52, 42, 29, 21, 4, 42]
abbrev dktX10_laysKnowing_0 : List UInt8 := dkwX10_laysKnowing_0 ++ dktX10_laysKnowing_1
theorem dksX10_laysKnowing_0 : cX10_laysKnowing.data.toList.drop 0 = dktX10_laysKnowing_0 := by decide +kernel
theorem dksX10_laysKnowing_1 : cX10_laysKnowing.data.toList.drop 24 = dktX10_laysKnowing_1 := dk_seg dksX10_laysKnowing_0 24 rfl rfl
theorem dksX10_laysKnowing_2 : cX10_laysKnowing.data.toList.drop 46 = dktX10_laysKnowing_2 := dk_seg dksX10_laysKnowing_1 22 rfl rfl
theorem dX10_laysKnowing_0 : decode cX10_laysKnowing 0 = .ok (.aload_n 0, 1) := dk_42 (dk_at dksX10_laysKnowing_0 0 rfl rfl)
theorem dX10_laysKnowing_1 : decode cX10_laysKnowing 1 = .ok (.iload_n 1, 1) := dk_27 (dk_at dksX10_laysKnowing_0 1 rfl rfl)
theorem dX10_laysKnowing_2 : decode cX10_laysKnowing 2 = .ok (.iload_n 2, 1) := dk_28 (dk_at dksX10_laysKnowing_0 2 rfl rfl)
theorem dX10_laysKnowing_3 : decode cX10_laysKnowing 3 = .ok (.iconst (-1), 1) := dk_2 (dk_at dksX10_laysKnowing_0 3 rfl rfl)
theorem dX10_laysKnowing_4 : decode cX10_laysKnowing 4 = .ok (.invokevirtual 300, 3) := dk_182 1 44 (dk_at dksX10_laysKnowing_0 4 rfl rfl)
theorem dX10_laysKnowing_7 : decode cX10_laysKnowing 7 = .ok (.iconst 0, 1) := dk_3 (dk_at dksX10_laysKnowing_0 7 rfl rfl)
theorem dX10_laysKnowing_8 : decode cX10_laysKnowing 8 = .ok (.istore 4, 2) := dk_54 4 (dk_at dksX10_laysKnowing_0 8 rfl rfl)
theorem dX10_laysKnowing_10 : decode cX10_laysKnowing 10 = .ok (.iload 4, 2) := dk_21 4 (dk_at dksX10_laysKnowing_0 10 rfl rfl)
theorem dX10_laysKnowing_12 : decode cX10_laysKnowing 12 = .ok (.aload_n 0, 1) := dk_42 (dk_at dksX10_laysKnowing_0 12 rfl rfl)
theorem dX10_laysKnowing_13 : decode cX10_laysKnowing 13 = .ok (.getfield 250, 3) := dk_180 0 250 (dk_at dksX10_laysKnowing_0 13 rfl rfl)
theorem dX10_laysKnowing_16 : decode cX10_laysKnowing 16 = .ok (.if_icmp .ge 52, 3) := dk_162 0 52 (dk_at dksX10_laysKnowing_0 16 rfl rfl)
theorem dX10_laysKnowing_19 : decode cX10_laysKnowing 19 = .ok (.aload_n 0, 1) := dk_42 (dk_at dksX10_laysKnowing_0 19 rfl rfl)
theorem dX10_laysKnowing_20 : decode cX10_laysKnowing 20 = .ok (.iload_n 3, 1) := dk_29 (dk_at dksX10_laysKnowing_0 20 rfl rfl)
theorem dX10_laysKnowing_21 : decode cX10_laysKnowing 21 = .ok (.iload 4, 2) := dk_21 4 (dk_at dksX10_laysKnowing_0 21 rfl rfl)
theorem dX10_laysKnowing_23 : decode cX10_laysKnowing 23 = .ok (.aload_n 0, 1) := dk_42 (dk_at dksX10_laysKnowing_0 23 rfl rfl)
theorem dX10_laysKnowing_24 : decode cX10_laysKnowing 24 = .ok (.getfield 43, 3) := dk_180 0 43 (dk_at dksX10_laysKnowing_1 0 rfl rfl)
theorem dX10_laysKnowing_27 : decode cX10_laysKnowing 27 = .ok (.aload_n 0, 1) := dk_42 (dk_at dksX10_laysKnowing_1 3 rfl rfl)
theorem dX10_laysKnowing_28 : decode cX10_laysKnowing 28 = .ok (.iload_n 1, 1) := dk_27 (dk_at dksX10_laysKnowing_1 4 rfl rfl)
theorem dX10_laysKnowing_29 : decode cX10_laysKnowing 29 = .ok (.iload 4, 2) := dk_21 4 (dk_at dksX10_laysKnowing_1 5 rfl rfl)
theorem dX10_laysKnowing_31 : decode cX10_laysKnowing 31 = .ok (.invokevirtual 273, 3) := dk_182 1 17 (dk_at dksX10_laysKnowing_1 7 rfl rfl)
theorem dX10_laysKnowing_34 : decode cX10_laysKnowing 34 = .ok (.iaload, 1) := dk_46 (dk_at dksX10_laysKnowing_1 10 rfl rfl)
theorem dX10_laysKnowing_35 : decode cX10_laysKnowing 35 = .ok (.aload_n 0, 1) := dk_42 (dk_at dksX10_laysKnowing_1 11 rfl rfl)
theorem dX10_laysKnowing_36 : decode cX10_laysKnowing 36 = .ok (.iload_n 2, 1) := dk_28 (dk_at dksX10_laysKnowing_1 12 rfl rfl)
theorem dX10_laysKnowing_37 : decode cX10_laysKnowing 37 = .ok (.iload 4, 2) := dk_21 4 (dk_at dksX10_laysKnowing_1 13 rfl rfl)
theorem dX10_laysKnowing_39 : decode cX10_laysKnowing 39 = .ok (.invokevirtual 293, 3) := dk_182 1 37 (dk_at dksX10_laysKnowing_1 15 rfl rfl)
theorem dX10_laysKnowing_42 : decode cX10_laysKnowing 42 = .ok (.ifCond .eq 7, 3) := dk_153 0 7 (dk_at dksX10_laysKnowing_1 18 rfl rfl)
theorem dX10_laysKnowing_45 : decode cX10_laysKnowing 45 = .ok (.iconst 1, 1) := dk_4 (dk_at dksX10_laysKnowing_1 21 rfl rfl)
theorem dX10_laysKnowing_46 : decode cX10_laysKnowing 46 = .ok (.goto 4, 3) := dk_167 0 4 (dk_at dksX10_laysKnowing_2 0 rfl rfl)
theorem dX10_laysKnowing_49 : decode cX10_laysKnowing 49 = .ok (.iconst 0, 1) := dk_3 (dk_at dksX10_laysKnowing_2 3 rfl rfl)
theorem dX10_laysKnowing_50 : decode cX10_laysKnowing 50 = .ok (.isub, 1) := dk_100 (dk_at dksX10_laysKnowing_2 4 rfl rfl)
theorem dX10_laysKnowing_51 : decode cX10_laysKnowing 51 = .ok (.ifCond .ne 7, 3) := dk_154 0 7 (dk_at dksX10_laysKnowing_2 5 rfl rfl)
theorem dX10_laysKnowing_54 : decode cX10_laysKnowing 54 = .ok (.iconst 1, 1) := dk_4 (dk_at dksX10_laysKnowing_2 8 rfl rfl)
theorem dX10_laysKnowing_55 : decode cX10_laysKnowing 55 = .ok (.goto 4, 3) := dk_167 0 4 (dk_at dksX10_laysKnowing_2 9 rfl rfl)
theorem dX10_laysKnowing_58 : decode cX10_laysKnowing 58 = .ok (.iconst 0, 1) := dk_3 (dk_at dksX10_laysKnowing_2 12 rfl rfl)
theorem dX10_laysKnowing_59 : decode cX10_laysKnowing 59 = .ok (.invokevirtual 289, 3) := dk_182 1 33 (dk_at dksX10_laysKnowing_2 13 rfl rfl)
theorem dX10_laysKnowing_62 : decode cX10_laysKnowing 62 = .ok (.iinc 4 1, 3) := dk_132 4 1 (dk_at dksX10_laysKnowing_2 16 rfl rfl)
theorem dX10_laysKnowing_65 : decode cX10_laysKnowing 65 = .ok (.goto (-55), 3) := dk_167 255 201 (dk_at dksX10_laysKnowing_2 19 rfl rfl)
theorem dX10_laysKnowing_68 : decode cX10_laysKnowing 68 = .ok (.return_, 1) := dk_177 (dk_at dksX10_laysKnowing_2 22 rfl rfl)
abbrev cX10_heapUp : ByteArray := prog_33_method_51_code
def yX10_heapUp : MethodName := ⟨RX10, "heapUp", "(III)V"⟩
def dkwX10_heapUp_3 : List UInt8 := [180, 0, 43, 42, 27, 21, 4, 182, 1, 17, 92, 46, 4, 96, 79, 132, 4, 1, 167, 255, 203, 177]
abbrev dktX10_heapUp_3 : List UInt8 := dkwX10_heapUp_3 ++ []
def dkwX10_heapUp_2 : List UInt8 := [182, 1, 37, 153, 0, 34, 29, 2, 159, 0, 13, 42, 29, 21, 4, 182, 1, 37, 154, 0, 19, 42]
abbrev dktX10_heapUp_2 : List UInt8 := dkwX10_heapUp_2 ++ dktX10_heapUp_3
def dkwX10_heapUp_1 : List UInt8 := [79, 132, 4, 1, 167, 255, 231, 3, 54, 4, 21, 4, 42, 180, 0, 250, 162, 0, 50, 42, 28, 21, 4]
abbrev dktX10_heapUp_1 : List UInt8 := dkwX10_heapUp_1 ++ dktX10_heapUp_2
def dkwX10_heapUp_0 : List UInt8 := [3, 54, 4, 21, 4, 42, 180, 0, 250, 162, 0, 22, 42, 180, 0, 43, 42, 27, 21, 4, 182, 1, 17, 3]
abbrev dktX10_heapUp_0 : List UInt8 := dkwX10_heapUp_0 ++ dktX10_heapUp_1
theorem dksX10_heapUp_0 : cX10_heapUp.data.toList.drop 0 = dktX10_heapUp_0 := by decide +kernel
theorem dksX10_heapUp_1 : cX10_heapUp.data.toList.drop 24 = dktX10_heapUp_1 := dk_seg dksX10_heapUp_0 24 rfl rfl
theorem dksX10_heapUp_2 : cX10_heapUp.data.toList.drop 47 = dktX10_heapUp_2 := dk_seg dksX10_heapUp_1 23 rfl rfl
theorem dksX10_heapUp_3 : cX10_heapUp.data.toList.drop 69 = dktX10_heapUp_3 := dk_seg dksX10_heapUp_2 22 rfl rfl
theorem dX10_heapUp_0 : decode cX10_heapUp 0 = .ok (.iconst 0, 1) := dk_3 (dk_at dksX10_heapUp_0 0 rfl rfl)
theorem dX10_heapUp_1 : decode cX10_heapUp 1 = .ok (.istore 4, 2) := dk_54 4 (dk_at dksX10_heapUp_0 1 rfl rfl)
theorem dX10_heapUp_3 : decode cX10_heapUp 3 = .ok (.iload 4, 2) := dk_21 4 (dk_at dksX10_heapUp_0 3 rfl rfl)
theorem dX10_heapUp_5 : decode cX10_heapUp 5 = .ok (.aload_n 0, 1) := dk_42 (dk_at dksX10_heapUp_0 5 rfl rfl)
theorem dX10_heapUp_6 : decode cX10_heapUp 6 = .ok (.getfield 250, 3) := dk_180 0 250 (dk_at dksX10_heapUp_0 6 rfl rfl)
theorem dX10_heapUp_9 : decode cX10_heapUp 9 = .ok (.if_icmp .ge 22, 3) := dk_162 0 22 (dk_at dksX10_heapUp_0 9 rfl rfl)
theorem dX10_heapUp_12 : decode cX10_heapUp 12 = .ok (.aload_n 0, 1) := dk_42 (dk_at dksX10_heapUp_0 12 rfl rfl)
theorem dX10_heapUp_13 : decode cX10_heapUp 13 = .ok (.getfield 43, 3) := dk_180 0 43 (dk_at dksX10_heapUp_0 13 rfl rfl)
theorem dX10_heapUp_16 : decode cX10_heapUp 16 = .ok (.aload_n 0, 1) := dk_42 (dk_at dksX10_heapUp_0 16 rfl rfl)
theorem dX10_heapUp_17 : decode cX10_heapUp 17 = .ok (.iload_n 1, 1) := dk_27 (dk_at dksX10_heapUp_0 17 rfl rfl)
theorem dX10_heapUp_18 : decode cX10_heapUp 18 = .ok (.iload 4, 2) := dk_21 4 (dk_at dksX10_heapUp_0 18 rfl rfl)
theorem dX10_heapUp_20 : decode cX10_heapUp 20 = .ok (.invokevirtual 273, 3) := dk_182 1 17 (dk_at dksX10_heapUp_0 20 rfl rfl)
theorem dX10_heapUp_23 : decode cX10_heapUp 23 = .ok (.iconst 0, 1) := dk_3 (dk_at dksX10_heapUp_0 23 rfl rfl)
theorem dX10_heapUp_24 : decode cX10_heapUp 24 = .ok (.iastore, 1) := dk_79 (dk_at dksX10_heapUp_1 0 rfl rfl)
theorem dX10_heapUp_25 : decode cX10_heapUp 25 = .ok (.iinc 4 1, 3) := dk_132 4 1 (dk_at dksX10_heapUp_1 1 rfl rfl)
theorem dX10_heapUp_28 : decode cX10_heapUp 28 = .ok (.goto (-25), 3) := dk_167 255 231 (dk_at dksX10_heapUp_1 4 rfl rfl)
theorem dX10_heapUp_31 : decode cX10_heapUp 31 = .ok (.iconst 0, 1) := dk_3 (dk_at dksX10_heapUp_1 7 rfl rfl)
theorem dX10_heapUp_32 : decode cX10_heapUp 32 = .ok (.istore 4, 2) := dk_54 4 (dk_at dksX10_heapUp_1 8 rfl rfl)
theorem dX10_heapUp_34 : decode cX10_heapUp 34 = .ok (.iload 4, 2) := dk_21 4 (dk_at dksX10_heapUp_1 10 rfl rfl)
theorem dX10_heapUp_36 : decode cX10_heapUp 36 = .ok (.aload_n 0, 1) := dk_42 (dk_at dksX10_heapUp_1 12 rfl rfl)
theorem dX10_heapUp_37 : decode cX10_heapUp 37 = .ok (.getfield 250, 3) := dk_180 0 250 (dk_at dksX10_heapUp_1 13 rfl rfl)
theorem dX10_heapUp_40 : decode cX10_heapUp 40 = .ok (.if_icmp .ge 50, 3) := dk_162 0 50 (dk_at dksX10_heapUp_1 16 rfl rfl)
theorem dX10_heapUp_43 : decode cX10_heapUp 43 = .ok (.aload_n 0, 1) := dk_42 (dk_at dksX10_heapUp_1 19 rfl rfl)
theorem dX10_heapUp_44 : decode cX10_heapUp 44 = .ok (.iload_n 2, 1) := dk_28 (dk_at dksX10_heapUp_1 20 rfl rfl)
theorem dX10_heapUp_45 : decode cX10_heapUp 45 = .ok (.iload 4, 2) := dk_21 4 (dk_at dksX10_heapUp_1 21 rfl rfl)
theorem dX10_heapUp_47 : decode cX10_heapUp 47 = .ok (.invokevirtual 293, 3) := dk_182 1 37 (dk_at dksX10_heapUp_2 0 rfl rfl)
theorem dX10_heapUp_50 : decode cX10_heapUp 50 = .ok (.ifCond .eq 34, 3) := dk_153 0 34 (dk_at dksX10_heapUp_2 3 rfl rfl)
theorem dX10_heapUp_53 : decode cX10_heapUp 53 = .ok (.iload_n 3, 1) := dk_29 (dk_at dksX10_heapUp_2 6 rfl rfl)
theorem dX10_heapUp_54 : decode cX10_heapUp 54 = .ok (.iconst (-1), 1) := dk_2 (dk_at dksX10_heapUp_2 7 rfl rfl)
theorem dX10_heapUp_55 : decode cX10_heapUp 55 = .ok (.if_icmp .eq 13, 3) := dk_159 0 13 (dk_at dksX10_heapUp_2 8 rfl rfl)
theorem dX10_heapUp_58 : decode cX10_heapUp 58 = .ok (.aload_n 0, 1) := dk_42 (dk_at dksX10_heapUp_2 11 rfl rfl)
theorem dX10_heapUp_59 : decode cX10_heapUp 59 = .ok (.iload_n 3, 1) := dk_29 (dk_at dksX10_heapUp_2 12 rfl rfl)
theorem dX10_heapUp_60 : decode cX10_heapUp 60 = .ok (.iload 4, 2) := dk_21 4 (dk_at dksX10_heapUp_2 13 rfl rfl)
theorem dX10_heapUp_62 : decode cX10_heapUp 62 = .ok (.invokevirtual 293, 3) := dk_182 1 37 (dk_at dksX10_heapUp_2 15 rfl rfl)
theorem dX10_heapUp_65 : decode cX10_heapUp 65 = .ok (.ifCond .ne 19, 3) := dk_154 0 19 (dk_at dksX10_heapUp_2 18 rfl rfl)
theorem dX10_heapUp_68 : decode cX10_heapUp 68 = .ok (.aload_n 0, 1) := dk_42 (dk_at dksX10_heapUp_2 21 rfl rfl)
theorem dX10_heapUp_69 : decode cX10_heapUp 69 = .ok (.getfield 43, 3) := dk_180 0 43 (dk_at dksX10_heapUp_3 0 rfl rfl)
theorem dX10_heapUp_72 : decode cX10_heapUp 72 = .ok (.aload_n 0, 1) := dk_42 (dk_at dksX10_heapUp_3 3 rfl rfl)
theorem dX10_heapUp_73 : decode cX10_heapUp 73 = .ok (.iload_n 1, 1) := dk_27 (dk_at dksX10_heapUp_3 4 rfl rfl)
theorem dX10_heapUp_74 : decode cX10_heapUp 74 = .ok (.iload 4, 2) := dk_21 4 (dk_at dksX10_heapUp_3 5 rfl rfl)
theorem dX10_heapUp_76 : decode cX10_heapUp 76 = .ok (.invokevirtual 273, 3) := dk_182 1 17 (dk_at dksX10_heapUp_3 7 rfl rfl)
theorem dX10_heapUp_79 : decode cX10_heapUp 79 = .ok (.dup2, 1) := dk_92 (dk_at dksX10_heapUp_3 10 rfl rfl)
theorem dX10_heapUp_80 : decode cX10_heapUp 80 = .ok (.iaload, 1) := dk_46 (dk_at dksX10_heapUp_3 11 rfl rfl)
theorem dX10_heapUp_81 : decode cX10_heapUp 81 = .ok (.iconst 1, 1) := dk_4 (dk_at dksX10_heapUp_3 12 rfl rfl)
theorem dX10_heapUp_82 : decode cX10_heapUp 82 = .ok (.iadd, 1) := dk_96 (dk_at dksX10_heapUp_3 13 rfl rfl)
theorem dX10_heapUp_83 : decode cX10_heapUp 83 = .ok (.iastore, 1) := dk_79 (dk_at dksX10_heapUp_3 14 rfl rfl)
theorem dX10_heapUp_84 : decode cX10_heapUp 84 = .ok (.iinc 4 1, 3) := dk_132 4 1 (dk_at dksX10_heapUp_3 15 rfl rfl)
theorem dX10_heapUp_87 : decode cX10_heapUp 87 = .ok (.goto (-53), 3) := dk_167 255 203 (dk_at dksX10_heapUp_3 18 rfl rfl)
theorem dX10_heapUp_90 : decode cX10_heapUp 90 = .ok (.return_, 1) := dk_177 (dk_at dksX10_heapUp_3 21 rfl rfl)
abbrev cX10_laysSeeing : ByteArray := prog_33_method_53_code
def yX10_laysSeeing : MethodName := ⟨RX10, "laysSeeing", "(III)V"⟩
def dkwX10_laysSeeing_2 : List UInt8 := [132, 4, 1, 167, 255, 217, 177]
abbrev dktX10_laysSeeing_2 : List UInt8 := dkwX10_laysSeeing_2 ++ []
def dkwX10_laysSeeing_1 : List UInt8 := [180, 0, 43, 42, 27, 21, 4, 182, 1, 17, 46, 154, 0, 7, 4, 167, 0, 4, 3, 182, 1, 33]
abbrev dktX10_laysSeeing_1 : List UInt8 := dkwX10_laysSeeing_1 ++ dktX10_laysSeeing_2
def dkwX10_laysSeeing_0 : List UInt8 := [42, 27, 28, 29, 182, 1, 44, 3, 54, 4, 21, 4, 42, 180, 0, 250, 162, 0, 36, 42, 29, 21, 4, 42]
abbrev dktX10_laysSeeing_0 : List UInt8 := dkwX10_laysSeeing_0 ++ dktX10_laysSeeing_1
theorem dksX10_laysSeeing_0 : cX10_laysSeeing.data.toList.drop 0 = dktX10_laysSeeing_0 := by decide +kernel
theorem dksX10_laysSeeing_1 : cX10_laysSeeing.data.toList.drop 24 = dktX10_laysSeeing_1 := dk_seg dksX10_laysSeeing_0 24 rfl rfl
theorem dksX10_laysSeeing_2 : cX10_laysSeeing.data.toList.drop 46 = dktX10_laysSeeing_2 := dk_seg dksX10_laysSeeing_1 22 rfl rfl
theorem dX10_laysSeeing_0 : decode cX10_laysSeeing 0 = .ok (.aload_n 0, 1) := dk_42 (dk_at dksX10_laysSeeing_0 0 rfl rfl)
theorem dX10_laysSeeing_1 : decode cX10_laysSeeing 1 = .ok (.iload_n 1, 1) := dk_27 (dk_at dksX10_laysSeeing_0 1 rfl rfl)
theorem dX10_laysSeeing_2 : decode cX10_laysSeeing 2 = .ok (.iload_n 2, 1) := dk_28 (dk_at dksX10_laysSeeing_0 2 rfl rfl)
theorem dX10_laysSeeing_3 : decode cX10_laysSeeing 3 = .ok (.iload_n 3, 1) := dk_29 (dk_at dksX10_laysSeeing_0 3 rfl rfl)
theorem dX10_laysSeeing_4 : decode cX10_laysSeeing 4 = .ok (.invokevirtual 300, 3) := dk_182 1 44 (dk_at dksX10_laysSeeing_0 4 rfl rfl)
theorem dX10_laysSeeing_7 : decode cX10_laysSeeing 7 = .ok (.iconst 0, 1) := dk_3 (dk_at dksX10_laysSeeing_0 7 rfl rfl)
theorem dX10_laysSeeing_8 : decode cX10_laysSeeing 8 = .ok (.istore 4, 2) := dk_54 4 (dk_at dksX10_laysSeeing_0 8 rfl rfl)
theorem dX10_laysSeeing_10 : decode cX10_laysSeeing 10 = .ok (.iload 4, 2) := dk_21 4 (dk_at dksX10_laysSeeing_0 10 rfl rfl)
theorem dX10_laysSeeing_12 : decode cX10_laysSeeing 12 = .ok (.aload_n 0, 1) := dk_42 (dk_at dksX10_laysSeeing_0 12 rfl rfl)
theorem dX10_laysSeeing_13 : decode cX10_laysSeeing 13 = .ok (.getfield 250, 3) := dk_180 0 250 (dk_at dksX10_laysSeeing_0 13 rfl rfl)
theorem dX10_laysSeeing_16 : decode cX10_laysSeeing 16 = .ok (.if_icmp .ge 36, 3) := dk_162 0 36 (dk_at dksX10_laysSeeing_0 16 rfl rfl)
theorem dX10_laysSeeing_19 : decode cX10_laysSeeing 19 = .ok (.aload_n 0, 1) := dk_42 (dk_at dksX10_laysSeeing_0 19 rfl rfl)
theorem dX10_laysSeeing_20 : decode cX10_laysSeeing 20 = .ok (.iload_n 3, 1) := dk_29 (dk_at dksX10_laysSeeing_0 20 rfl rfl)
theorem dX10_laysSeeing_21 : decode cX10_laysSeeing 21 = .ok (.iload 4, 2) := dk_21 4 (dk_at dksX10_laysSeeing_0 21 rfl rfl)
theorem dX10_laysSeeing_23 : decode cX10_laysSeeing 23 = .ok (.aload_n 0, 1) := dk_42 (dk_at dksX10_laysSeeing_0 23 rfl rfl)
theorem dX10_laysSeeing_24 : decode cX10_laysSeeing 24 = .ok (.getfield 43, 3) := dk_180 0 43 (dk_at dksX10_laysSeeing_1 0 rfl rfl)
theorem dX10_laysSeeing_27 : decode cX10_laysSeeing 27 = .ok (.aload_n 0, 1) := dk_42 (dk_at dksX10_laysSeeing_1 3 rfl rfl)
theorem dX10_laysSeeing_28 : decode cX10_laysSeeing 28 = .ok (.iload_n 1, 1) := dk_27 (dk_at dksX10_laysSeeing_1 4 rfl rfl)
theorem dX10_laysSeeing_29 : decode cX10_laysSeeing 29 = .ok (.iload 4, 2) := dk_21 4 (dk_at dksX10_laysSeeing_1 5 rfl rfl)
theorem dX10_laysSeeing_31 : decode cX10_laysSeeing 31 = .ok (.invokevirtual 273, 3) := dk_182 1 17 (dk_at dksX10_laysSeeing_1 7 rfl rfl)
theorem dX10_laysSeeing_34 : decode cX10_laysSeeing 34 = .ok (.iaload, 1) := dk_46 (dk_at dksX10_laysSeeing_1 10 rfl rfl)
theorem dX10_laysSeeing_35 : decode cX10_laysSeeing 35 = .ok (.ifCond .ne 7, 3) := dk_154 0 7 (dk_at dksX10_laysSeeing_1 11 rfl rfl)
theorem dX10_laysSeeing_38 : decode cX10_laysSeeing 38 = .ok (.iconst 1, 1) := dk_4 (dk_at dksX10_laysSeeing_1 14 rfl rfl)
theorem dX10_laysSeeing_39 : decode cX10_laysSeeing 39 = .ok (.goto 4, 3) := dk_167 0 4 (dk_at dksX10_laysSeeing_1 15 rfl rfl)
theorem dX10_laysSeeing_42 : decode cX10_laysSeeing 42 = .ok (.iconst 0, 1) := dk_3 (dk_at dksX10_laysSeeing_1 18 rfl rfl)
theorem dX10_laysSeeing_43 : decode cX10_laysSeeing 43 = .ok (.invokevirtual 289, 3) := dk_182 1 33 (dk_at dksX10_laysSeeing_1 19 rfl rfl)
theorem dX10_laysSeeing_46 : decode cX10_laysSeeing 46 = .ok (.iinc 4 1, 3) := dk_132 4 1 (dk_at dksX10_laysSeeing_2 0 rfl rfl)
theorem dX10_laysSeeing_49 : decode cX10_laysSeeing 49 = .ok (.goto (-39), 3) := dk_167 255 217 (dk_at dksX10_laysSeeing_2 3 rfl rfl)
theorem dX10_laysSeeing_52 : decode cX10_laysSeeing 52 = .ok (.return_, 1) := dk_177 (dk_at dksX10_laysSeeing_2 6 rfl rfl)
abbrev cX10_manyOf : ByteArray := prog_33_method_48_code
def yX10_manyOf : MethodName := ⟨RX10, "manyOf", "(I)I"⟩
def dkwX10_manyOf_1 : List UInt8 := [167, 0, 4, 3, 96, 61, 132, 3, 1, 167, 255, 228, 28, 172]
abbrev dktX10_manyOf_1 : List UInt8 := dkwX10_manyOf_1 ++ []
def dkwX10_manyOf_0 : List UInt8 := [3, 61, 3, 62, 29, 42, 180, 0, 250, 162, 0, 26, 28, 42, 27, 29, 182, 1, 37, 153, 0, 7, 4]
abbrev dktX10_manyOf_0 : List UInt8 := dkwX10_manyOf_0 ++ dktX10_manyOf_1
theorem dksX10_manyOf_0 : cX10_manyOf.data.toList.drop 0 = dktX10_manyOf_0 := by decide +kernel
theorem dksX10_manyOf_1 : cX10_manyOf.data.toList.drop 23 = dktX10_manyOf_1 := dk_seg dksX10_manyOf_0 23 rfl rfl
theorem dX10_manyOf_0 : decode cX10_manyOf 0 = .ok (.iconst 0, 1) := dk_3 (dk_at dksX10_manyOf_0 0 rfl rfl)
theorem dX10_manyOf_1 : decode cX10_manyOf 1 = .ok (.istore_n 2, 1) := dk_61 (dk_at dksX10_manyOf_0 1 rfl rfl)
theorem dX10_manyOf_2 : decode cX10_manyOf 2 = .ok (.iconst 0, 1) := dk_3 (dk_at dksX10_manyOf_0 2 rfl rfl)
theorem dX10_manyOf_3 : decode cX10_manyOf 3 = .ok (.istore_n 3, 1) := dk_62 (dk_at dksX10_manyOf_0 3 rfl rfl)
theorem dX10_manyOf_4 : decode cX10_manyOf 4 = .ok (.iload_n 3, 1) := dk_29 (dk_at dksX10_manyOf_0 4 rfl rfl)
theorem dX10_manyOf_5 : decode cX10_manyOf 5 = .ok (.aload_n 0, 1) := dk_42 (dk_at dksX10_manyOf_0 5 rfl rfl)
theorem dX10_manyOf_6 : decode cX10_manyOf 6 = .ok (.getfield 250, 3) := dk_180 0 250 (dk_at dksX10_manyOf_0 6 rfl rfl)
theorem dX10_manyOf_9 : decode cX10_manyOf 9 = .ok (.if_icmp .ge 26, 3) := dk_162 0 26 (dk_at dksX10_manyOf_0 9 rfl rfl)
theorem dX10_manyOf_12 : decode cX10_manyOf 12 = .ok (.iload_n 2, 1) := dk_28 (dk_at dksX10_manyOf_0 12 rfl rfl)
theorem dX10_manyOf_13 : decode cX10_manyOf 13 = .ok (.aload_n 0, 1) := dk_42 (dk_at dksX10_manyOf_0 13 rfl rfl)
theorem dX10_manyOf_14 : decode cX10_manyOf 14 = .ok (.iload_n 1, 1) := dk_27 (dk_at dksX10_manyOf_0 14 rfl rfl)
theorem dX10_manyOf_15 : decode cX10_manyOf 15 = .ok (.iload_n 3, 1) := dk_29 (dk_at dksX10_manyOf_0 15 rfl rfl)
theorem dX10_manyOf_16 : decode cX10_manyOf 16 = .ok (.invokevirtual 293, 3) := dk_182 1 37 (dk_at dksX10_manyOf_0 16 rfl rfl)
theorem dX10_manyOf_19 : decode cX10_manyOf 19 = .ok (.ifCond .eq 7, 3) := dk_153 0 7 (dk_at dksX10_manyOf_0 19 rfl rfl)
theorem dX10_manyOf_22 : decode cX10_manyOf 22 = .ok (.iconst 1, 1) := dk_4 (dk_at dksX10_manyOf_0 22 rfl rfl)
theorem dX10_manyOf_23 : decode cX10_manyOf 23 = .ok (.goto 4, 3) := dk_167 0 4 (dk_at dksX10_manyOf_1 0 rfl rfl)
theorem dX10_manyOf_26 : decode cX10_manyOf 26 = .ok (.iconst 0, 1) := dk_3 (dk_at dksX10_manyOf_1 3 rfl rfl)
theorem dX10_manyOf_27 : decode cX10_manyOf 27 = .ok (.iadd, 1) := dk_96 (dk_at dksX10_manyOf_1 4 rfl rfl)
theorem dX10_manyOf_28 : decode cX10_manyOf 28 = .ok (.istore_n 2, 1) := dk_61 (dk_at dksX10_manyOf_1 5 rfl rfl)
theorem dX10_manyOf_29 : decode cX10_manyOf 29 = .ok (.iinc 3 1, 3) := dk_132 3 1 (dk_at dksX10_manyOf_1 6 rfl rfl)
theorem dX10_manyOf_32 : decode cX10_manyOf 32 = .ok (.goto (-28), 3) := dk_167 255 228 (dk_at dksX10_manyOf_1 9 rfl rfl)
theorem dX10_manyOf_35 : decode cX10_manyOf 35 = .ok (.iload_n 2, 1) := dk_28 (dk_at dksX10_manyOf_1 12 rfl rfl)
theorem dX10_manyOf_36 : decode cX10_manyOf 36 = .ok (.ireturn, 1) := dk_172 (dk_at dksX10_manyOf_1 13 rfl rfl)
abbrev cX10_leftAt : ByteArray := prog_33_method_63_code
def yX10_leftAt : MethodName := ⟨RX10, "leftAt", "(II)I"⟩
def dkwX10_leftAt_2 : List UInt8 := [167, 0, 13, 29, 154, 0, 6, 21, 4, 172, 132, 3, 255, 132, 4, 1, 167, 255, 221, 2, 172]
abbrev dktX10_leftAt_2 : List UInt8 := dkwX10_leftAt_2 ++ []
def dkwX10_leftAt_1 : List UInt8 := [62, 3, 54, 4, 21, 4, 42, 180, 0, 250, 162, 0, 32, 42, 27, 21, 4, 182, 1, 37, 154, 0, 6]
abbrev dktX10_leftAt_1 : List UInt8 := dkwX10_leftAt_1 ++ dktX10_leftAt_2
def dkwX10_leftAt_0 : List UInt8 := [42, 3, 181, 0, 71, 42, 27, 182, 1, 86, 154, 0, 9, 42, 4, 182, 0, 237, 172, 42, 182, 1, 74, 28]
abbrev dktX10_leftAt_0 : List UInt8 := dkwX10_leftAt_0 ++ dktX10_leftAt_1
theorem dksX10_leftAt_0 : cX10_leftAt.data.toList.drop 0 = dktX10_leftAt_0 := by decide +kernel
theorem dksX10_leftAt_1 : cX10_leftAt.data.toList.drop 24 = dktX10_leftAt_1 := dk_seg dksX10_leftAt_0 24 rfl rfl
theorem dksX10_leftAt_2 : cX10_leftAt.data.toList.drop 47 = dktX10_leftAt_2 := dk_seg dksX10_leftAt_1 23 rfl rfl
theorem dX10_leftAt_0 : decode cX10_leftAt 0 = .ok (.aload_n 0, 1) := dk_42 (dk_at dksX10_leftAt_0 0 rfl rfl)
theorem dX10_leftAt_1 : decode cX10_leftAt 1 = .ok (.iconst 0, 1) := dk_3 (dk_at dksX10_leftAt_0 1 rfl rfl)
theorem dX10_leftAt_2 : decode cX10_leftAt 2 = .ok (.putfield 71, 3) := dk_181 0 71 (dk_at dksX10_leftAt_0 2 rfl rfl)
theorem dX10_leftAt_5 : decode cX10_leftAt 5 = .ok (.aload_n 0, 1) := dk_42 (dk_at dksX10_leftAt_0 5 rfl rfl)
theorem dX10_leftAt_6 : decode cX10_leftAt 6 = .ok (.iload_n 1, 1) := dk_27 (dk_at dksX10_leftAt_0 6 rfl rfl)
theorem dX10_leftAt_7 : decode cX10_leftAt 7 = .ok (.invokevirtual 342, 3) := dk_182 1 86 (dk_at dksX10_leftAt_0 7 rfl rfl)
theorem dX10_leftAt_10 : decode cX10_leftAt 10 = .ok (.ifCond .ne 9, 3) := dk_154 0 9 (dk_at dksX10_leftAt_0 10 rfl rfl)
theorem dX10_leftAt_13 : decode cX10_leftAt 13 = .ok (.aload_n 0, 1) := dk_42 (dk_at dksX10_leftAt_0 13 rfl rfl)
theorem dX10_leftAt_14 : decode cX10_leftAt 14 = .ok (.iconst 1, 1) := dk_4 (dk_at dksX10_leftAt_0 14 rfl rfl)
theorem dX10_leftAt_15 : decode cX10_leftAt 15 = .ok (.invokevirtual 237, 3) := dk_182 0 237 (dk_at dksX10_leftAt_0 15 rfl rfl)
theorem dX10_leftAt_18 : decode cX10_leftAt 18 = .ok (.ireturn, 1) := dk_172 (dk_at dksX10_leftAt_0 18 rfl rfl)
theorem dX10_leftAt_19 : decode cX10_leftAt 19 = .ok (.aload_n 0, 1) := dk_42 (dk_at dksX10_leftAt_0 19 rfl rfl)
theorem dX10_leftAt_20 : decode cX10_leftAt 20 = .ok (.invokevirtual 330, 3) := dk_182 1 74 (dk_at dksX10_leftAt_0 20 rfl rfl)
theorem dX10_leftAt_23 : decode cX10_leftAt 23 = .ok (.iload_n 2, 1) := dk_28 (dk_at dksX10_leftAt_0 23 rfl rfl)
theorem dX10_leftAt_24 : decode cX10_leftAt 24 = .ok (.istore_n 3, 1) := dk_62 (dk_at dksX10_leftAt_1 0 rfl rfl)
theorem dX10_leftAt_25 : decode cX10_leftAt 25 = .ok (.iconst 0, 1) := dk_3 (dk_at dksX10_leftAt_1 1 rfl rfl)
theorem dX10_leftAt_26 : decode cX10_leftAt 26 = .ok (.istore 4, 2) := dk_54 4 (dk_at dksX10_leftAt_1 2 rfl rfl)
theorem dX10_leftAt_28 : decode cX10_leftAt 28 = .ok (.iload 4, 2) := dk_21 4 (dk_at dksX10_leftAt_1 4 rfl rfl)
theorem dX10_leftAt_30 : decode cX10_leftAt 30 = .ok (.aload_n 0, 1) := dk_42 (dk_at dksX10_leftAt_1 6 rfl rfl)
theorem dX10_leftAt_31 : decode cX10_leftAt 31 = .ok (.getfield 250, 3) := dk_180 0 250 (dk_at dksX10_leftAt_1 7 rfl rfl)
theorem dX10_leftAt_34 : decode cX10_leftAt 34 = .ok (.if_icmp .ge 32, 3) := dk_162 0 32 (dk_at dksX10_leftAt_1 10 rfl rfl)
theorem dX10_leftAt_37 : decode cX10_leftAt 37 = .ok (.aload_n 0, 1) := dk_42 (dk_at dksX10_leftAt_1 13 rfl rfl)
theorem dX10_leftAt_38 : decode cX10_leftAt 38 = .ok (.iload_n 1, 1) := dk_27 (dk_at dksX10_leftAt_1 14 rfl rfl)
theorem dX10_leftAt_39 : decode cX10_leftAt 39 = .ok (.iload 4, 2) := dk_21 4 (dk_at dksX10_leftAt_1 15 rfl rfl)
theorem dX10_leftAt_41 : decode cX10_leftAt 41 = .ok (.invokevirtual 293, 3) := dk_182 1 37 (dk_at dksX10_leftAt_1 17 rfl rfl)
theorem dX10_leftAt_44 : decode cX10_leftAt 44 = .ok (.ifCond .ne 6, 3) := dk_154 0 6 (dk_at dksX10_leftAt_1 20 rfl rfl)
theorem dX10_leftAt_47 : decode cX10_leftAt 47 = .ok (.goto 13, 3) := dk_167 0 13 (dk_at dksX10_leftAt_2 0 rfl rfl)
theorem dX10_leftAt_50 : decode cX10_leftAt 50 = .ok (.iload_n 3, 1) := dk_29 (dk_at dksX10_leftAt_2 3 rfl rfl)
theorem dX10_leftAt_51 : decode cX10_leftAt 51 = .ok (.ifCond .ne 6, 3) := dk_154 0 6 (dk_at dksX10_leftAt_2 4 rfl rfl)
theorem dX10_leftAt_54 : decode cX10_leftAt 54 = .ok (.iload 4, 2) := dk_21 4 (dk_at dksX10_leftAt_2 7 rfl rfl)
theorem dX10_leftAt_56 : decode cX10_leftAt 56 = .ok (.ireturn, 1) := dk_172 (dk_at dksX10_leftAt_2 9 rfl rfl)
theorem dX10_leftAt_57 : decode cX10_leftAt 57 = .ok (.iinc 3 (-1), 3) := dk_132 3 255 (dk_at dksX10_leftAt_2 10 rfl rfl)
theorem dX10_leftAt_60 : decode cX10_leftAt 60 = .ok (.iinc 4 1, 3) := dk_132 4 1 (dk_at dksX10_leftAt_2 13 rfl rfl)
theorem dX10_leftAt_63 : decode cX10_leftAt 63 = .ok (.goto (-35), 3) := dk_167 255 221 (dk_at dksX10_leftAt_2 16 rfl rfl)
theorem dX10_leftAt_66 : decode cX10_leftAt 66 = .ok (.iconst (-1), 1) := dk_2 (dk_at dksX10_leftAt_2 19 rfl rfl)
theorem dX10_leftAt_67 : decode cX10_leftAt 67 = .ok (.ireturn, 1) := dk_172 (dk_at dksX10_leftAt_2 20 rfl rfl)
abbrev cX10_isLeft : ByteArray := prog_33_method_64_code
def yX10_isLeft : MethodName := ⟨RX10, "isLeft", "(II)Z"⟩
def dkwX10_isLeft_2 : List UInt8 := [182, 1, 37, 172]
abbrev dktX10_isLeft_2 : List UInt8 := dkwX10_isLeft_2 ++ []
def dkwX10_isLeft_1 : List UInt8 := [167, 0, 4, 5, 181, 0, 71, 42, 180, 0, 71, 158, 0, 5, 3, 172, 42, 182, 1, 74, 42, 27, 28]
abbrev dktX10_isLeft_1 : List UInt8 := dkwX10_isLeft_1 ++ dktX10_isLeft_2
def dkwX10_isLeft_0 : List UInt8 := [42, 42, 28, 182, 1, 0, 154, 0, 7, 4, 167, 0, 16, 42, 27, 182, 1, 86, 153, 0, 7, 3]
abbrev dktX10_isLeft_0 : List UInt8 := dkwX10_isLeft_0 ++ dktX10_isLeft_1
theorem dksX10_isLeft_0 : cX10_isLeft.data.toList.drop 0 = dktX10_isLeft_0 := by decide +kernel
theorem dksX10_isLeft_1 : cX10_isLeft.data.toList.drop 22 = dktX10_isLeft_1 := dk_seg dksX10_isLeft_0 22 rfl rfl
theorem dksX10_isLeft_2 : cX10_isLeft.data.toList.drop 45 = dktX10_isLeft_2 := dk_seg dksX10_isLeft_1 23 rfl rfl
theorem dX10_isLeft_0 : decode cX10_isLeft 0 = .ok (.aload_n 0, 1) := dk_42 (dk_at dksX10_isLeft_0 0 rfl rfl)
theorem dX10_isLeft_1 : decode cX10_isLeft 1 = .ok (.aload_n 0, 1) := dk_42 (dk_at dksX10_isLeft_0 1 rfl rfl)
theorem dX10_isLeft_2 : decode cX10_isLeft 2 = .ok (.iload_n 2, 1) := dk_28 (dk_at dksX10_isLeft_0 2 rfl rfl)
theorem dX10_isLeft_3 : decode cX10_isLeft 3 = .ok (.invokevirtual 256, 3) := dk_182 1 0 (dk_at dksX10_isLeft_0 3 rfl rfl)
theorem dX10_isLeft_6 : decode cX10_isLeft 6 = .ok (.ifCond .ne 7, 3) := dk_154 0 7 (dk_at dksX10_isLeft_0 6 rfl rfl)
theorem dX10_isLeft_9 : decode cX10_isLeft 9 = .ok (.iconst 1, 1) := dk_4 (dk_at dksX10_isLeft_0 9 rfl rfl)
theorem dX10_isLeft_10 : decode cX10_isLeft 10 = .ok (.goto 16, 3) := dk_167 0 16 (dk_at dksX10_isLeft_0 10 rfl rfl)
theorem dX10_isLeft_13 : decode cX10_isLeft 13 = .ok (.aload_n 0, 1) := dk_42 (dk_at dksX10_isLeft_0 13 rfl rfl)
theorem dX10_isLeft_14 : decode cX10_isLeft 14 = .ok (.iload_n 1, 1) := dk_27 (dk_at dksX10_isLeft_0 14 rfl rfl)
theorem dX10_isLeft_15 : decode cX10_isLeft 15 = .ok (.invokevirtual 342, 3) := dk_182 1 86 (dk_at dksX10_isLeft_0 15 rfl rfl)
theorem dX10_isLeft_18 : decode cX10_isLeft 18 = .ok (.ifCond .eq 7, 3) := dk_153 0 7 (dk_at dksX10_isLeft_0 18 rfl rfl)
theorem dX10_isLeft_21 : decode cX10_isLeft 21 = .ok (.iconst 0, 1) := dk_3 (dk_at dksX10_isLeft_0 21 rfl rfl)
theorem dX10_isLeft_22 : decode cX10_isLeft 22 = .ok (.goto 4, 3) := dk_167 0 4 (dk_at dksX10_isLeft_1 0 rfl rfl)
theorem dX10_isLeft_25 : decode cX10_isLeft 25 = .ok (.iconst 2, 1) := dk_5 (dk_at dksX10_isLeft_1 3 rfl rfl)
theorem dX10_isLeft_26 : decode cX10_isLeft 26 = .ok (.putfield 71, 3) := dk_181 0 71 (dk_at dksX10_isLeft_1 4 rfl rfl)
theorem dX10_isLeft_29 : decode cX10_isLeft 29 = .ok (.aload_n 0, 1) := dk_42 (dk_at dksX10_isLeft_1 7 rfl rfl)
theorem dX10_isLeft_30 : decode cX10_isLeft 30 = .ok (.getfield 71, 3) := dk_180 0 71 (dk_at dksX10_isLeft_1 8 rfl rfl)
theorem dX10_isLeft_33 : decode cX10_isLeft 33 = .ok (.ifCond .le 5, 3) := dk_158 0 5 (dk_at dksX10_isLeft_1 11 rfl rfl)
theorem dX10_isLeft_36 : decode cX10_isLeft 36 = .ok (.iconst 0, 1) := dk_3 (dk_at dksX10_isLeft_1 14 rfl rfl)
theorem dX10_isLeft_37 : decode cX10_isLeft 37 = .ok (.ireturn, 1) := dk_172 (dk_at dksX10_isLeft_1 15 rfl rfl)
theorem dX10_isLeft_38 : decode cX10_isLeft 38 = .ok (.aload_n 0, 1) := dk_42 (dk_at dksX10_isLeft_1 16 rfl rfl)
theorem dX10_isLeft_39 : decode cX10_isLeft 39 = .ok (.invokevirtual 330, 3) := dk_182 1 74 (dk_at dksX10_isLeft_1 17 rfl rfl)
theorem dX10_isLeft_42 : decode cX10_isLeft 42 = .ok (.aload_n 0, 1) := dk_42 (dk_at dksX10_isLeft_1 20 rfl rfl)
theorem dX10_isLeft_43 : decode cX10_isLeft 43 = .ok (.iload_n 1, 1) := dk_27 (dk_at dksX10_isLeft_1 21 rfl rfl)
theorem dX10_isLeft_44 : decode cX10_isLeft 44 = .ok (.iload_n 2, 1) := dk_28 (dk_at dksX10_isLeft_1 22 rfl rfl)
theorem dX10_isLeft_45 : decode cX10_isLeft 45 = .ok (.invokevirtual 293, 3) := dk_182 1 37 (dk_at dksX10_isLeft_2 0 rfl rfl)
theorem dX10_isLeft_48 : decode cX10_isLeft 48 = .ok (.ireturn, 1) := dk_172 (dk_at dksX10_isLeft_2 3 rfl rfl)
abbrev cX10_only : ByteArray := prog_33_method_65_code
def yX10_only : MethodName := ⟨RX10, "only", "()I"⟩
def dkwX10_only_0 : List UInt8 := [42, 3, 181, 0, 71, 42, 182, 1, 89, 172]
abbrev dktX10_only_0 : List UInt8 := dkwX10_only_0 ++ []
theorem dksX10_only_0 : cX10_only.data.toList.drop 0 = dktX10_only_0 := by decide +kernel
theorem dX10_only_0 : decode cX10_only 0 = .ok (.aload_n 0, 1) := dk_42 (dk_at dksX10_only_0 0 rfl rfl)
theorem dX10_only_1 : decode cX10_only 1 = .ok (.iconst 0, 1) := dk_3 (dk_at dksX10_only_0 1 rfl rfl)
theorem dX10_only_2 : decode cX10_only 2 = .ok (.putfield 71, 3) := dk_181 0 71 (dk_at dksX10_only_0 2 rfl rfl)
theorem dX10_only_5 : decode cX10_only 5 = .ok (.aload_n 0, 1) := dk_42 (dk_at dksX10_only_0 5 rfl rfl)
theorem dX10_only_6 : decode cX10_only 6 = .ok (.invokevirtual 345, 3) := dk_182 1 89 (dk_at dksX10_only_0 6 rfl rfl)
theorem dX10_only_9 : decode cX10_only 9 = .ok (.ireturn, 1) := dk_172 (dk_at dksX10_only_0 9 rfl rfl)
abbrev cX10_onlyNow : ByteArray := prog_33_method_60_code
def yX10_onlyNow : MethodName := ⟨RX10, "onlyNow", "()I"⟩
def dkwX10_onlyNow_0 : List UInt8 := [42, 182, 1, 80, 4, 160, 0, 17, 42, 42, 180, 0, 9, 16, 6, 46, 182, 1, 83, 167, 0, 4, 2, 172]
abbrev dktX10_onlyNow_0 : List UInt8 := dkwX10_onlyNow_0 ++ []
theorem dksX10_onlyNow_0 : cX10_onlyNow.data.toList.drop 0 = dktX10_onlyNow_0 := by decide +kernel
theorem dX10_onlyNow_0 : decode cX10_onlyNow 0 = .ok (.aload_n 0, 1) := dk_42 (dk_at dksX10_onlyNow_0 0 rfl rfl)
theorem dX10_onlyNow_1 : decode cX10_onlyNow 1 = .ok (.invokevirtual 336, 3) := dk_182 1 80 (dk_at dksX10_onlyNow_0 1 rfl rfl)
theorem dX10_onlyNow_4 : decode cX10_onlyNow 4 = .ok (.iconst 1, 1) := dk_4 (dk_at dksX10_onlyNow_0 4 rfl rfl)
theorem dX10_onlyNow_5 : decode cX10_onlyNow 5 = .ok (.if_icmp .ne 17, 3) := dk_160 0 17 (dk_at dksX10_onlyNow_0 5 rfl rfl)
theorem dX10_onlyNow_8 : decode cX10_onlyNow 8 = .ok (.aload_n 0, 1) := dk_42 (dk_at dksX10_onlyNow_0 8 rfl rfl)
theorem dX10_onlyNow_9 : decode cX10_onlyNow 9 = .ok (.aload_n 0, 1) := dk_42 (dk_at dksX10_onlyNow_0 9 rfl rfl)
theorem dX10_onlyNow_10 : decode cX10_onlyNow 10 = .ok (.getfield 9, 3) := dk_180 0 9 (dk_at dksX10_onlyNow_0 10 rfl rfl)
theorem dX10_onlyNow_13 : decode cX10_onlyNow 13 = .ok (.bipush 6, 2) := dk_16 6 (dk_at dksX10_onlyNow_0 13 rfl rfl)
theorem dX10_onlyNow_15 : decode cX10_onlyNow 15 = .ok (.iaload, 1) := dk_46 (dk_at dksX10_onlyNow_0 15 rfl rfl)
theorem dX10_onlyNow_16 : decode cX10_onlyNow 16 = .ok (.invokevirtual 339, 3) := dk_182 1 83 (dk_at dksX10_onlyNow_0 16 rfl rfl)
theorem dX10_onlyNow_19 : decode cX10_onlyNow 19 = .ok (.goto 4, 3) := dk_167 0 4 (dk_at dksX10_onlyNow_0 19 rfl rfl)
theorem dX10_onlyNow_22 : decode cX10_onlyNow 22 = .ok (.iconst (-1), 1) := dk_2 (dk_at dksX10_onlyNow_0 22 rfl rfl)
theorem dX10_onlyNow_23 : decode cX10_onlyNow 23 = .ok (.ireturn, 1) := dk_172 (dk_at dksX10_onlyNow_0 23 rfl rfl)
abbrev cX10_leftNow : ByteArray := prog_33_method_59_code
def yX10_leftNow : MethodName := ⟨RX10, "leftNow", "()I"⟩
def dkwX10_leftNow_0 : List UInt8 := [42, 182, 1, 74, 42, 42, 180, 0, 9, 16, 6, 46, 182, 1, 77, 172]
abbrev dktX10_leftNow_0 : List UInt8 := dkwX10_leftNow_0 ++ []
theorem dksX10_leftNow_0 : cX10_leftNow.data.toList.drop 0 = dktX10_leftNow_0 := by decide +kernel
theorem dX10_leftNow_0 : decode cX10_leftNow 0 = .ok (.aload_n 0, 1) := dk_42 (dk_at dksX10_leftNow_0 0 rfl rfl)
theorem dX10_leftNow_1 : decode cX10_leftNow 1 = .ok (.invokevirtual 330, 3) := dk_182 1 74 (dk_at dksX10_leftNow_0 1 rfl rfl)
theorem dX10_leftNow_4 : decode cX10_leftNow 4 = .ok (.aload_n 0, 1) := dk_42 (dk_at dksX10_leftNow_0 4 rfl rfl)
theorem dX10_leftNow_5 : decode cX10_leftNow 5 = .ok (.aload_n 0, 1) := dk_42 (dk_at dksX10_leftNow_0 5 rfl rfl)
theorem dX10_leftNow_6 : decode cX10_leftNow 6 = .ok (.getfield 9, 3) := dk_180 0 9 (dk_at dksX10_leftNow_0 6 rfl rfl)
theorem dX10_leftNow_9 : decode cX10_leftNow 9 = .ok (.bipush 6, 2) := dk_16 6 (dk_at dksX10_leftNow_0 9 rfl rfl)
theorem dX10_leftNow_11 : decode cX10_leftNow 11 = .ok (.iaload, 1) := dk_46 (dk_at dksX10_leftNow_0 11 rfl rfl)
theorem dX10_leftNow_12 : decode cX10_leftNow 12 = .ok (.invokevirtual 333, 3) := dk_182 1 77 (dk_at dksX10_leftNow_0 12 rfl rfl)
theorem dX10_leftNow_15 : decode cX10_leftNow 15 = .ok (.ireturn, 1) := dk_172 (dk_at dksX10_leftNow_0 15 rfl rfl)
abbrev cX10_first : ByteArray := prog_33_method_49_code
def yX10_first : MethodName := ⟨RX10, "first", "(I)I"⟩
def dkwX10_first_1 : List UInt8 := [167, 255, 234, 2, 172]
abbrev dktX10_first_1 : List UInt8 := dkwX10_first_1 ++ []
def dkwX10_first_0 : List UInt8 := [3, 61, 28, 42, 180, 0, 250, 162, 0, 20, 42, 27, 28, 182, 1, 37, 153, 0, 5, 28, 172, 132, 2, 1]
abbrev dktX10_first_0 : List UInt8 := dkwX10_first_0 ++ dktX10_first_1
theorem dksX10_first_0 : cX10_first.data.toList.drop 0 = dktX10_first_0 := by decide +kernel
theorem dksX10_first_1 : cX10_first.data.toList.drop 24 = dktX10_first_1 := dk_seg dksX10_first_0 24 rfl rfl
theorem dX10_first_0 : decode cX10_first 0 = .ok (.iconst 0, 1) := dk_3 (dk_at dksX10_first_0 0 rfl rfl)
theorem dX10_first_1 : decode cX10_first 1 = .ok (.istore_n 2, 1) := dk_61 (dk_at dksX10_first_0 1 rfl rfl)
theorem dX10_first_2 : decode cX10_first 2 = .ok (.iload_n 2, 1) := dk_28 (dk_at dksX10_first_0 2 rfl rfl)
theorem dX10_first_3 : decode cX10_first 3 = .ok (.aload_n 0, 1) := dk_42 (dk_at dksX10_first_0 3 rfl rfl)
theorem dX10_first_4 : decode cX10_first 4 = .ok (.getfield 250, 3) := dk_180 0 250 (dk_at dksX10_first_0 4 rfl rfl)
theorem dX10_first_7 : decode cX10_first 7 = .ok (.if_icmp .ge 20, 3) := dk_162 0 20 (dk_at dksX10_first_0 7 rfl rfl)
theorem dX10_first_10 : decode cX10_first 10 = .ok (.aload_n 0, 1) := dk_42 (dk_at dksX10_first_0 10 rfl rfl)
theorem dX10_first_11 : decode cX10_first 11 = .ok (.iload_n 1, 1) := dk_27 (dk_at dksX10_first_0 11 rfl rfl)
theorem dX10_first_12 : decode cX10_first 12 = .ok (.iload_n 2, 1) := dk_28 (dk_at dksX10_first_0 12 rfl rfl)
theorem dX10_first_13 : decode cX10_first 13 = .ok (.invokevirtual 293, 3) := dk_182 1 37 (dk_at dksX10_first_0 13 rfl rfl)
theorem dX10_first_16 : decode cX10_first 16 = .ok (.ifCond .eq 5, 3) := dk_153 0 5 (dk_at dksX10_first_0 16 rfl rfl)
theorem dX10_first_19 : decode cX10_first 19 = .ok (.iload_n 2, 1) := dk_28 (dk_at dksX10_first_0 19 rfl rfl)
theorem dX10_first_20 : decode cX10_first 20 = .ok (.ireturn, 1) := dk_172 (dk_at dksX10_first_0 20 rfl rfl)
theorem dX10_first_21 : decode cX10_first 21 = .ok (.iinc 2 1, 3) := dk_132 2 1 (dk_at dksX10_first_0 21 rfl rfl)
theorem dX10_first_24 : decode cX10_first 24 = .ok (.goto (-22), 3) := dk_167 255 234 (dk_at dksX10_first_1 0 rfl rfl)
theorem dX10_first_27 : decode cX10_first 27 = .ok (.iconst (-1), 1) := dk_2 (dk_at dksX10_first_1 3 rfl rfl)
theorem dX10_first_28 : decode cX10_first 28 = .ok (.ireturn, 1) := dk_172 (dk_at dksX10_first_1 4 rfl rfl)
abbrev cX10_so : ByteArray := prog_33_method_66_code
def yX10_so : MethodName := ⟨RX10, "so", "(II)Z"⟩
def dkwX10_so_2 : List UInt8 := [5, 27, 104, 96, 4, 96, 46, 27, 182, 1, 51, 28, 182, 1, 37, 172]
abbrev dktX10_so_2 : List UInt8 := dkwX10_so_2 ++ []
def dkwX10_so_1 : List UInt8 := [181, 0, 71, 42, 180, 0, 71, 158, 0, 5, 3, 172, 42, 182, 1, 74, 42, 42, 42, 180, 0, 9, 16, 26]
abbrev dktX10_so_1 : List UInt8 := dkwX10_so_1 ++ dktX10_so_2
def dkwX10_so_0 : List UInt8 := [42, 42, 27, 182, 1, 28, 153, 0, 15, 42, 28, 182, 1, 0, 153, 0, 7, 3, 167, 0, 4, 4]
abbrev dktX10_so_0 : List UInt8 := dkwX10_so_0 ++ dktX10_so_1
theorem dksX10_so_0 : cX10_so.data.toList.drop 0 = dktX10_so_0 := by decide +kernel
theorem dksX10_so_1 : cX10_so.data.toList.drop 22 = dktX10_so_1 := dk_seg dksX10_so_0 22 rfl rfl
theorem dksX10_so_2 : cX10_so.data.toList.drop 46 = dktX10_so_2 := dk_seg dksX10_so_1 24 rfl rfl
theorem dX10_so_0 : decode cX10_so 0 = .ok (.aload_n 0, 1) := dk_42 (dk_at dksX10_so_0 0 rfl rfl)
theorem dX10_so_1 : decode cX10_so 1 = .ok (.aload_n 0, 1) := dk_42 (dk_at dksX10_so_0 1 rfl rfl)
theorem dX10_so_2 : decode cX10_so 2 = .ok (.iload_n 1, 1) := dk_27 (dk_at dksX10_so_0 2 rfl rfl)
theorem dX10_so_3 : decode cX10_so 3 = .ok (.invokevirtual 284, 3) := dk_182 1 28 (dk_at dksX10_so_0 3 rfl rfl)
theorem dX10_so_6 : decode cX10_so 6 = .ok (.ifCond .eq 15, 3) := dk_153 0 15 (dk_at dksX10_so_0 6 rfl rfl)
theorem dX10_so_9 : decode cX10_so 9 = .ok (.aload_n 0, 1) := dk_42 (dk_at dksX10_so_0 9 rfl rfl)
theorem dX10_so_10 : decode cX10_so 10 = .ok (.iload_n 2, 1) := dk_28 (dk_at dksX10_so_0 10 rfl rfl)
theorem dX10_so_11 : decode cX10_so 11 = .ok (.invokevirtual 256, 3) := dk_182 1 0 (dk_at dksX10_so_0 11 rfl rfl)
theorem dX10_so_14 : decode cX10_so 14 = .ok (.ifCond .eq 7, 3) := dk_153 0 7 (dk_at dksX10_so_0 14 rfl rfl)
theorem dX10_so_17 : decode cX10_so 17 = .ok (.iconst 0, 1) := dk_3 (dk_at dksX10_so_0 17 rfl rfl)
theorem dX10_so_18 : decode cX10_so 18 = .ok (.goto 4, 3) := dk_167 0 4 (dk_at dksX10_so_0 18 rfl rfl)
theorem dX10_so_21 : decode cX10_so 21 = .ok (.iconst 1, 1) := dk_4 (dk_at dksX10_so_0 21 rfl rfl)
theorem dX10_so_22 : decode cX10_so 22 = .ok (.putfield 71, 3) := dk_181 0 71 (dk_at dksX10_so_1 0 rfl rfl)
theorem dX10_so_25 : decode cX10_so 25 = .ok (.aload_n 0, 1) := dk_42 (dk_at dksX10_so_1 3 rfl rfl)
theorem dX10_so_26 : decode cX10_so 26 = .ok (.getfield 71, 3) := dk_180 0 71 (dk_at dksX10_so_1 4 rfl rfl)
theorem dX10_so_29 : decode cX10_so 29 = .ok (.ifCond .le 5, 3) := dk_158 0 5 (dk_at dksX10_so_1 7 rfl rfl)
theorem dX10_so_32 : decode cX10_so 32 = .ok (.iconst 0, 1) := dk_3 (dk_at dksX10_so_1 10 rfl rfl)
theorem dX10_so_33 : decode cX10_so 33 = .ok (.ireturn, 1) := dk_172 (dk_at dksX10_so_1 11 rfl rfl)
theorem dX10_so_34 : decode cX10_so 34 = .ok (.aload_n 0, 1) := dk_42 (dk_at dksX10_so_1 12 rfl rfl)
theorem dX10_so_35 : decode cX10_so 35 = .ok (.invokevirtual 330, 3) := dk_182 1 74 (dk_at dksX10_so_1 13 rfl rfl)
theorem dX10_so_38 : decode cX10_so 38 = .ok (.aload_n 0, 1) := dk_42 (dk_at dksX10_so_1 16 rfl rfl)
theorem dX10_so_39 : decode cX10_so 39 = .ok (.aload_n 0, 1) := dk_42 (dk_at dksX10_so_1 17 rfl rfl)
theorem dX10_so_40 : decode cX10_so 40 = .ok (.aload_n 0, 1) := dk_42 (dk_at dksX10_so_1 18 rfl rfl)
theorem dX10_so_41 : decode cX10_so 41 = .ok (.getfield 9, 3) := dk_180 0 9 (dk_at dksX10_so_1 19 rfl rfl)
theorem dX10_so_44 : decode cX10_so 44 = .ok (.bipush 26, 2) := dk_16 26 (dk_at dksX10_so_1 22 rfl rfl)
theorem dX10_so_46 : decode cX10_so 46 = .ok (.iconst 2, 1) := dk_5 (dk_at dksX10_so_2 0 rfl rfl)
theorem dX10_so_47 : decode cX10_so 47 = .ok (.iload_n 1, 1) := dk_27 (dk_at dksX10_so_2 1 rfl rfl)
theorem dX10_so_48 : decode cX10_so 48 = .ok (.imul, 1) := dk_104 (dk_at dksX10_so_2 2 rfl rfl)
theorem dX10_so_49 : decode cX10_so 49 = .ok (.iadd, 1) := dk_96 (dk_at dksX10_so_2 3 rfl rfl)
theorem dX10_so_50 : decode cX10_so 50 = .ok (.iconst 1, 1) := dk_4 (dk_at dksX10_so_2 4 rfl rfl)
theorem dX10_so_51 : decode cX10_so 51 = .ok (.iadd, 1) := dk_96 (dk_at dksX10_so_2 5 rfl rfl)
theorem dX10_so_52 : decode cX10_so 52 = .ok (.iaload, 1) := dk_46 (dk_at dksX10_so_2 6 rfl rfl)
theorem dX10_so_53 : decode cX10_so 53 = .ok (.iload_n 1, 1) := dk_27 (dk_at dksX10_so_2 7 rfl rfl)
theorem dX10_so_54 : decode cX10_so 54 = .ok (.invokevirtual 307, 3) := dk_182 1 51 (dk_at dksX10_so_2 8 rfl rfl)
theorem dX10_so_57 : decode cX10_so 57 = .ok (.iload_n 2, 1) := dk_28 (dk_at dksX10_so_2 11 rfl rfl)
theorem dX10_so_58 : decode cX10_so 58 = .ok (.invokevirtual 293, 3) := dk_182 1 37 (dk_at dksX10_so_2 12 rfl rfl)
theorem dX10_so_61 : decode cX10_so 61 = .ok (.ireturn, 1) := dk_172 (dk_at dksX10_so_2 15 rfl rfl)
abbrev cX10_may : ByteArray := prog_33_method_67_code
def yX10_may : MethodName := ⟨RX10, "may", "(II)Z"⟩
def dkwX10_may_2 : List UInt8 := [182, 1, 37, 172]
abbrev dktX10_may_2 : List UInt8 := dkwX10_may_2 ++ []
def dkwX10_may_1 : List UInt8 := [181, 0, 71, 42, 180, 0, 71, 158, 0, 5, 3, 172, 42, 182, 1, 74, 42, 42, 27, 182, 1, 71, 28]
abbrev dktX10_may_1 : List UInt8 := dkwX10_may_1 ++ dktX10_may_2
def dkwX10_may_0 : List UInt8 := [42, 42, 27, 182, 1, 28, 153, 0, 15, 42, 28, 182, 1, 0, 153, 0, 7, 3, 167, 0, 4, 4]
abbrev dktX10_may_0 : List UInt8 := dkwX10_may_0 ++ dktX10_may_1
theorem dksX10_may_0 : cX10_may.data.toList.drop 0 = dktX10_may_0 := by decide +kernel
theorem dksX10_may_1 : cX10_may.data.toList.drop 22 = dktX10_may_1 := dk_seg dksX10_may_0 22 rfl rfl
theorem dksX10_may_2 : cX10_may.data.toList.drop 45 = dktX10_may_2 := dk_seg dksX10_may_1 23 rfl rfl
theorem dX10_may_0 : decode cX10_may 0 = .ok (.aload_n 0, 1) := dk_42 (dk_at dksX10_may_0 0 rfl rfl)
theorem dX10_may_1 : decode cX10_may 1 = .ok (.aload_n 0, 1) := dk_42 (dk_at dksX10_may_0 1 rfl rfl)
theorem dX10_may_2 : decode cX10_may 2 = .ok (.iload_n 1, 1) := dk_27 (dk_at dksX10_may_0 2 rfl rfl)
theorem dX10_may_3 : decode cX10_may 3 = .ok (.invokevirtual 284, 3) := dk_182 1 28 (dk_at dksX10_may_0 3 rfl rfl)
theorem dX10_may_6 : decode cX10_may 6 = .ok (.ifCond .eq 15, 3) := dk_153 0 15 (dk_at dksX10_may_0 6 rfl rfl)
theorem dX10_may_9 : decode cX10_may 9 = .ok (.aload_n 0, 1) := dk_42 (dk_at dksX10_may_0 9 rfl rfl)
theorem dX10_may_10 : decode cX10_may 10 = .ok (.iload_n 2, 1) := dk_28 (dk_at dksX10_may_0 10 rfl rfl)
theorem dX10_may_11 : decode cX10_may 11 = .ok (.invokevirtual 256, 3) := dk_182 1 0 (dk_at dksX10_may_0 11 rfl rfl)
theorem dX10_may_14 : decode cX10_may 14 = .ok (.ifCond .eq 7, 3) := dk_153 0 7 (dk_at dksX10_may_0 14 rfl rfl)
theorem dX10_may_17 : decode cX10_may 17 = .ok (.iconst 0, 1) := dk_3 (dk_at dksX10_may_0 17 rfl rfl)
theorem dX10_may_18 : decode cX10_may 18 = .ok (.goto 4, 3) := dk_167 0 4 (dk_at dksX10_may_0 18 rfl rfl)
theorem dX10_may_21 : decode cX10_may 21 = .ok (.iconst 1, 1) := dk_4 (dk_at dksX10_may_0 21 rfl rfl)
theorem dX10_may_22 : decode cX10_may 22 = .ok (.putfield 71, 3) := dk_181 0 71 (dk_at dksX10_may_1 0 rfl rfl)
theorem dX10_may_25 : decode cX10_may 25 = .ok (.aload_n 0, 1) := dk_42 (dk_at dksX10_may_1 3 rfl rfl)
theorem dX10_may_26 : decode cX10_may 26 = .ok (.getfield 71, 3) := dk_180 0 71 (dk_at dksX10_may_1 4 rfl rfl)
theorem dX10_may_29 : decode cX10_may 29 = .ok (.ifCond .le 5, 3) := dk_158 0 5 (dk_at dksX10_may_1 7 rfl rfl)
theorem dX10_may_32 : decode cX10_may 32 = .ok (.iconst 0, 1) := dk_3 (dk_at dksX10_may_1 10 rfl rfl)
theorem dX10_may_33 : decode cX10_may 33 = .ok (.ireturn, 1) := dk_172 (dk_at dksX10_may_1 11 rfl rfl)
theorem dX10_may_34 : decode cX10_may 34 = .ok (.aload_n 0, 1) := dk_42 (dk_at dksX10_may_1 12 rfl rfl)
theorem dX10_may_35 : decode cX10_may 35 = .ok (.invokevirtual 330, 3) := dk_182 1 74 (dk_at dksX10_may_1 13 rfl rfl)
theorem dX10_may_38 : decode cX10_may 38 = .ok (.aload_n 0, 1) := dk_42 (dk_at dksX10_may_1 16 rfl rfl)
theorem dX10_may_39 : decode cX10_may 39 = .ok (.aload_n 0, 1) := dk_42 (dk_at dksX10_may_1 17 rfl rfl)
theorem dX10_may_40 : decode cX10_may 40 = .ok (.iload_n 1, 1) := dk_27 (dk_at dksX10_may_1 18 rfl rfl)
theorem dX10_may_41 : decode cX10_may 41 = .ok (.invokevirtual 327, 3) := dk_182 1 71 (dk_at dksX10_may_1 19 rfl rfl)
theorem dX10_may_44 : decode cX10_may 44 = .ok (.iload_n 2, 1) := dk_28 (dk_at dksX10_may_1 22 rfl rfl)
theorem dX10_may_45 : decode cX10_may 45 = .ok (.invokevirtual 293, 3) := dk_182 1 37 (dk_at dksX10_may_2 0 rfl rfl)
theorem dX10_may_48 : decode cX10_may 48 = .ok (.ireturn, 1) := dk_172 (dk_at dksX10_may_2 3 rfl rfl)
abbrev cX10_judge : ByteArray := prog_33_method_68_code
def yX10_judge : MethodName := ⟨RX10, "judge", "(I)I"⟩
def dkwX10_judge_2 : List UInt8 := [172, 132, 2, 1, 167, 255, 229, 2, 172]
abbrev dktX10_judge_2 : List UInt8 := dkwX10_judge_2 ++ []
def dkwX10_judge_1 : List UInt8 := [61, 28, 42, 180, 0, 9, 16, 6, 46, 162, 0, 22, 42, 28, 4, 96, 27, 182, 1, 37, 154, 0, 5, 28]
abbrev dktX10_judge_1 : List UInt8 := dkwX10_judge_1 ++ dktX10_judge_2
def dkwX10_judge_0 : List UInt8 := [42, 3, 181, 0, 71, 42, 27, 182, 1, 0, 154, 0, 9, 42, 4, 182, 0, 237, 172, 42, 182, 1, 74, 3]
abbrev dktX10_judge_0 : List UInt8 := dkwX10_judge_0 ++ dktX10_judge_1
theorem dksX10_judge_0 : cX10_judge.data.toList.drop 0 = dktX10_judge_0 := by decide +kernel
theorem dksX10_judge_1 : cX10_judge.data.toList.drop 24 = dktX10_judge_1 := dk_seg dksX10_judge_0 24 rfl rfl
theorem dksX10_judge_2 : cX10_judge.data.toList.drop 48 = dktX10_judge_2 := dk_seg dksX10_judge_1 24 rfl rfl
theorem dX10_judge_0 : decode cX10_judge 0 = .ok (.aload_n 0, 1) := dk_42 (dk_at dksX10_judge_0 0 rfl rfl)
theorem dX10_judge_1 : decode cX10_judge 1 = .ok (.iconst 0, 1) := dk_3 (dk_at dksX10_judge_0 1 rfl rfl)
theorem dX10_judge_2 : decode cX10_judge 2 = .ok (.putfield 71, 3) := dk_181 0 71 (dk_at dksX10_judge_0 2 rfl rfl)
theorem dX10_judge_5 : decode cX10_judge 5 = .ok (.aload_n 0, 1) := dk_42 (dk_at dksX10_judge_0 5 rfl rfl)
theorem dX10_judge_6 : decode cX10_judge 6 = .ok (.iload_n 1, 1) := dk_27 (dk_at dksX10_judge_0 6 rfl rfl)
theorem dX10_judge_7 : decode cX10_judge 7 = .ok (.invokevirtual 256, 3) := dk_182 1 0 (dk_at dksX10_judge_0 7 rfl rfl)
theorem dX10_judge_10 : decode cX10_judge 10 = .ok (.ifCond .ne 9, 3) := dk_154 0 9 (dk_at dksX10_judge_0 10 rfl rfl)
theorem dX10_judge_13 : decode cX10_judge 13 = .ok (.aload_n 0, 1) := dk_42 (dk_at dksX10_judge_0 13 rfl rfl)
theorem dX10_judge_14 : decode cX10_judge 14 = .ok (.iconst 1, 1) := dk_4 (dk_at dksX10_judge_0 14 rfl rfl)
theorem dX10_judge_15 : decode cX10_judge 15 = .ok (.invokevirtual 237, 3) := dk_182 0 237 (dk_at dksX10_judge_0 15 rfl rfl)
theorem dX10_judge_18 : decode cX10_judge 18 = .ok (.ireturn, 1) := dk_172 (dk_at dksX10_judge_0 18 rfl rfl)
theorem dX10_judge_19 : decode cX10_judge 19 = .ok (.aload_n 0, 1) := dk_42 (dk_at dksX10_judge_0 19 rfl rfl)
theorem dX10_judge_20 : decode cX10_judge 20 = .ok (.invokevirtual 330, 3) := dk_182 1 74 (dk_at dksX10_judge_0 20 rfl rfl)
theorem dX10_judge_23 : decode cX10_judge 23 = .ok (.iconst 0, 1) := dk_3 (dk_at dksX10_judge_0 23 rfl rfl)
theorem dX10_judge_24 : decode cX10_judge 24 = .ok (.istore_n 2, 1) := dk_61 (dk_at dksX10_judge_1 0 rfl rfl)
theorem dX10_judge_25 : decode cX10_judge 25 = .ok (.iload_n 2, 1) := dk_28 (dk_at dksX10_judge_1 1 rfl rfl)
theorem dX10_judge_26 : decode cX10_judge 26 = .ok (.aload_n 0, 1) := dk_42 (dk_at dksX10_judge_1 2 rfl rfl)
theorem dX10_judge_27 : decode cX10_judge 27 = .ok (.getfield 9, 3) := dk_180 0 9 (dk_at dksX10_judge_1 3 rfl rfl)
theorem dX10_judge_30 : decode cX10_judge 30 = .ok (.bipush 6, 2) := dk_16 6 (dk_at dksX10_judge_1 6 rfl rfl)
theorem dX10_judge_32 : decode cX10_judge 32 = .ok (.iaload, 1) := dk_46 (dk_at dksX10_judge_1 8 rfl rfl)
theorem dX10_judge_33 : decode cX10_judge 33 = .ok (.if_icmp .ge 22, 3) := dk_162 0 22 (dk_at dksX10_judge_1 9 rfl rfl)
theorem dX10_judge_36 : decode cX10_judge 36 = .ok (.aload_n 0, 1) := dk_42 (dk_at dksX10_judge_1 12 rfl rfl)
theorem dX10_judge_37 : decode cX10_judge 37 = .ok (.iload_n 2, 1) := dk_28 (dk_at dksX10_judge_1 13 rfl rfl)
theorem dX10_judge_38 : decode cX10_judge 38 = .ok (.iconst 1, 1) := dk_4 (dk_at dksX10_judge_1 14 rfl rfl)
theorem dX10_judge_39 : decode cX10_judge 39 = .ok (.iadd, 1) := dk_96 (dk_at dksX10_judge_1 15 rfl rfl)
theorem dX10_judge_40 : decode cX10_judge 40 = .ok (.iload_n 1, 1) := dk_27 (dk_at dksX10_judge_1 16 rfl rfl)
theorem dX10_judge_41 : decode cX10_judge 41 = .ok (.invokevirtual 293, 3) := dk_182 1 37 (dk_at dksX10_judge_1 17 rfl rfl)
theorem dX10_judge_44 : decode cX10_judge 44 = .ok (.ifCond .ne 5, 3) := dk_154 0 5 (dk_at dksX10_judge_1 20 rfl rfl)
theorem dX10_judge_47 : decode cX10_judge 47 = .ok (.iload_n 2, 1) := dk_28 (dk_at dksX10_judge_1 23 rfl rfl)
theorem dX10_judge_48 : decode cX10_judge 48 = .ok (.ireturn, 1) := dk_172 (dk_at dksX10_judge_2 0 rfl rfl)
theorem dX10_judge_49 : decode cX10_judge 49 = .ok (.iinc 2 1, 3) := dk_132 2 1 (dk_at dksX10_judge_2 1 rfl rfl)
theorem dX10_judge_52 : decode cX10_judge 52 = .ok (.goto (-27), 3) := dk_167 255 229 (dk_at dksX10_judge_2 4 rfl rfl)
theorem dX10_judge_55 : decode cX10_judge 55 = .ok (.iconst (-1), 1) := dk_2 (dk_at dksX10_judge_2 7 rfl rfl)
theorem dX10_judge_56 : decode cX10_judge 56 = .ok (.ireturn, 1) := dk_172 (dk_at dksX10_judge_2 8 rfl rfl)
abbrev cX10_knows : ByteArray := prog_33_method_70_code
def yX10_knows : MethodName := ⟨RX10, "knows", "(III)Z"⟩
def dkwX10_knows_2 : List UInt8 := [21, 4, 182, 1, 61, 42, 21, 4, 28, 182, 1, 37, 172]
abbrev dktX10_knows_2 : List UInt8 := dkwX10_knows_2 ++ []
def dkwX10_knows_1 : List UInt8 := [42, 182, 1, 54, 54, 4, 42, 27, 42, 27, 5, 182, 1, 11, 4, 160, 0, 7, 3, 167, 0, 4, 29]
abbrev dktX10_knows_1 : List UInt8 := dkwX10_knows_1 ++ dktX10_knows_2
def dkwX10_knows_0 : List UInt8 := [42, 42, 27, 28, 29, 182, 1, 92, 181, 0, 71, 42, 180, 0, 71, 158, 0, 5, 3, 172, 42, 182, 1, 74]
abbrev dktX10_knows_0 : List UInt8 := dkwX10_knows_0 ++ dktX10_knows_1
theorem dksX10_knows_0 : cX10_knows.data.toList.drop 0 = dktX10_knows_0 := by decide +kernel
theorem dksX10_knows_1 : cX10_knows.data.toList.drop 24 = dktX10_knows_1 := dk_seg dksX10_knows_0 24 rfl rfl
theorem dksX10_knows_2 : cX10_knows.data.toList.drop 47 = dktX10_knows_2 := dk_seg dksX10_knows_1 23 rfl rfl
theorem dX10_knows_0 : decode cX10_knows 0 = .ok (.aload_n 0, 1) := dk_42 (dk_at dksX10_knows_0 0 rfl rfl)
theorem dX10_knows_1 : decode cX10_knows 1 = .ok (.aload_n 0, 1) := dk_42 (dk_at dksX10_knows_0 1 rfl rfl)
theorem dX10_knows_2 : decode cX10_knows 2 = .ok (.iload_n 1, 1) := dk_27 (dk_at dksX10_knows_0 2 rfl rfl)
theorem dX10_knows_3 : decode cX10_knows 3 = .ok (.iload_n 2, 1) := dk_28 (dk_at dksX10_knows_0 3 rfl rfl)
theorem dX10_knows_4 : decode cX10_knows 4 = .ok (.iload_n 3, 1) := dk_29 (dk_at dksX10_knows_0 4 rfl rfl)
theorem dX10_knows_5 : decode cX10_knows 5 = .ok (.invokevirtual 348, 3) := dk_182 1 92 (dk_at dksX10_knows_0 5 rfl rfl)
theorem dX10_knows_8 : decode cX10_knows 8 = .ok (.putfield 71, 3) := dk_181 0 71 (dk_at dksX10_knows_0 8 rfl rfl)
theorem dX10_knows_11 : decode cX10_knows 11 = .ok (.aload_n 0, 1) := dk_42 (dk_at dksX10_knows_0 11 rfl rfl)
theorem dX10_knows_12 : decode cX10_knows 12 = .ok (.getfield 71, 3) := dk_180 0 71 (dk_at dksX10_knows_0 12 rfl rfl)
theorem dX10_knows_15 : decode cX10_knows 15 = .ok (.ifCond .le 5, 3) := dk_158 0 5 (dk_at dksX10_knows_0 15 rfl rfl)
theorem dX10_knows_18 : decode cX10_knows 18 = .ok (.iconst 0, 1) := dk_3 (dk_at dksX10_knows_0 18 rfl rfl)
theorem dX10_knows_19 : decode cX10_knows 19 = .ok (.ireturn, 1) := dk_172 (dk_at dksX10_knows_0 19 rfl rfl)
theorem dX10_knows_20 : decode cX10_knows 20 = .ok (.aload_n 0, 1) := dk_42 (dk_at dksX10_knows_0 20 rfl rfl)
theorem dX10_knows_21 : decode cX10_knows 21 = .ok (.invokevirtual 330, 3) := dk_182 1 74 (dk_at dksX10_knows_0 21 rfl rfl)
theorem dX10_knows_24 : decode cX10_knows 24 = .ok (.aload_n 0, 1) := dk_42 (dk_at dksX10_knows_1 0 rfl rfl)
theorem dX10_knows_25 : decode cX10_knows 25 = .ok (.invokevirtual 310, 3) := dk_182 1 54 (dk_at dksX10_knows_1 1 rfl rfl)
theorem dX10_knows_28 : decode cX10_knows 28 = .ok (.istore 4, 2) := dk_54 4 (dk_at dksX10_knows_1 4 rfl rfl)
theorem dX10_knows_30 : decode cX10_knows 30 = .ok (.aload_n 0, 1) := dk_42 (dk_at dksX10_knows_1 6 rfl rfl)
theorem dX10_knows_31 : decode cX10_knows 31 = .ok (.iload_n 1, 1) := dk_27 (dk_at dksX10_knows_1 7 rfl rfl)
theorem dX10_knows_32 : decode cX10_knows 32 = .ok (.aload_n 0, 1) := dk_42 (dk_at dksX10_knows_1 8 rfl rfl)
theorem dX10_knows_33 : decode cX10_knows 33 = .ok (.iload_n 1, 1) := dk_27 (dk_at dksX10_knows_1 9 rfl rfl)
theorem dX10_knows_34 : decode cX10_knows 34 = .ok (.iconst 2, 1) := dk_5 (dk_at dksX10_knows_1 10 rfl rfl)
theorem dX10_knows_35 : decode cX10_knows 35 = .ok (.invokevirtual 267, 3) := dk_182 1 11 (dk_at dksX10_knows_1 11 rfl rfl)
theorem dX10_knows_38 : decode cX10_knows 38 = .ok (.iconst 1, 1) := dk_4 (dk_at dksX10_knows_1 14 rfl rfl)
theorem dX10_knows_39 : decode cX10_knows 39 = .ok (.if_icmp .ne 7, 3) := dk_160 0 7 (dk_at dksX10_knows_1 15 rfl rfl)
theorem dX10_knows_42 : decode cX10_knows 42 = .ok (.iconst 0, 1) := dk_3 (dk_at dksX10_knows_1 18 rfl rfl)
theorem dX10_knows_43 : decode cX10_knows 43 = .ok (.goto 4, 3) := dk_167 0 4 (dk_at dksX10_knows_1 19 rfl rfl)
theorem dX10_knows_46 : decode cX10_knows 46 = .ok (.iload_n 3, 1) := dk_29 (dk_at dksX10_knows_1 22 rfl rfl)
theorem dX10_knows_47 : decode cX10_knows 47 = .ok (.iload 4, 2) := dk_21 4 (dk_at dksX10_knows_2 0 rfl rfl)
theorem dX10_knows_49 : decode cX10_knows 49 = .ok (.invokevirtual 317, 3) := dk_182 1 61 (dk_at dksX10_knows_2 2 rfl rfl)
theorem dX10_knows_52 : decode cX10_knows 52 = .ok (.aload_n 0, 1) := dk_42 (dk_at dksX10_knows_2 5 rfl rfl)
theorem dX10_knows_53 : decode cX10_knows 53 = .ok (.iload 4, 2) := dk_21 4 (dk_at dksX10_knows_2 6 rfl rfl)
theorem dX10_knows_55 : decode cX10_knows 55 = .ok (.iload_n 2, 1) := dk_28 (dk_at dksX10_knows_2 8 rfl rfl)
theorem dX10_knows_56 : decode cX10_knows 56 = .ok (.invokevirtual 293, 3) := dk_182 1 37 (dk_at dksX10_knows_2 9 rfl rfl)
theorem dX10_knows_59 : decode cX10_knows 59 = .ok (.ireturn, 1) := dk_172 (dk_at dksX10_knows_2 12 rfl rfl)
abbrev cX10_askFault : ByteArray := prog_33_method_69_code
def yX10_askFault : MethodName := ⟨RX10, "askFault", "(III)I"⟩
def dkwX10_askFault_1 : List UInt8 := [182, 1, 86, 153, 0, 7, 3, 167, 0, 4, 5, 172]
abbrev dktX10_askFault_1 : List UInt8 := dkwX10_askFault_1 ++ []
def dkwX10_askFault_0 : List UInt8 := [42, 27, 182, 1, 14, 153, 0, 11, 42, 28, 182, 1, 0, 154, 0, 7, 4, 167, 0, 16, 42, 29]
abbrev dktX10_askFault_0 : List UInt8 := dkwX10_askFault_0 ++ dktX10_askFault_1
theorem dksX10_askFault_0 : cX10_askFault.data.toList.drop 0 = dktX10_askFault_0 := by decide +kernel
theorem dksX10_askFault_1 : cX10_askFault.data.toList.drop 22 = dktX10_askFault_1 := dk_seg dksX10_askFault_0 22 rfl rfl
theorem dX10_askFault_0 : decode cX10_askFault 0 = .ok (.aload_n 0, 1) := dk_42 (dk_at dksX10_askFault_0 0 rfl rfl)
theorem dX10_askFault_1 : decode cX10_askFault 1 = .ok (.iload_n 1, 1) := dk_27 (dk_at dksX10_askFault_0 1 rfl rfl)
theorem dX10_askFault_2 : decode cX10_askFault 2 = .ok (.invokevirtual 270, 3) := dk_182 1 14 (dk_at dksX10_askFault_0 2 rfl rfl)
theorem dX10_askFault_5 : decode cX10_askFault 5 = .ok (.ifCond .eq 11, 3) := dk_153 0 11 (dk_at dksX10_askFault_0 5 rfl rfl)
theorem dX10_askFault_8 : decode cX10_askFault 8 = .ok (.aload_n 0, 1) := dk_42 (dk_at dksX10_askFault_0 8 rfl rfl)
theorem dX10_askFault_9 : decode cX10_askFault 9 = .ok (.iload_n 2, 1) := dk_28 (dk_at dksX10_askFault_0 9 rfl rfl)
theorem dX10_askFault_10 : decode cX10_askFault 10 = .ok (.invokevirtual 256, 3) := dk_182 1 0 (dk_at dksX10_askFault_0 10 rfl rfl)
theorem dX10_askFault_13 : decode cX10_askFault 13 = .ok (.ifCond .ne 7, 3) := dk_154 0 7 (dk_at dksX10_askFault_0 13 rfl rfl)
theorem dX10_askFault_16 : decode cX10_askFault 16 = .ok (.iconst 1, 1) := dk_4 (dk_at dksX10_askFault_0 16 rfl rfl)
theorem dX10_askFault_17 : decode cX10_askFault 17 = .ok (.goto 16, 3) := dk_167 0 16 (dk_at dksX10_askFault_0 17 rfl rfl)
theorem dX10_askFault_20 : decode cX10_askFault 20 = .ok (.aload_n 0, 1) := dk_42 (dk_at dksX10_askFault_0 20 rfl rfl)
theorem dX10_askFault_21 : decode cX10_askFault 21 = .ok (.iload_n 3, 1) := dk_29 (dk_at dksX10_askFault_0 21 rfl rfl)
theorem dX10_askFault_22 : decode cX10_askFault 22 = .ok (.invokevirtual 342, 3) := dk_182 1 86 (dk_at dksX10_askFault_1 0 rfl rfl)
theorem dX10_askFault_25 : decode cX10_askFault 25 = .ok (.ifCond .eq 7, 3) := dk_153 0 7 (dk_at dksX10_askFault_1 3 rfl rfl)
theorem dX10_askFault_28 : decode cX10_askFault 28 = .ok (.iconst 0, 1) := dk_3 (dk_at dksX10_askFault_1 6 rfl rfl)
theorem dX10_askFault_29 : decode cX10_askFault 29 = .ok (.goto 4, 3) := dk_167 0 4 (dk_at dksX10_askFault_1 7 rfl rfl)
theorem dX10_askFault_32 : decode cX10_askFault 32 = .ok (.iconst 2, 1) := dk_5 (dk_at dksX10_askFault_1 10 rfl rfl)
theorem dX10_askFault_33 : decode cX10_askFault 33 = .ok (.ireturn, 1) := dk_172 (dk_at dksX10_askFault_1 11 rfl rfl)
abbrev cX10_knowing : ByteArray := prog_33_method_71_code
def yX10_knowing : MethodName := ⟨RX10, "knowing", "(II)I"⟩
def dkwX10_knowing_5 : List UInt8 := [167, 255, 214, 21, 4, 172]
abbrev dktX10_knowing_5 : List UInt8 := dkwX10_knowing_5 ++ []
def dkwX10_knowing_4 : List UInt8 := [153, 0, 17, 42, 29, 21, 5, 182, 1, 37, 153, 0, 7, 4, 167, 0, 4, 3, 96, 54, 4, 132, 5, 1]
abbrev dktX10_knowing_4 : List UInt8 := dkwX10_knowing_4 ++ dktX10_knowing_5
def dkwX10_knowing_3 : List UInt8 := [54, 4, 3, 54, 5, 21, 5, 42, 180, 0, 250, 162, 0, 39, 21, 4, 42, 28, 21, 5, 182, 1, 37]
abbrev dktX10_knowing_3 : List UInt8 := dkwX10_knowing_3 ++ dktX10_knowing_4
def dkwX10_knowing_2 : List UInt8 := [62, 42, 27, 42, 27, 5, 182, 1, 11, 4, 160, 0, 7, 3, 167, 0, 4, 28, 29, 182, 1, 61, 3]
abbrev dktX10_knowing_2 : List UInt8 := dkwX10_knowing_2 ++ dktX10_knowing_3
def dkwX10_knowing_1 : List UInt8 := [167, 0, 4, 5, 181, 0, 71, 42, 180, 0, 71, 158, 0, 5, 3, 172, 42, 182, 1, 74, 42, 182, 1, 54]
abbrev dktX10_knowing_1 : List UInt8 := dkwX10_knowing_1 ++ dktX10_knowing_2
def dkwX10_knowing_0 : List UInt8 := [42, 42, 27, 182, 1, 14, 154, 0, 7, 4, 167, 0, 16, 42, 28, 182, 1, 86, 153, 0, 7, 3]
abbrev dktX10_knowing_0 : List UInt8 := dkwX10_knowing_0 ++ dktX10_knowing_1
theorem dksX10_knowing_0 : cX10_knowing.data.toList.drop 0 = dktX10_knowing_0 := by decide +kernel
theorem dksX10_knowing_1 : cX10_knowing.data.toList.drop 22 = dktX10_knowing_1 := dk_seg dksX10_knowing_0 22 rfl rfl
theorem dksX10_knowing_2 : cX10_knowing.data.toList.drop 46 = dktX10_knowing_2 := dk_seg dksX10_knowing_1 24 rfl rfl
theorem dksX10_knowing_3 : cX10_knowing.data.toList.drop 69 = dktX10_knowing_3 := dk_seg dksX10_knowing_2 23 rfl rfl
theorem dksX10_knowing_4 : cX10_knowing.data.toList.drop 92 = dktX10_knowing_4 := dk_seg dksX10_knowing_3 23 rfl rfl
theorem dksX10_knowing_5 : cX10_knowing.data.toList.drop 116 = dktX10_knowing_5 := dk_seg dksX10_knowing_4 24 rfl rfl
theorem dX10_knowing_0 : decode cX10_knowing 0 = .ok (.aload_n 0, 1) := dk_42 (dk_at dksX10_knowing_0 0 rfl rfl)
theorem dX10_knowing_1 : decode cX10_knowing 1 = .ok (.aload_n 0, 1) := dk_42 (dk_at dksX10_knowing_0 1 rfl rfl)
theorem dX10_knowing_2 : decode cX10_knowing 2 = .ok (.iload_n 1, 1) := dk_27 (dk_at dksX10_knowing_0 2 rfl rfl)
theorem dX10_knowing_3 : decode cX10_knowing 3 = .ok (.invokevirtual 270, 3) := dk_182 1 14 (dk_at dksX10_knowing_0 3 rfl rfl)
theorem dX10_knowing_6 : decode cX10_knowing 6 = .ok (.ifCond .ne 7, 3) := dk_154 0 7 (dk_at dksX10_knowing_0 6 rfl rfl)
theorem dX10_knowing_9 : decode cX10_knowing 9 = .ok (.iconst 1, 1) := dk_4 (dk_at dksX10_knowing_0 9 rfl rfl)
theorem dX10_knowing_10 : decode cX10_knowing 10 = .ok (.goto 16, 3) := dk_167 0 16 (dk_at dksX10_knowing_0 10 rfl rfl)
theorem dX10_knowing_13 : decode cX10_knowing 13 = .ok (.aload_n 0, 1) := dk_42 (dk_at dksX10_knowing_0 13 rfl rfl)
theorem dX10_knowing_14 : decode cX10_knowing 14 = .ok (.iload_n 2, 1) := dk_28 (dk_at dksX10_knowing_0 14 rfl rfl)
theorem dX10_knowing_15 : decode cX10_knowing 15 = .ok (.invokevirtual 342, 3) := dk_182 1 86 (dk_at dksX10_knowing_0 15 rfl rfl)
theorem dX10_knowing_18 : decode cX10_knowing 18 = .ok (.ifCond .eq 7, 3) := dk_153 0 7 (dk_at dksX10_knowing_0 18 rfl rfl)
theorem dX10_knowing_21 : decode cX10_knowing 21 = .ok (.iconst 0, 1) := dk_3 (dk_at dksX10_knowing_0 21 rfl rfl)
theorem dX10_knowing_22 : decode cX10_knowing 22 = .ok (.goto 4, 3) := dk_167 0 4 (dk_at dksX10_knowing_1 0 rfl rfl)
theorem dX10_knowing_25 : decode cX10_knowing 25 = .ok (.iconst 2, 1) := dk_5 (dk_at dksX10_knowing_1 3 rfl rfl)
theorem dX10_knowing_26 : decode cX10_knowing 26 = .ok (.putfield 71, 3) := dk_181 0 71 (dk_at dksX10_knowing_1 4 rfl rfl)
theorem dX10_knowing_29 : decode cX10_knowing 29 = .ok (.aload_n 0, 1) := dk_42 (dk_at dksX10_knowing_1 7 rfl rfl)
theorem dX10_knowing_30 : decode cX10_knowing 30 = .ok (.getfield 71, 3) := dk_180 0 71 (dk_at dksX10_knowing_1 8 rfl rfl)
theorem dX10_knowing_33 : decode cX10_knowing 33 = .ok (.ifCond .le 5, 3) := dk_158 0 5 (dk_at dksX10_knowing_1 11 rfl rfl)
theorem dX10_knowing_36 : decode cX10_knowing 36 = .ok (.iconst 0, 1) := dk_3 (dk_at dksX10_knowing_1 14 rfl rfl)
theorem dX10_knowing_37 : decode cX10_knowing 37 = .ok (.ireturn, 1) := dk_172 (dk_at dksX10_knowing_1 15 rfl rfl)
theorem dX10_knowing_38 : decode cX10_knowing 38 = .ok (.aload_n 0, 1) := dk_42 (dk_at dksX10_knowing_1 16 rfl rfl)
theorem dX10_knowing_39 : decode cX10_knowing 39 = .ok (.invokevirtual 330, 3) := dk_182 1 74 (dk_at dksX10_knowing_1 17 rfl rfl)
theorem dX10_knowing_42 : decode cX10_knowing 42 = .ok (.aload_n 0, 1) := dk_42 (dk_at dksX10_knowing_1 20 rfl rfl)
theorem dX10_knowing_43 : decode cX10_knowing 43 = .ok (.invokevirtual 310, 3) := dk_182 1 54 (dk_at dksX10_knowing_1 21 rfl rfl)
theorem dX10_knowing_46 : decode cX10_knowing 46 = .ok (.istore_n 3, 1) := dk_62 (dk_at dksX10_knowing_2 0 rfl rfl)
theorem dX10_knowing_47 : decode cX10_knowing 47 = .ok (.aload_n 0, 1) := dk_42 (dk_at dksX10_knowing_2 1 rfl rfl)
theorem dX10_knowing_48 : decode cX10_knowing 48 = .ok (.iload_n 1, 1) := dk_27 (dk_at dksX10_knowing_2 2 rfl rfl)
theorem dX10_knowing_49 : decode cX10_knowing 49 = .ok (.aload_n 0, 1) := dk_42 (dk_at dksX10_knowing_2 3 rfl rfl)
theorem dX10_knowing_50 : decode cX10_knowing 50 = .ok (.iload_n 1, 1) := dk_27 (dk_at dksX10_knowing_2 4 rfl rfl)
theorem dX10_knowing_51 : decode cX10_knowing 51 = .ok (.iconst 2, 1) := dk_5 (dk_at dksX10_knowing_2 5 rfl rfl)
theorem dX10_knowing_52 : decode cX10_knowing 52 = .ok (.invokevirtual 267, 3) := dk_182 1 11 (dk_at dksX10_knowing_2 6 rfl rfl)
theorem dX10_knowing_55 : decode cX10_knowing 55 = .ok (.iconst 1, 1) := dk_4 (dk_at dksX10_knowing_2 9 rfl rfl)
theorem dX10_knowing_56 : decode cX10_knowing 56 = .ok (.if_icmp .ne 7, 3) := dk_160 0 7 (dk_at dksX10_knowing_2 10 rfl rfl)
theorem dX10_knowing_59 : decode cX10_knowing 59 = .ok (.iconst 0, 1) := dk_3 (dk_at dksX10_knowing_2 13 rfl rfl)
theorem dX10_knowing_60 : decode cX10_knowing 60 = .ok (.goto 4, 3) := dk_167 0 4 (dk_at dksX10_knowing_2 14 rfl rfl)
theorem dX10_knowing_63 : decode cX10_knowing 63 = .ok (.iload_n 2, 1) := dk_28 (dk_at dksX10_knowing_2 17 rfl rfl)
theorem dX10_knowing_64 : decode cX10_knowing 64 = .ok (.iload_n 3, 1) := dk_29 (dk_at dksX10_knowing_2 18 rfl rfl)
theorem dX10_knowing_65 : decode cX10_knowing 65 = .ok (.invokevirtual 317, 3) := dk_182 1 61 (dk_at dksX10_knowing_2 19 rfl rfl)
theorem dX10_knowing_68 : decode cX10_knowing 68 = .ok (.iconst 0, 1) := dk_3 (dk_at dksX10_knowing_2 22 rfl rfl)
theorem dX10_knowing_69 : decode cX10_knowing 69 = .ok (.istore 4, 2) := dk_54 4 (dk_at dksX10_knowing_3 0 rfl rfl)
theorem dX10_knowing_71 : decode cX10_knowing 71 = .ok (.iconst 0, 1) := dk_3 (dk_at dksX10_knowing_3 2 rfl rfl)
theorem dX10_knowing_72 : decode cX10_knowing 72 = .ok (.istore 5, 2) := dk_54 5 (dk_at dksX10_knowing_3 3 rfl rfl)
theorem dX10_knowing_74 : decode cX10_knowing 74 = .ok (.iload 5, 2) := dk_21 5 (dk_at dksX10_knowing_3 5 rfl rfl)
theorem dX10_knowing_76 : decode cX10_knowing 76 = .ok (.aload_n 0, 1) := dk_42 (dk_at dksX10_knowing_3 7 rfl rfl)
theorem dX10_knowing_77 : decode cX10_knowing 77 = .ok (.getfield 250, 3) := dk_180 0 250 (dk_at dksX10_knowing_3 8 rfl rfl)
theorem dX10_knowing_80 : decode cX10_knowing 80 = .ok (.if_icmp .ge 39, 3) := dk_162 0 39 (dk_at dksX10_knowing_3 11 rfl rfl)
theorem dX10_knowing_83 : decode cX10_knowing 83 = .ok (.iload 4, 2) := dk_21 4 (dk_at dksX10_knowing_3 14 rfl rfl)
theorem dX10_knowing_85 : decode cX10_knowing 85 = .ok (.aload_n 0, 1) := dk_42 (dk_at dksX10_knowing_3 16 rfl rfl)
theorem dX10_knowing_86 : decode cX10_knowing 86 = .ok (.iload_n 2, 1) := dk_28 (dk_at dksX10_knowing_3 17 rfl rfl)
theorem dX10_knowing_87 : decode cX10_knowing 87 = .ok (.iload 5, 2) := dk_21 5 (dk_at dksX10_knowing_3 18 rfl rfl)
theorem dX10_knowing_89 : decode cX10_knowing 89 = .ok (.invokevirtual 293, 3) := dk_182 1 37 (dk_at dksX10_knowing_3 20 rfl rfl)
theorem dX10_knowing_92 : decode cX10_knowing 92 = .ok (.ifCond .eq 17, 3) := dk_153 0 17 (dk_at dksX10_knowing_4 0 rfl rfl)
theorem dX10_knowing_95 : decode cX10_knowing 95 = .ok (.aload_n 0, 1) := dk_42 (dk_at dksX10_knowing_4 3 rfl rfl)
theorem dX10_knowing_96 : decode cX10_knowing 96 = .ok (.iload_n 3, 1) := dk_29 (dk_at dksX10_knowing_4 4 rfl rfl)
theorem dX10_knowing_97 : decode cX10_knowing 97 = .ok (.iload 5, 2) := dk_21 5 (dk_at dksX10_knowing_4 5 rfl rfl)
theorem dX10_knowing_99 : decode cX10_knowing 99 = .ok (.invokevirtual 293, 3) := dk_182 1 37 (dk_at dksX10_knowing_4 7 rfl rfl)
theorem dX10_knowing_102 : decode cX10_knowing 102 = .ok (.ifCond .eq 7, 3) := dk_153 0 7 (dk_at dksX10_knowing_4 10 rfl rfl)
theorem dX10_knowing_105 : decode cX10_knowing 105 = .ok (.iconst 1, 1) := dk_4 (dk_at dksX10_knowing_4 13 rfl rfl)
theorem dX10_knowing_106 : decode cX10_knowing 106 = .ok (.goto 4, 3) := dk_167 0 4 (dk_at dksX10_knowing_4 14 rfl rfl)
theorem dX10_knowing_109 : decode cX10_knowing 109 = .ok (.iconst 0, 1) := dk_3 (dk_at dksX10_knowing_4 17 rfl rfl)
theorem dX10_knowing_110 : decode cX10_knowing 110 = .ok (.iadd, 1) := dk_96 (dk_at dksX10_knowing_4 18 rfl rfl)
theorem dX10_knowing_111 : decode cX10_knowing 111 = .ok (.istore 4, 2) := dk_54 4 (dk_at dksX10_knowing_4 19 rfl rfl)
theorem dX10_knowing_113 : decode cX10_knowing 113 = .ok (.iinc 5 1, 3) := dk_132 5 1 (dk_at dksX10_knowing_4 21 rfl rfl)
theorem dX10_knowing_116 : decode cX10_knowing 116 = .ok (.goto (-42), 3) := dk_167 255 214 (dk_at dksX10_knowing_5 0 rfl rfl)
theorem dX10_knowing_119 : decode cX10_knowing 119 = .ok (.iload 4, 2) := dk_21 4 (dk_at dksX10_knowing_5 3 rfl rfl)
theorem dX10_knowing_121 : decode cX10_knowing 121 = .ok (.ireturn, 1) := dk_172 (dk_at dksX10_knowing_5 5 rfl rfl)
abbrev cX10_heap : ByteArray := prog_33_method_72_code
def yX10_heap : MethodName := ⟨RX10, "heap", "(III)I"⟩
def dkwX10_heap_2 : List UInt8 := [180, 0, 43, 42, 27, 28, 182, 1, 17, 46, 172]
abbrev dktX10_heap_2 : List UInt8 := dkwX10_heap_2 ++ []
def dkwX10_heap_1 : List UInt8 := [42, 27, 42, 27, 5, 182, 1, 11, 4, 160, 0, 7, 3, 167, 0, 4, 29, 2, 182, 1, 44, 42]
abbrev dktX10_heap_1 : List UInt8 := dkwX10_heap_1 ++ dktX10_heap_2
def dkwX10_heap_0 : List UInt8 := [42, 42, 27, 28, 29, 182, 1, 92, 181, 0, 71, 42, 180, 0, 71, 158, 0, 5, 3, 172, 42, 182, 1, 74]
abbrev dktX10_heap_0 : List UInt8 := dkwX10_heap_0 ++ dktX10_heap_1
theorem dksX10_heap_0 : cX10_heap.data.toList.drop 0 = dktX10_heap_0 := by decide +kernel
theorem dksX10_heap_1 : cX10_heap.data.toList.drop 24 = dktX10_heap_1 := dk_seg dksX10_heap_0 24 rfl rfl
theorem dksX10_heap_2 : cX10_heap.data.toList.drop 46 = dktX10_heap_2 := dk_seg dksX10_heap_1 22 rfl rfl
theorem dX10_heap_0 : decode cX10_heap 0 = .ok (.aload_n 0, 1) := dk_42 (dk_at dksX10_heap_0 0 rfl rfl)
theorem dX10_heap_1 : decode cX10_heap 1 = .ok (.aload_n 0, 1) := dk_42 (dk_at dksX10_heap_0 1 rfl rfl)
theorem dX10_heap_2 : decode cX10_heap 2 = .ok (.iload_n 1, 1) := dk_27 (dk_at dksX10_heap_0 2 rfl rfl)
theorem dX10_heap_3 : decode cX10_heap 3 = .ok (.iload_n 2, 1) := dk_28 (dk_at dksX10_heap_0 3 rfl rfl)
theorem dX10_heap_4 : decode cX10_heap 4 = .ok (.iload_n 3, 1) := dk_29 (dk_at dksX10_heap_0 4 rfl rfl)
theorem dX10_heap_5 : decode cX10_heap 5 = .ok (.invokevirtual 348, 3) := dk_182 1 92 (dk_at dksX10_heap_0 5 rfl rfl)
theorem dX10_heap_8 : decode cX10_heap 8 = .ok (.putfield 71, 3) := dk_181 0 71 (dk_at dksX10_heap_0 8 rfl rfl)
theorem dX10_heap_11 : decode cX10_heap 11 = .ok (.aload_n 0, 1) := dk_42 (dk_at dksX10_heap_0 11 rfl rfl)
theorem dX10_heap_12 : decode cX10_heap 12 = .ok (.getfield 71, 3) := dk_180 0 71 (dk_at dksX10_heap_0 12 rfl rfl)
theorem dX10_heap_15 : decode cX10_heap 15 = .ok (.ifCond .le 5, 3) := dk_158 0 5 (dk_at dksX10_heap_0 15 rfl rfl)
theorem dX10_heap_18 : decode cX10_heap 18 = .ok (.iconst 0, 1) := dk_3 (dk_at dksX10_heap_0 18 rfl rfl)
theorem dX10_heap_19 : decode cX10_heap 19 = .ok (.ireturn, 1) := dk_172 (dk_at dksX10_heap_0 19 rfl rfl)
theorem dX10_heap_20 : decode cX10_heap 20 = .ok (.aload_n 0, 1) := dk_42 (dk_at dksX10_heap_0 20 rfl rfl)
theorem dX10_heap_21 : decode cX10_heap 21 = .ok (.invokevirtual 330, 3) := dk_182 1 74 (dk_at dksX10_heap_0 21 rfl rfl)
theorem dX10_heap_24 : decode cX10_heap 24 = .ok (.aload_n 0, 1) := dk_42 (dk_at dksX10_heap_1 0 rfl rfl)
theorem dX10_heap_25 : decode cX10_heap 25 = .ok (.iload_n 1, 1) := dk_27 (dk_at dksX10_heap_1 1 rfl rfl)
theorem dX10_heap_26 : decode cX10_heap 26 = .ok (.aload_n 0, 1) := dk_42 (dk_at dksX10_heap_1 2 rfl rfl)
theorem dX10_heap_27 : decode cX10_heap 27 = .ok (.iload_n 1, 1) := dk_27 (dk_at dksX10_heap_1 3 rfl rfl)
theorem dX10_heap_28 : decode cX10_heap 28 = .ok (.iconst 2, 1) := dk_5 (dk_at dksX10_heap_1 4 rfl rfl)
theorem dX10_heap_29 : decode cX10_heap 29 = .ok (.invokevirtual 267, 3) := dk_182 1 11 (dk_at dksX10_heap_1 5 rfl rfl)
theorem dX10_heap_32 : decode cX10_heap 32 = .ok (.iconst 1, 1) := dk_4 (dk_at dksX10_heap_1 8 rfl rfl)
theorem dX10_heap_33 : decode cX10_heap 33 = .ok (.if_icmp .ne 7, 3) := dk_160 0 7 (dk_at dksX10_heap_1 9 rfl rfl)
theorem dX10_heap_36 : decode cX10_heap 36 = .ok (.iconst 0, 1) := dk_3 (dk_at dksX10_heap_1 12 rfl rfl)
theorem dX10_heap_37 : decode cX10_heap 37 = .ok (.goto 4, 3) := dk_167 0 4 (dk_at dksX10_heap_1 13 rfl rfl)
theorem dX10_heap_40 : decode cX10_heap 40 = .ok (.iload_n 3, 1) := dk_29 (dk_at dksX10_heap_1 16 rfl rfl)
theorem dX10_heap_41 : decode cX10_heap 41 = .ok (.iconst (-1), 1) := dk_2 (dk_at dksX10_heap_1 17 rfl rfl)
theorem dX10_heap_42 : decode cX10_heap 42 = .ok (.invokevirtual 300, 3) := dk_182 1 44 (dk_at dksX10_heap_1 18 rfl rfl)
theorem dX10_heap_45 : decode cX10_heap 45 = .ok (.aload_n 0, 1) := dk_42 (dk_at dksX10_heap_1 21 rfl rfl)
theorem dX10_heap_46 : decode cX10_heap 46 = .ok (.getfield 43, 3) := dk_180 0 43 (dk_at dksX10_heap_2 0 rfl rfl)
theorem dX10_heap_49 : decode cX10_heap 49 = .ok (.aload_n 0, 1) := dk_42 (dk_at dksX10_heap_2 3 rfl rfl)
theorem dX10_heap_50 : decode cX10_heap 50 = .ok (.iload_n 1, 1) := dk_27 (dk_at dksX10_heap_2 4 rfl rfl)
theorem dX10_heap_51 : decode cX10_heap 51 = .ok (.iload_n 2, 1) := dk_28 (dk_at dksX10_heap_2 5 rfl rfl)
theorem dX10_heap_52 : decode cX10_heap 52 = .ok (.invokevirtual 273, 3) := dk_182 1 17 (dk_at dksX10_heap_2 6 rfl rfl)
theorem dX10_heap_55 : decode cX10_heap 55 = .ok (.iaload, 1) := dk_46 (dk_at dksX10_heap_2 9 rfl rfl)
theorem dX10_heap_56 : decode cX10_heap 56 = .ok (.ireturn, 1) := dk_172 (dk_at dksX10_heap_2 10 rfl rfl)
abbrev cX10_strikes : ByteArray := prog_33_method_73_code
def yX10_strikes : MethodName := ⟨RX10, "strikes", "(I)I"⟩
def dkwX10_strikes_4 : List UInt8 := [27, 154, 0, 7, 29, 167, 0, 4, 28, 172]
abbrev dktX10_strikes_4 : List UInt8 := dkwX10_strikes_4 ++ []
def dkwX10_strikes_3 : List UInt8 := [159, 0, 12, 21, 5, 29, 163, 0, 6, 167, 0, 9, 21, 4, 61, 21, 5, 62, 132, 4, 1, 167, 255, 204]
abbrev dktX10_strikes_3 : List UInt8 := dkwX10_strikes_3 ++ dktX10_strikes_4
def dkwX10_strikes_2 : List UInt8 := [46, 162, 0, 46, 42, 21, 4, 182, 1, 77, 42, 21, 4, 4, 96, 182, 1, 77, 100, 54, 5, 28, 2]
abbrev dktX10_strikes_2 : List UInt8 := dkwX10_strikes_2 ++ dktX10_strikes_3
def dkwX10_strikes_1 : List UInt8 := [158, 0, 5, 3, 172, 42, 182, 1, 74, 2, 61, 3, 62, 3, 54, 4, 21, 4, 42, 180, 0, 9, 16, 6]
abbrev dktX10_strikes_1 : List UInt8 := dkwX10_strikes_1 ++ dktX10_strikes_2
def dkwX10_strikes_0 : List UInt8 := [42, 27, 133, 9, 10, 184, 0, 133, 153, 0, 7, 3, 167, 0, 4, 4, 181, 0, 71, 42, 180, 0, 71]
abbrev dktX10_strikes_0 : List UInt8 := dkwX10_strikes_0 ++ dktX10_strikes_1
theorem dksX10_strikes_0 : cX10_strikes.data.toList.drop 0 = dktX10_strikes_0 := by decide +kernel
theorem dksX10_strikes_1 : cX10_strikes.data.toList.drop 23 = dktX10_strikes_1 := dk_seg dksX10_strikes_0 23 rfl rfl
theorem dksX10_strikes_2 : cX10_strikes.data.toList.drop 47 = dktX10_strikes_2 := dk_seg dksX10_strikes_1 24 rfl rfl
theorem dksX10_strikes_3 : cX10_strikes.data.toList.drop 70 = dktX10_strikes_3 := dk_seg dksX10_strikes_2 23 rfl rfl
theorem dksX10_strikes_4 : cX10_strikes.data.toList.drop 94 = dktX10_strikes_4 := dk_seg dksX10_strikes_3 24 rfl rfl
theorem dX10_strikes_0 : decode cX10_strikes 0 = .ok (.aload_n 0, 1) := dk_42 (dk_at dksX10_strikes_0 0 rfl rfl)
theorem dX10_strikes_1 : decode cX10_strikes 1 = .ok (.iload_n 1, 1) := dk_27 (dk_at dksX10_strikes_0 1 rfl rfl)
theorem dX10_strikes_2 : decode cX10_strikes 2 = .ok (.i2l, 1) := dk_133 (dk_at dksX10_strikes_0 2 rfl rfl)
theorem dX10_strikes_3 : decode cX10_strikes 3 = .ok (.lconst 0, 1) := dk_9 (dk_at dksX10_strikes_0 3 rfl rfl)
theorem dX10_strikes_4 : decode cX10_strikes 4 = .ok (.lconst 1, 1) := dk_10 (dk_at dksX10_strikes_0 4 rfl rfl)
theorem dX10_strikes_5 : decode cX10_strikes 5 = .ok (.invokestatic 133, 3) := dk_184 0 133 (dk_at dksX10_strikes_0 5 rfl rfl)
theorem dX10_strikes_8 : decode cX10_strikes 8 = .ok (.ifCond .eq 7, 3) := dk_153 0 7 (dk_at dksX10_strikes_0 8 rfl rfl)
theorem dX10_strikes_11 : decode cX10_strikes 11 = .ok (.iconst 0, 1) := dk_3 (dk_at dksX10_strikes_0 11 rfl rfl)
theorem dX10_strikes_12 : decode cX10_strikes 12 = .ok (.goto 4, 3) := dk_167 0 4 (dk_at dksX10_strikes_0 12 rfl rfl)
theorem dX10_strikes_15 : decode cX10_strikes 15 = .ok (.iconst 1, 1) := dk_4 (dk_at dksX10_strikes_0 15 rfl rfl)
theorem dX10_strikes_16 : decode cX10_strikes 16 = .ok (.putfield 71, 3) := dk_181 0 71 (dk_at dksX10_strikes_0 16 rfl rfl)
theorem dX10_strikes_19 : decode cX10_strikes 19 = .ok (.aload_n 0, 1) := dk_42 (dk_at dksX10_strikes_0 19 rfl rfl)
theorem dX10_strikes_20 : decode cX10_strikes 20 = .ok (.getfield 71, 3) := dk_180 0 71 (dk_at dksX10_strikes_0 20 rfl rfl)
theorem dX10_strikes_23 : decode cX10_strikes 23 = .ok (.ifCond .le 5, 3) := dk_158 0 5 (dk_at dksX10_strikes_1 0 rfl rfl)
theorem dX10_strikes_26 : decode cX10_strikes 26 = .ok (.iconst 0, 1) := dk_3 (dk_at dksX10_strikes_1 3 rfl rfl)
theorem dX10_strikes_27 : decode cX10_strikes 27 = .ok (.ireturn, 1) := dk_172 (dk_at dksX10_strikes_1 4 rfl rfl)
theorem dX10_strikes_28 : decode cX10_strikes 28 = .ok (.aload_n 0, 1) := dk_42 (dk_at dksX10_strikes_1 5 rfl rfl)
theorem dX10_strikes_29 : decode cX10_strikes 29 = .ok (.invokevirtual 330, 3) := dk_182 1 74 (dk_at dksX10_strikes_1 6 rfl rfl)
theorem dX10_strikes_32 : decode cX10_strikes 32 = .ok (.iconst (-1), 1) := dk_2 (dk_at dksX10_strikes_1 9 rfl rfl)
theorem dX10_strikes_33 : decode cX10_strikes 33 = .ok (.istore_n 2, 1) := dk_61 (dk_at dksX10_strikes_1 10 rfl rfl)
theorem dX10_strikes_34 : decode cX10_strikes 34 = .ok (.iconst 0, 1) := dk_3 (dk_at dksX10_strikes_1 11 rfl rfl)
theorem dX10_strikes_35 : decode cX10_strikes 35 = .ok (.istore_n 3, 1) := dk_62 (dk_at dksX10_strikes_1 12 rfl rfl)
theorem dX10_strikes_36 : decode cX10_strikes 36 = .ok (.iconst 0, 1) := dk_3 (dk_at dksX10_strikes_1 13 rfl rfl)
theorem dX10_strikes_37 : decode cX10_strikes 37 = .ok (.istore 4, 2) := dk_54 4 (dk_at dksX10_strikes_1 14 rfl rfl)
theorem dX10_strikes_39 : decode cX10_strikes 39 = .ok (.iload 4, 2) := dk_21 4 (dk_at dksX10_strikes_1 16 rfl rfl)
theorem dX10_strikes_41 : decode cX10_strikes 41 = .ok (.aload_n 0, 1) := dk_42 (dk_at dksX10_strikes_1 18 rfl rfl)
theorem dX10_strikes_42 : decode cX10_strikes 42 = .ok (.getfield 9, 3) := dk_180 0 9 (dk_at dksX10_strikes_1 19 rfl rfl)
theorem dX10_strikes_45 : decode cX10_strikes 45 = .ok (.bipush 6, 2) := dk_16 6 (dk_at dksX10_strikes_1 22 rfl rfl)
theorem dX10_strikes_47 : decode cX10_strikes 47 = .ok (.iaload, 1) := dk_46 (dk_at dksX10_strikes_2 0 rfl rfl)
theorem dX10_strikes_48 : decode cX10_strikes 48 = .ok (.if_icmp .ge 46, 3) := dk_162 0 46 (dk_at dksX10_strikes_2 1 rfl rfl)
theorem dX10_strikes_51 : decode cX10_strikes 51 = .ok (.aload_n 0, 1) := dk_42 (dk_at dksX10_strikes_2 4 rfl rfl)
theorem dX10_strikes_52 : decode cX10_strikes 52 = .ok (.iload 4, 2) := dk_21 4 (dk_at dksX10_strikes_2 5 rfl rfl)
theorem dX10_strikes_54 : decode cX10_strikes 54 = .ok (.invokevirtual 333, 3) := dk_182 1 77 (dk_at dksX10_strikes_2 7 rfl rfl)
theorem dX10_strikes_57 : decode cX10_strikes 57 = .ok (.aload_n 0, 1) := dk_42 (dk_at dksX10_strikes_2 10 rfl rfl)
theorem dX10_strikes_58 : decode cX10_strikes 58 = .ok (.iload 4, 2) := dk_21 4 (dk_at dksX10_strikes_2 11 rfl rfl)
theorem dX10_strikes_60 : decode cX10_strikes 60 = .ok (.iconst 1, 1) := dk_4 (dk_at dksX10_strikes_2 13 rfl rfl)
theorem dX10_strikes_61 : decode cX10_strikes 61 = .ok (.iadd, 1) := dk_96 (dk_at dksX10_strikes_2 14 rfl rfl)
theorem dX10_strikes_62 : decode cX10_strikes 62 = .ok (.invokevirtual 333, 3) := dk_182 1 77 (dk_at dksX10_strikes_2 15 rfl rfl)
theorem dX10_strikes_65 : decode cX10_strikes 65 = .ok (.isub, 1) := dk_100 (dk_at dksX10_strikes_2 18 rfl rfl)
theorem dX10_strikes_66 : decode cX10_strikes 66 = .ok (.istore 5, 2) := dk_54 5 (dk_at dksX10_strikes_2 19 rfl rfl)
theorem dX10_strikes_68 : decode cX10_strikes 68 = .ok (.iload_n 2, 1) := dk_28 (dk_at dksX10_strikes_2 21 rfl rfl)
theorem dX10_strikes_69 : decode cX10_strikes 69 = .ok (.iconst (-1), 1) := dk_2 (dk_at dksX10_strikes_2 22 rfl rfl)
theorem dX10_strikes_70 : decode cX10_strikes 70 = .ok (.if_icmp .eq 12, 3) := dk_159 0 12 (dk_at dksX10_strikes_3 0 rfl rfl)
theorem dX10_strikes_73 : decode cX10_strikes 73 = .ok (.iload 5, 2) := dk_21 5 (dk_at dksX10_strikes_3 3 rfl rfl)
theorem dX10_strikes_75 : decode cX10_strikes 75 = .ok (.iload_n 3, 1) := dk_29 (dk_at dksX10_strikes_3 5 rfl rfl)
theorem dX10_strikes_76 : decode cX10_strikes 76 = .ok (.if_icmp .gt 6, 3) := dk_163 0 6 (dk_at dksX10_strikes_3 6 rfl rfl)
theorem dX10_strikes_79 : decode cX10_strikes 79 = .ok (.goto 9, 3) := dk_167 0 9 (dk_at dksX10_strikes_3 9 rfl rfl)
theorem dX10_strikes_82 : decode cX10_strikes 82 = .ok (.iload 4, 2) := dk_21 4 (dk_at dksX10_strikes_3 12 rfl rfl)
theorem dX10_strikes_84 : decode cX10_strikes 84 = .ok (.istore_n 2, 1) := dk_61 (dk_at dksX10_strikes_3 14 rfl rfl)
theorem dX10_strikes_85 : decode cX10_strikes 85 = .ok (.iload 5, 2) := dk_21 5 (dk_at dksX10_strikes_3 15 rfl rfl)
theorem dX10_strikes_87 : decode cX10_strikes 87 = .ok (.istore_n 3, 1) := dk_62 (dk_at dksX10_strikes_3 17 rfl rfl)
theorem dX10_strikes_88 : decode cX10_strikes 88 = .ok (.iinc 4 1, 3) := dk_132 4 1 (dk_at dksX10_strikes_3 18 rfl rfl)
theorem dX10_strikes_91 : decode cX10_strikes 91 = .ok (.goto (-52), 3) := dk_167 255 204 (dk_at dksX10_strikes_3 21 rfl rfl)
theorem dX10_strikes_94 : decode cX10_strikes 94 = .ok (.iload_n 1, 1) := dk_27 (dk_at dksX10_strikes_4 0 rfl rfl)
theorem dX10_strikes_95 : decode cX10_strikes 95 = .ok (.ifCond .ne 7, 3) := dk_154 0 7 (dk_at dksX10_strikes_4 1 rfl rfl)
theorem dX10_strikes_98 : decode cX10_strikes 98 = .ok (.iload_n 3, 1) := dk_29 (dk_at dksX10_strikes_4 4 rfl rfl)
theorem dX10_strikes_99 : decode cX10_strikes 99 = .ok (.goto 4, 3) := dk_167 0 4 (dk_at dksX10_strikes_4 5 rfl rfl)
theorem dX10_strikes_102 : decode cX10_strikes 102 = .ok (.iload_n 2, 1) := dk_28 (dk_at dksX10_strikes_4 8 rfl rfl)
theorem dX10_strikes_103 : decode cX10_strikes 103 = .ok (.ireturn, 1) := dk_172 (dk_at dksX10_strikes_4 9 rfl rfl)
abbrev cX10_ends : ByteArray := prog_33_method_75_code
def yX10_ends : MethodName := ⟨RX10, "ends", "(II)I"⟩
def dkwX10_ends_2 : List UInt8 := [28, 182, 1, 97, 172]
abbrev dktX10_ends_2 : List UInt8 := dkwX10_ends_2 ++ []
def dkwX10_ends_1 : List UInt8 := [153, 0, 7, 3, 167, 0, 4, 4, 181, 0, 71, 42, 180, 0, 71, 158, 0, 7, 3, 167, 0, 9, 42, 27]
abbrev dktX10_ends_1 : List UInt8 := dkwX10_ends_1 ++ dktX10_ends_2
def dkwX10_ends_0 : List UInt8 := [42, 27, 133, 10, 20, 1, 95, 184, 0, 133, 153, 0, 20, 28, 133, 27, 133, 20, 1, 95, 184, 0, 133]
abbrev dktX10_ends_0 : List UInt8 := dkwX10_ends_0 ++ dktX10_ends_1
theorem dksX10_ends_0 : cX10_ends.data.toList.drop 0 = dktX10_ends_0 := by decide +kernel
theorem dksX10_ends_1 : cX10_ends.data.toList.drop 23 = dktX10_ends_1 := dk_seg dksX10_ends_0 23 rfl rfl
theorem dksX10_ends_2 : cX10_ends.data.toList.drop 47 = dktX10_ends_2 := dk_seg dksX10_ends_1 24 rfl rfl
theorem dX10_ends_0 : decode cX10_ends 0 = .ok (.aload_n 0, 1) := dk_42 (dk_at dksX10_ends_0 0 rfl rfl)
theorem dX10_ends_1 : decode cX10_ends 1 = .ok (.iload_n 1, 1) := dk_27 (dk_at dksX10_ends_0 1 rfl rfl)
theorem dX10_ends_2 : decode cX10_ends 2 = .ok (.i2l, 1) := dk_133 (dk_at dksX10_ends_0 2 rfl rfl)
theorem dX10_ends_3 : decode cX10_ends 3 = .ok (.lconst 1, 1) := dk_10 (dk_at dksX10_ends_0 3 rfl rfl)
theorem dX10_ends_4 : decode cX10_ends 4 = .ok (.ldc2_w 351, 3) := dk_20 1 95 (dk_at dksX10_ends_0 4 rfl rfl)
theorem dX10_ends_7 : decode cX10_ends 7 = .ok (.invokestatic 133, 3) := dk_184 0 133 (dk_at dksX10_ends_0 7 rfl rfl)
theorem dX10_ends_10 : decode cX10_ends 10 = .ok (.ifCond .eq 20, 3) := dk_153 0 20 (dk_at dksX10_ends_0 10 rfl rfl)
theorem dX10_ends_13 : decode cX10_ends 13 = .ok (.iload_n 2, 1) := dk_28 (dk_at dksX10_ends_0 13 rfl rfl)
theorem dX10_ends_14 : decode cX10_ends 14 = .ok (.i2l, 1) := dk_133 (dk_at dksX10_ends_0 14 rfl rfl)
theorem dX10_ends_15 : decode cX10_ends 15 = .ok (.iload_n 1, 1) := dk_27 (dk_at dksX10_ends_0 15 rfl rfl)
theorem dX10_ends_16 : decode cX10_ends 16 = .ok (.i2l, 1) := dk_133 (dk_at dksX10_ends_0 16 rfl rfl)
theorem dX10_ends_17 : decode cX10_ends 17 = .ok (.ldc2_w 351, 3) := dk_20 1 95 (dk_at dksX10_ends_0 17 rfl rfl)
theorem dX10_ends_20 : decode cX10_ends 20 = .ok (.invokestatic 133, 3) := dk_184 0 133 (dk_at dksX10_ends_0 20 rfl rfl)
theorem dX10_ends_23 : decode cX10_ends 23 = .ok (.ifCond .eq 7, 3) := dk_153 0 7 (dk_at dksX10_ends_1 0 rfl rfl)
theorem dX10_ends_26 : decode cX10_ends 26 = .ok (.iconst 0, 1) := dk_3 (dk_at dksX10_ends_1 3 rfl rfl)
theorem dX10_ends_27 : decode cX10_ends 27 = .ok (.goto 4, 3) := dk_167 0 4 (dk_at dksX10_ends_1 4 rfl rfl)
theorem dX10_ends_30 : decode cX10_ends 30 = .ok (.iconst 1, 1) := dk_4 (dk_at dksX10_ends_1 7 rfl rfl)
theorem dX10_ends_31 : decode cX10_ends 31 = .ok (.putfield 71, 3) := dk_181 0 71 (dk_at dksX10_ends_1 8 rfl rfl)
theorem dX10_ends_34 : decode cX10_ends 34 = .ok (.aload_n 0, 1) := dk_42 (dk_at dksX10_ends_1 11 rfl rfl)
theorem dX10_ends_35 : decode cX10_ends 35 = .ok (.getfield 71, 3) := dk_180 0 71 (dk_at dksX10_ends_1 12 rfl rfl)
theorem dX10_ends_38 : decode cX10_ends 38 = .ok (.ifCond .le 7, 3) := dk_158 0 7 (dk_at dksX10_ends_1 15 rfl rfl)
theorem dX10_ends_41 : decode cX10_ends 41 = .ok (.iconst 0, 1) := dk_3 (dk_at dksX10_ends_1 18 rfl rfl)
theorem dX10_ends_42 : decode cX10_ends 42 = .ok (.goto 9, 3) := dk_167 0 9 (dk_at dksX10_ends_1 19 rfl rfl)
theorem dX10_ends_45 : decode cX10_ends 45 = .ok (.aload_n 0, 1) := dk_42 (dk_at dksX10_ends_1 22 rfl rfl)
theorem dX10_ends_46 : decode cX10_ends 46 = .ok (.iload_n 1, 1) := dk_27 (dk_at dksX10_ends_1 23 rfl rfl)
theorem dX10_ends_47 : decode cX10_ends 47 = .ok (.iload_n 2, 1) := dk_28 (dk_at dksX10_ends_2 0 rfl rfl)
theorem dX10_ends_48 : decode cX10_ends 48 = .ok (.invokevirtual 353, 3) := dk_182 1 97 (dk_at dksX10_ends_2 1 rfl rfl)
theorem dX10_ends_51 : decode cX10_ends 51 = .ok (.ireturn, 1) := dk_172 (dk_at dksX10_ends_2 4 rfl rfl)
abbrev cX10_leftWith : ByteArray := prog_33_method_74_code
def yX10_leftWith : MethodName := ⟨RX10, "leftWith", "(II)I"⟩
def dkwX10_leftWith_2 : List UInt8 := [21, 4, 79, 21, 5, 172]
abbrev dktX10_leftWith_2 : List UInt8 := dkwX10_leftWith_2 ++ []
def dkwX10_leftWith_1 : List UInt8 := [180, 0, 9, 5, 28, 79, 42, 182, 1, 80, 54, 5, 42, 180, 0, 9, 4, 29, 79, 42, 180, 0, 9, 5]
abbrev dktX10_leftWith_1 : List UInt8 := dkwX10_leftWith_1 ++ dktX10_leftWith_2
def dkwX10_leftWith_0 : List UInt8 := [42, 180, 0, 9, 4, 46, 62, 42, 180, 0, 9, 5, 46, 54, 4, 42, 180, 0, 9, 4, 27, 79, 42]
abbrev dktX10_leftWith_0 : List UInt8 := dkwX10_leftWith_0 ++ dktX10_leftWith_1
theorem dksX10_leftWith_0 : cX10_leftWith.data.toList.drop 0 = dktX10_leftWith_0 := by decide +kernel
theorem dksX10_leftWith_1 : cX10_leftWith.data.toList.drop 23 = dktX10_leftWith_1 := dk_seg dksX10_leftWith_0 23 rfl rfl
theorem dksX10_leftWith_2 : cX10_leftWith.data.toList.drop 47 = dktX10_leftWith_2 := dk_seg dksX10_leftWith_1 24 rfl rfl
theorem dX10_leftWith_0 : decode cX10_leftWith 0 = .ok (.aload_n 0, 1) := dk_42 (dk_at dksX10_leftWith_0 0 rfl rfl)
theorem dX10_leftWith_1 : decode cX10_leftWith 1 = .ok (.getfield 9, 3) := dk_180 0 9 (dk_at dksX10_leftWith_0 1 rfl rfl)
theorem dX10_leftWith_4 : decode cX10_leftWith 4 = .ok (.iconst 1, 1) := dk_4 (dk_at dksX10_leftWith_0 4 rfl rfl)
theorem dX10_leftWith_5 : decode cX10_leftWith 5 = .ok (.iaload, 1) := dk_46 (dk_at dksX10_leftWith_0 5 rfl rfl)
theorem dX10_leftWith_6 : decode cX10_leftWith 6 = .ok (.istore_n 3, 1) := dk_62 (dk_at dksX10_leftWith_0 6 rfl rfl)
theorem dX10_leftWith_7 : decode cX10_leftWith 7 = .ok (.aload_n 0, 1) := dk_42 (dk_at dksX10_leftWith_0 7 rfl rfl)
theorem dX10_leftWith_8 : decode cX10_leftWith 8 = .ok (.getfield 9, 3) := dk_180 0 9 (dk_at dksX10_leftWith_0 8 rfl rfl)
theorem dX10_leftWith_11 : decode cX10_leftWith 11 = .ok (.iconst 2, 1) := dk_5 (dk_at dksX10_leftWith_0 11 rfl rfl)
theorem dX10_leftWith_12 : decode cX10_leftWith 12 = .ok (.iaload, 1) := dk_46 (dk_at dksX10_leftWith_0 12 rfl rfl)
theorem dX10_leftWith_13 : decode cX10_leftWith 13 = .ok (.istore 4, 2) := dk_54 4 (dk_at dksX10_leftWith_0 13 rfl rfl)
theorem dX10_leftWith_15 : decode cX10_leftWith 15 = .ok (.aload_n 0, 1) := dk_42 (dk_at dksX10_leftWith_0 15 rfl rfl)
theorem dX10_leftWith_16 : decode cX10_leftWith 16 = .ok (.getfield 9, 3) := dk_180 0 9 (dk_at dksX10_leftWith_0 16 rfl rfl)
theorem dX10_leftWith_19 : decode cX10_leftWith 19 = .ok (.iconst 1, 1) := dk_4 (dk_at dksX10_leftWith_0 19 rfl rfl)
theorem dX10_leftWith_20 : decode cX10_leftWith 20 = .ok (.iload_n 1, 1) := dk_27 (dk_at dksX10_leftWith_0 20 rfl rfl)
theorem dX10_leftWith_21 : decode cX10_leftWith 21 = .ok (.iastore, 1) := dk_79 (dk_at dksX10_leftWith_0 21 rfl rfl)
theorem dX10_leftWith_22 : decode cX10_leftWith 22 = .ok (.aload_n 0, 1) := dk_42 (dk_at dksX10_leftWith_0 22 rfl rfl)
theorem dX10_leftWith_23 : decode cX10_leftWith 23 = .ok (.getfield 9, 3) := dk_180 0 9 (dk_at dksX10_leftWith_1 0 rfl rfl)
theorem dX10_leftWith_26 : decode cX10_leftWith 26 = .ok (.iconst 2, 1) := dk_5 (dk_at dksX10_leftWith_1 3 rfl rfl)
theorem dX10_leftWith_27 : decode cX10_leftWith 27 = .ok (.iload_n 2, 1) := dk_28 (dk_at dksX10_leftWith_1 4 rfl rfl)
theorem dX10_leftWith_28 : decode cX10_leftWith 28 = .ok (.iastore, 1) := dk_79 (dk_at dksX10_leftWith_1 5 rfl rfl)
theorem dX10_leftWith_29 : decode cX10_leftWith 29 = .ok (.aload_n 0, 1) := dk_42 (dk_at dksX10_leftWith_1 6 rfl rfl)
theorem dX10_leftWith_30 : decode cX10_leftWith 30 = .ok (.invokevirtual 336, 3) := dk_182 1 80 (dk_at dksX10_leftWith_1 7 rfl rfl)
theorem dX10_leftWith_33 : decode cX10_leftWith 33 = .ok (.istore 5, 2) := dk_54 5 (dk_at dksX10_leftWith_1 10 rfl rfl)
theorem dX10_leftWith_35 : decode cX10_leftWith 35 = .ok (.aload_n 0, 1) := dk_42 (dk_at dksX10_leftWith_1 12 rfl rfl)
theorem dX10_leftWith_36 : decode cX10_leftWith 36 = .ok (.getfield 9, 3) := dk_180 0 9 (dk_at dksX10_leftWith_1 13 rfl rfl)
theorem dX10_leftWith_39 : decode cX10_leftWith 39 = .ok (.iconst 1, 1) := dk_4 (dk_at dksX10_leftWith_1 16 rfl rfl)
theorem dX10_leftWith_40 : decode cX10_leftWith 40 = .ok (.iload_n 3, 1) := dk_29 (dk_at dksX10_leftWith_1 17 rfl rfl)
theorem dX10_leftWith_41 : decode cX10_leftWith 41 = .ok (.iastore, 1) := dk_79 (dk_at dksX10_leftWith_1 18 rfl rfl)
theorem dX10_leftWith_42 : decode cX10_leftWith 42 = .ok (.aload_n 0, 1) := dk_42 (dk_at dksX10_leftWith_1 19 rfl rfl)
theorem dX10_leftWith_43 : decode cX10_leftWith 43 = .ok (.getfield 9, 3) := dk_180 0 9 (dk_at dksX10_leftWith_1 20 rfl rfl)
theorem dX10_leftWith_46 : decode cX10_leftWith 46 = .ok (.iconst 2, 1) := dk_5 (dk_at dksX10_leftWith_1 23 rfl rfl)
theorem dX10_leftWith_47 : decode cX10_leftWith 47 = .ok (.iload 4, 2) := dk_21 4 (dk_at dksX10_leftWith_2 0 rfl rfl)
theorem dX10_leftWith_49 : decode cX10_leftWith 49 = .ok (.iastore, 1) := dk_79 (dk_at dksX10_leftWith_2 2 rfl rfl)
theorem dX10_leftWith_50 : decode cX10_leftWith 50 = .ok (.iload 5, 2) := dk_21 5 (dk_at dksX10_leftWith_2 3 rfl rfl)
theorem dX10_leftWith_52 : decode cX10_leftWith 52 = .ok (.ireturn, 1) := dk_172 (dk_at dksX10_leftWith_2 5 rfl rfl)
abbrev cX10_upTo : ByteArray := prog_33_method_76_code
def yX10_upTo : MethodName := ⟨RX10, "upTo", "(I)I"⟩
def dkwX10_upTo_3 : List UInt8 := [132, 3, 1, 167, 255, 221, 28, 172]
abbrev dktX10_upTo_3 : List UInt8 := dkwX10_upTo_3 ++ []
def dkwX10_upTo_2 : List UInt8 := [180, 0, 9, 4, 46, 29, 182, 1, 97, 4, 159, 0, 6, 167, 0, 11, 29, 61, 27, 154, 0, 5, 28, 172]
abbrev dktX10_upTo_2 : List UInt8 := dkwX10_upTo_2 ++ dktX10_upTo_3
def dkwX10_upTo_1 : List UInt8 := [158, 0, 5, 3, 172, 2, 61, 42, 180, 0, 9, 4, 46, 62, 29, 16, 60, 163, 0, 35, 42, 42]
abbrev dktX10_upTo_1 : List UInt8 := dkwX10_upTo_1 ++ dktX10_upTo_2
def dkwX10_upTo_0 : List UInt8 := [42, 27, 133, 9, 10, 184, 0, 133, 153, 0, 7, 3, 167, 0, 4, 4, 181, 0, 71, 42, 180, 0, 71]
abbrev dktX10_upTo_0 : List UInt8 := dkwX10_upTo_0 ++ dktX10_upTo_1
theorem dksX10_upTo_0 : cX10_upTo.data.toList.drop 0 = dktX10_upTo_0 := by decide +kernel
theorem dksX10_upTo_1 : cX10_upTo.data.toList.drop 23 = dktX10_upTo_1 := dk_seg dksX10_upTo_0 23 rfl rfl
theorem dksX10_upTo_2 : cX10_upTo.data.toList.drop 45 = dktX10_upTo_2 := dk_seg dksX10_upTo_1 22 rfl rfl
theorem dksX10_upTo_3 : cX10_upTo.data.toList.drop 69 = dktX10_upTo_3 := dk_seg dksX10_upTo_2 24 rfl rfl
theorem dX10_upTo_0 : decode cX10_upTo 0 = .ok (.aload_n 0, 1) := dk_42 (dk_at dksX10_upTo_0 0 rfl rfl)
theorem dX10_upTo_1 : decode cX10_upTo 1 = .ok (.iload_n 1, 1) := dk_27 (dk_at dksX10_upTo_0 1 rfl rfl)
theorem dX10_upTo_2 : decode cX10_upTo 2 = .ok (.i2l, 1) := dk_133 (dk_at dksX10_upTo_0 2 rfl rfl)
theorem dX10_upTo_3 : decode cX10_upTo 3 = .ok (.lconst 0, 1) := dk_9 (dk_at dksX10_upTo_0 3 rfl rfl)
theorem dX10_upTo_4 : decode cX10_upTo 4 = .ok (.lconst 1, 1) := dk_10 (dk_at dksX10_upTo_0 4 rfl rfl)
theorem dX10_upTo_5 : decode cX10_upTo 5 = .ok (.invokestatic 133, 3) := dk_184 0 133 (dk_at dksX10_upTo_0 5 rfl rfl)
theorem dX10_upTo_8 : decode cX10_upTo 8 = .ok (.ifCond .eq 7, 3) := dk_153 0 7 (dk_at dksX10_upTo_0 8 rfl rfl)
theorem dX10_upTo_11 : decode cX10_upTo 11 = .ok (.iconst 0, 1) := dk_3 (dk_at dksX10_upTo_0 11 rfl rfl)
theorem dX10_upTo_12 : decode cX10_upTo 12 = .ok (.goto 4, 3) := dk_167 0 4 (dk_at dksX10_upTo_0 12 rfl rfl)
theorem dX10_upTo_15 : decode cX10_upTo 15 = .ok (.iconst 1, 1) := dk_4 (dk_at dksX10_upTo_0 15 rfl rfl)
theorem dX10_upTo_16 : decode cX10_upTo 16 = .ok (.putfield 71, 3) := dk_181 0 71 (dk_at dksX10_upTo_0 16 rfl rfl)
theorem dX10_upTo_19 : decode cX10_upTo 19 = .ok (.aload_n 0, 1) := dk_42 (dk_at dksX10_upTo_0 19 rfl rfl)
theorem dX10_upTo_20 : decode cX10_upTo 20 = .ok (.getfield 71, 3) := dk_180 0 71 (dk_at dksX10_upTo_0 20 rfl rfl)
theorem dX10_upTo_23 : decode cX10_upTo 23 = .ok (.ifCond .le 5, 3) := dk_158 0 5 (dk_at dksX10_upTo_1 0 rfl rfl)
theorem dX10_upTo_26 : decode cX10_upTo 26 = .ok (.iconst 0, 1) := dk_3 (dk_at dksX10_upTo_1 3 rfl rfl)
theorem dX10_upTo_27 : decode cX10_upTo 27 = .ok (.ireturn, 1) := dk_172 (dk_at dksX10_upTo_1 4 rfl rfl)
theorem dX10_upTo_28 : decode cX10_upTo 28 = .ok (.iconst (-1), 1) := dk_2 (dk_at dksX10_upTo_1 5 rfl rfl)
theorem dX10_upTo_29 : decode cX10_upTo 29 = .ok (.istore_n 2, 1) := dk_61 (dk_at dksX10_upTo_1 6 rfl rfl)
theorem dX10_upTo_30 : decode cX10_upTo 30 = .ok (.aload_n 0, 1) := dk_42 (dk_at dksX10_upTo_1 7 rfl rfl)
theorem dX10_upTo_31 : decode cX10_upTo 31 = .ok (.getfield 9, 3) := dk_180 0 9 (dk_at dksX10_upTo_1 8 rfl rfl)
theorem dX10_upTo_34 : decode cX10_upTo 34 = .ok (.iconst 1, 1) := dk_4 (dk_at dksX10_upTo_1 11 rfl rfl)
theorem dX10_upTo_35 : decode cX10_upTo 35 = .ok (.iaload, 1) := dk_46 (dk_at dksX10_upTo_1 12 rfl rfl)
theorem dX10_upTo_36 : decode cX10_upTo 36 = .ok (.istore_n 3, 1) := dk_62 (dk_at dksX10_upTo_1 13 rfl rfl)
theorem dX10_upTo_37 : decode cX10_upTo 37 = .ok (.iload_n 3, 1) := dk_29 (dk_at dksX10_upTo_1 14 rfl rfl)
theorem dX10_upTo_38 : decode cX10_upTo 38 = .ok (.bipush 60, 2) := dk_16 60 (dk_at dksX10_upTo_1 15 rfl rfl)
theorem dX10_upTo_40 : decode cX10_upTo 40 = .ok (.if_icmp .gt 35, 3) := dk_163 0 35 (dk_at dksX10_upTo_1 17 rfl rfl)
theorem dX10_upTo_43 : decode cX10_upTo 43 = .ok (.aload_n 0, 1) := dk_42 (dk_at dksX10_upTo_1 20 rfl rfl)
theorem dX10_upTo_44 : decode cX10_upTo 44 = .ok (.aload_n 0, 1) := dk_42 (dk_at dksX10_upTo_1 21 rfl rfl)
theorem dX10_upTo_45 : decode cX10_upTo 45 = .ok (.getfield 9, 3) := dk_180 0 9 (dk_at dksX10_upTo_2 0 rfl rfl)
theorem dX10_upTo_48 : decode cX10_upTo 48 = .ok (.iconst 1, 1) := dk_4 (dk_at dksX10_upTo_2 3 rfl rfl)
theorem dX10_upTo_49 : decode cX10_upTo 49 = .ok (.iaload, 1) := dk_46 (dk_at dksX10_upTo_2 4 rfl rfl)
theorem dX10_upTo_50 : decode cX10_upTo 50 = .ok (.iload_n 3, 1) := dk_29 (dk_at dksX10_upTo_2 5 rfl rfl)
theorem dX10_upTo_51 : decode cX10_upTo 51 = .ok (.invokevirtual 353, 3) := dk_182 1 97 (dk_at dksX10_upTo_2 6 rfl rfl)
theorem dX10_upTo_54 : decode cX10_upTo 54 = .ok (.iconst 1, 1) := dk_4 (dk_at dksX10_upTo_2 9 rfl rfl)
theorem dX10_upTo_55 : decode cX10_upTo 55 = .ok (.if_icmp .eq 6, 3) := dk_159 0 6 (dk_at dksX10_upTo_2 10 rfl rfl)
theorem dX10_upTo_58 : decode cX10_upTo 58 = .ok (.goto 11, 3) := dk_167 0 11 (dk_at dksX10_upTo_2 13 rfl rfl)
theorem dX10_upTo_61 : decode cX10_upTo 61 = .ok (.iload_n 3, 1) := dk_29 (dk_at dksX10_upTo_2 16 rfl rfl)
theorem dX10_upTo_62 : decode cX10_upTo 62 = .ok (.istore_n 2, 1) := dk_61 (dk_at dksX10_upTo_2 17 rfl rfl)
theorem dX10_upTo_63 : decode cX10_upTo 63 = .ok (.iload_n 1, 1) := dk_27 (dk_at dksX10_upTo_2 18 rfl rfl)
theorem dX10_upTo_64 : decode cX10_upTo 64 = .ok (.ifCond .ne 5, 3) := dk_154 0 5 (dk_at dksX10_upTo_2 19 rfl rfl)
theorem dX10_upTo_67 : decode cX10_upTo 67 = .ok (.iload_n 2, 1) := dk_28 (dk_at dksX10_upTo_2 22 rfl rfl)
theorem dX10_upTo_68 : decode cX10_upTo 68 = .ok (.ireturn, 1) := dk_172 (dk_at dksX10_upTo_2 23 rfl rfl)
theorem dX10_upTo_69 : decode cX10_upTo 69 = .ok (.iinc 3 1, 3) := dk_132 3 1 (dk_at dksX10_upTo_3 0 rfl rfl)
theorem dX10_upTo_72 : decode cX10_upTo 72 = .ok (.goto (-35), 3) := dk_167 255 221 (dk_at dksX10_upTo_3 3 rfl rfl)
theorem dX10_upTo_75 : decode cX10_upTo 75 = .ok (.iload_n 2, 1) := dk_28 (dk_at dksX10_upTo_3 6 rfl rfl)
theorem dX10_upTo_76 : decode cX10_upTo 76 = .ok (.ireturn, 1) := dk_172 (dk_at dksX10_upTo_3 7 rfl rfl)
abbrev cX10_rest : ByteArray := prog_33_method_80_code
def yX10_rest : MethodName := ⟨RX10, "rest", "(II)I"⟩
def dkwX10_rest_1 : List UInt8 := [182, 1, 107, 172]
abbrev dktX10_rest_1 : List UInt8 := dkwX10_rest_1 ++ []
def dkwX10_rest_0 : List UInt8 := [42, 42, 27, 28, 182, 1, 104, 181, 0, 71, 42, 180, 0, 71, 158, 0, 7, 3, 167, 0, 9, 42, 27, 28]
abbrev dktX10_rest_0 : List UInt8 := dkwX10_rest_0 ++ dktX10_rest_1
theorem dksX10_rest_0 : cX10_rest.data.toList.drop 0 = dktX10_rest_0 := by decide +kernel
theorem dksX10_rest_1 : cX10_rest.data.toList.drop 24 = dktX10_rest_1 := dk_seg dksX10_rest_0 24 rfl rfl
theorem dX10_rest_0 : decode cX10_rest 0 = .ok (.aload_n 0, 1) := dk_42 (dk_at dksX10_rest_0 0 rfl rfl)
theorem dX10_rest_1 : decode cX10_rest 1 = .ok (.aload_n 0, 1) := dk_42 (dk_at dksX10_rest_0 1 rfl rfl)
theorem dX10_rest_2 : decode cX10_rest 2 = .ok (.iload_n 1, 1) := dk_27 (dk_at dksX10_rest_0 2 rfl rfl)
theorem dX10_rest_3 : decode cX10_rest 3 = .ok (.iload_n 2, 1) := dk_28 (dk_at dksX10_rest_0 3 rfl rfl)
theorem dX10_rest_4 : decode cX10_rest 4 = .ok (.invokevirtual 360, 3) := dk_182 1 104 (dk_at dksX10_rest_0 4 rfl rfl)
theorem dX10_rest_7 : decode cX10_rest 7 = .ok (.putfield 71, 3) := dk_181 0 71 (dk_at dksX10_rest_0 7 rfl rfl)
theorem dX10_rest_10 : decode cX10_rest 10 = .ok (.aload_n 0, 1) := dk_42 (dk_at dksX10_rest_0 10 rfl rfl)
theorem dX10_rest_11 : decode cX10_rest 11 = .ok (.getfield 71, 3) := dk_180 0 71 (dk_at dksX10_rest_0 11 rfl rfl)
theorem dX10_rest_14 : decode cX10_rest 14 = .ok (.ifCond .le 7, 3) := dk_158 0 7 (dk_at dksX10_rest_0 14 rfl rfl)
theorem dX10_rest_17 : decode cX10_rest 17 = .ok (.iconst 0, 1) := dk_3 (dk_at dksX10_rest_0 17 rfl rfl)
theorem dX10_rest_18 : decode cX10_rest 18 = .ok (.goto 9, 3) := dk_167 0 9 (dk_at dksX10_rest_0 18 rfl rfl)
theorem dX10_rest_21 : decode cX10_rest 21 = .ok (.aload_n 0, 1) := dk_42 (dk_at dksX10_rest_0 21 rfl rfl)
theorem dX10_rest_22 : decode cX10_rest 22 = .ok (.iload_n 1, 1) := dk_27 (dk_at dksX10_rest_0 22 rfl rfl)
theorem dX10_rest_23 : decode cX10_rest 23 = .ok (.iload_n 2, 1) := dk_28 (dk_at dksX10_rest_0 23 rfl rfl)
theorem dX10_rest_24 : decode cX10_rest 24 = .ok (.invokevirtual 363, 3) := dk_182 1 107 (dk_at dksX10_rest_1 0 rfl rfl)
theorem dX10_rest_27 : decode cX10_rest 27 = .ok (.ireturn, 1) := dk_172 (dk_at dksX10_rest_1 3 rfl rfl)
abbrev cX10_twoFault : ByteArray := prog_33_method_78_code
def yX10_twoFault : MethodName := ⟨RX10, "twoFault", "(II)I"⟩
def dkwX10_twoFault_1 : List UInt8 := [160, 0, 7, 5, 167, 0, 4, 3, 172]
abbrev dktX10_twoFault_1 : List UInt8 := dkwX10_twoFault_1 ++ []
def dkwX10_twoFault_0 : List UInt8 := [42, 27, 182, 1, 14, 153, 0, 11, 42, 28, 182, 1, 14, 154, 0, 7, 4, 167, 0, 13, 27, 28]
abbrev dktX10_twoFault_0 : List UInt8 := dkwX10_twoFault_0 ++ dktX10_twoFault_1
theorem dksX10_twoFault_0 : cX10_twoFault.data.toList.drop 0 = dktX10_twoFault_0 := by decide +kernel
theorem dksX10_twoFault_1 : cX10_twoFault.data.toList.drop 22 = dktX10_twoFault_1 := dk_seg dksX10_twoFault_0 22 rfl rfl
theorem dX10_twoFault_0 : decode cX10_twoFault 0 = .ok (.aload_n 0, 1) := dk_42 (dk_at dksX10_twoFault_0 0 rfl rfl)
theorem dX10_twoFault_1 : decode cX10_twoFault 1 = .ok (.iload_n 1, 1) := dk_27 (dk_at dksX10_twoFault_0 1 rfl rfl)
theorem dX10_twoFault_2 : decode cX10_twoFault 2 = .ok (.invokevirtual 270, 3) := dk_182 1 14 (dk_at dksX10_twoFault_0 2 rfl rfl)
theorem dX10_twoFault_5 : decode cX10_twoFault 5 = .ok (.ifCond .eq 11, 3) := dk_153 0 11 (dk_at dksX10_twoFault_0 5 rfl rfl)
theorem dX10_twoFault_8 : decode cX10_twoFault 8 = .ok (.aload_n 0, 1) := dk_42 (dk_at dksX10_twoFault_0 8 rfl rfl)
theorem dX10_twoFault_9 : decode cX10_twoFault 9 = .ok (.iload_n 2, 1) := dk_28 (dk_at dksX10_twoFault_0 9 rfl rfl)
theorem dX10_twoFault_10 : decode cX10_twoFault 10 = .ok (.invokevirtual 270, 3) := dk_182 1 14 (dk_at dksX10_twoFault_0 10 rfl rfl)
theorem dX10_twoFault_13 : decode cX10_twoFault 13 = .ok (.ifCond .ne 7, 3) := dk_154 0 7 (dk_at dksX10_twoFault_0 13 rfl rfl)
theorem dX10_twoFault_16 : decode cX10_twoFault 16 = .ok (.iconst 1, 1) := dk_4 (dk_at dksX10_twoFault_0 16 rfl rfl)
theorem dX10_twoFault_17 : decode cX10_twoFault 17 = .ok (.goto 13, 3) := dk_167 0 13 (dk_at dksX10_twoFault_0 17 rfl rfl)
theorem dX10_twoFault_20 : decode cX10_twoFault 20 = .ok (.iload_n 1, 1) := dk_27 (dk_at dksX10_twoFault_0 20 rfl rfl)
theorem dX10_twoFault_21 : decode cX10_twoFault 21 = .ok (.iload_n 2, 1) := dk_28 (dk_at dksX10_twoFault_0 21 rfl rfl)
theorem dX10_twoFault_22 : decode cX10_twoFault 22 = .ok (.if_icmp .ne 7, 3) := dk_160 0 7 (dk_at dksX10_twoFault_1 0 rfl rfl)
theorem dX10_twoFault_25 : decode cX10_twoFault 25 = .ok (.iconst 2, 1) := dk_5 (dk_at dksX10_twoFault_1 3 rfl rfl)
theorem dX10_twoFault_26 : decode cX10_twoFault 26 = .ok (.goto 4, 3) := dk_167 0 4 (dk_at dksX10_twoFault_1 4 rfl rfl)
theorem dX10_twoFault_29 : decode cX10_twoFault 29 = .ok (.iconst 0, 1) := dk_3 (dk_at dksX10_twoFault_1 7 rfl rfl)
theorem dX10_twoFault_30 : decode cX10_twoFault 30 = .ok (.ireturn, 1) := dk_172 (dk_at dksX10_twoFault_1 8 rfl rfl)
abbrev cX10_mutes : ByteArray := prog_33_method_79_code
def yX10_mutes : MethodName := ⟨RX10, "mutes", "(II)I"⟩
def dkwX10_mutes_7 : List UInt8 := [182, 1, 77, 172]
abbrev dktX10_mutes_7 : List UInt8 := dkwX10_mutes_7 ++ []
def dkwX10_mutes_6 : List UInt8 := [21, 5, 4, 96, 54, 5, 29, 54, 9, 21, 4, 62, 21, 9, 54, 4, 132, 6, 1, 167, 255, 141, 42, 29]
abbrev dktX10_mutes_6 : List UInt8 := dkwX10_mutes_6 ++ dktX10_mutes_7
def dkwX10_mutes_5 : List UInt8 := [21, 9, 21, 6, 79, 4, 54, 8, 132, 9, 1, 167, 255, 208, 21, 8, 153, 0, 7, 3, 167, 0, 7]
abbrev dktX10_mutes_5 : List UInt8 := dkwX10_mutes_5 ++ dktX10_mutes_6
def dkwX10_mutes_4 : List UInt8 := [182, 1, 37, 153, 0, 29, 42, 21, 4, 21, 9, 182, 1, 37, 153, 0, 6, 167, 0, 15, 42, 180, 0, 46]
abbrev dktX10_mutes_4 : List UInt8 := dkwX10_mutes_4 ++ dktX10_mutes_5
def dkwX10_mutes_3 : List UInt8 := [182, 1, 100, 3, 54, 8, 3, 54, 9, 21, 9, 42, 180, 0, 250, 162, 0, 45, 42, 29, 21, 9]
abbrev dktX10_mutes_3 : List UInt8 := dkwX10_mutes_3 ++ dktX10_mutes_4
def dkwX10_mutes_2 : List UInt8 := [162, 0, 115, 21, 6, 5, 112, 154, 0, 7, 27, 167, 0, 4, 28, 54, 7, 42, 21, 7, 29, 3, 21, 4]
abbrev dktX10_mutes_2 : List UInt8 := dkwX10_mutes_2 ++ dktX10_mutes_3
def dkwX10_mutes_1 : List UInt8 := [167, 255, 238, 3, 62, 4, 54, 4, 42, 29, 4, 182, 1, 67, 3, 54, 5, 3, 54, 6, 21, 5, 5]
abbrev dktX10_mutes_1 : List UInt8 := dkwX10_mutes_1 ++ dktX10_mutes_2
def dkwX10_mutes_0 : List UInt8 := [42, 182, 0, 253, 3, 62, 29, 42, 180, 0, 250, 162, 0, 16, 42, 180, 0, 46, 29, 2, 79, 132, 3, 1]
abbrev dktX10_mutes_0 : List UInt8 := dkwX10_mutes_0 ++ dktX10_mutes_1
theorem dksX10_mutes_0 : cX10_mutes.data.toList.drop 0 = dktX10_mutes_0 := by decide +kernel
theorem dksX10_mutes_1 : cX10_mutes.data.toList.drop 24 = dktX10_mutes_1 := dk_seg dksX10_mutes_0 24 rfl rfl
theorem dksX10_mutes_2 : cX10_mutes.data.toList.drop 47 = dktX10_mutes_2 := dk_seg dksX10_mutes_1 23 rfl rfl
theorem dksX10_mutes_3 : cX10_mutes.data.toList.drop 71 = dktX10_mutes_3 := dk_seg dksX10_mutes_2 24 rfl rfl
theorem dksX10_mutes_4 : cX10_mutes.data.toList.drop 93 = dktX10_mutes_4 := dk_seg dksX10_mutes_3 22 rfl rfl
theorem dksX10_mutes_5 : cX10_mutes.data.toList.drop 117 = dktX10_mutes_5 := dk_seg dksX10_mutes_4 24 rfl rfl
theorem dksX10_mutes_6 : cX10_mutes.data.toList.drop 140 = dktX10_mutes_6 := dk_seg dksX10_mutes_5 23 rfl rfl
theorem dksX10_mutes_7 : cX10_mutes.data.toList.drop 164 = dktX10_mutes_7 := dk_seg dksX10_mutes_6 24 rfl rfl
theorem dX10_mutes_0 : decode cX10_mutes 0 = .ok (.aload_n 0, 1) := dk_42 (dk_at dksX10_mutes_0 0 rfl rfl)
theorem dX10_mutes_1 : decode cX10_mutes 1 = .ok (.invokevirtual 253, 3) := dk_182 0 253 (dk_at dksX10_mutes_0 1 rfl rfl)
theorem dX10_mutes_4 : decode cX10_mutes 4 = .ok (.iconst 0, 1) := dk_3 (dk_at dksX10_mutes_0 4 rfl rfl)
theorem dX10_mutes_5 : decode cX10_mutes 5 = .ok (.istore_n 3, 1) := dk_62 (dk_at dksX10_mutes_0 5 rfl rfl)
theorem dX10_mutes_6 : decode cX10_mutes 6 = .ok (.iload_n 3, 1) := dk_29 (dk_at dksX10_mutes_0 6 rfl rfl)
theorem dX10_mutes_7 : decode cX10_mutes 7 = .ok (.aload_n 0, 1) := dk_42 (dk_at dksX10_mutes_0 7 rfl rfl)
theorem dX10_mutes_8 : decode cX10_mutes 8 = .ok (.getfield 250, 3) := dk_180 0 250 (dk_at dksX10_mutes_0 8 rfl rfl)
theorem dX10_mutes_11 : decode cX10_mutes 11 = .ok (.if_icmp .ge 16, 3) := dk_162 0 16 (dk_at dksX10_mutes_0 11 rfl rfl)
theorem dX10_mutes_14 : decode cX10_mutes 14 = .ok (.aload_n 0, 1) := dk_42 (dk_at dksX10_mutes_0 14 rfl rfl)
theorem dX10_mutes_15 : decode cX10_mutes 15 = .ok (.getfield 46, 3) := dk_180 0 46 (dk_at dksX10_mutes_0 15 rfl rfl)
theorem dX10_mutes_18 : decode cX10_mutes 18 = .ok (.iload_n 3, 1) := dk_29 (dk_at dksX10_mutes_0 18 rfl rfl)
theorem dX10_mutes_19 : decode cX10_mutes 19 = .ok (.iconst (-1), 1) := dk_2 (dk_at dksX10_mutes_0 19 rfl rfl)
theorem dX10_mutes_20 : decode cX10_mutes 20 = .ok (.iastore, 1) := dk_79 (dk_at dksX10_mutes_0 20 rfl rfl)
theorem dX10_mutes_21 : decode cX10_mutes 21 = .ok (.iinc 3 1, 3) := dk_132 3 1 (dk_at dksX10_mutes_0 21 rfl rfl)
theorem dX10_mutes_24 : decode cX10_mutes 24 = .ok (.goto (-18), 3) := dk_167 255 238 (dk_at dksX10_mutes_1 0 rfl rfl)
theorem dX10_mutes_27 : decode cX10_mutes 27 = .ok (.iconst 0, 1) := dk_3 (dk_at dksX10_mutes_1 3 rfl rfl)
theorem dX10_mutes_28 : decode cX10_mutes 28 = .ok (.istore_n 3, 1) := dk_62 (dk_at dksX10_mutes_1 4 rfl rfl)
theorem dX10_mutes_29 : decode cX10_mutes 29 = .ok (.iconst 1, 1) := dk_4 (dk_at dksX10_mutes_1 5 rfl rfl)
theorem dX10_mutes_30 : decode cX10_mutes 30 = .ok (.istore 4, 2) := dk_54 4 (dk_at dksX10_mutes_1 6 rfl rfl)
theorem dX10_mutes_32 : decode cX10_mutes 32 = .ok (.aload_n 0, 1) := dk_42 (dk_at dksX10_mutes_1 8 rfl rfl)
theorem dX10_mutes_33 : decode cX10_mutes 33 = .ok (.iload_n 3, 1) := dk_29 (dk_at dksX10_mutes_1 9 rfl rfl)
theorem dX10_mutes_34 : decode cX10_mutes 34 = .ok (.iconst 1, 1) := dk_4 (dk_at dksX10_mutes_1 10 rfl rfl)
theorem dX10_mutes_35 : decode cX10_mutes 35 = .ok (.invokevirtual 323, 3) := dk_182 1 67 (dk_at dksX10_mutes_1 11 rfl rfl)
theorem dX10_mutes_38 : decode cX10_mutes 38 = .ok (.iconst 0, 1) := dk_3 (dk_at dksX10_mutes_1 14 rfl rfl)
theorem dX10_mutes_39 : decode cX10_mutes 39 = .ok (.istore 5, 2) := dk_54 5 (dk_at dksX10_mutes_1 15 rfl rfl)
theorem dX10_mutes_41 : decode cX10_mutes 41 = .ok (.iconst 0, 1) := dk_3 (dk_at dksX10_mutes_1 17 rfl rfl)
theorem dX10_mutes_42 : decode cX10_mutes 42 = .ok (.istore 6, 2) := dk_54 6 (dk_at dksX10_mutes_1 18 rfl rfl)
theorem dX10_mutes_44 : decode cX10_mutes 44 = .ok (.iload 5, 2) := dk_21 5 (dk_at dksX10_mutes_1 20 rfl rfl)
theorem dX10_mutes_46 : decode cX10_mutes 46 = .ok (.iconst 2, 1) := dk_5 (dk_at dksX10_mutes_1 22 rfl rfl)
theorem dX10_mutes_47 : decode cX10_mutes 47 = .ok (.if_icmp .ge 115, 3) := dk_162 0 115 (dk_at dksX10_mutes_2 0 rfl rfl)
theorem dX10_mutes_50 : decode cX10_mutes 50 = .ok (.iload 6, 2) := dk_21 6 (dk_at dksX10_mutes_2 3 rfl rfl)
theorem dX10_mutes_52 : decode cX10_mutes 52 = .ok (.iconst 2, 1) := dk_5 (dk_at dksX10_mutes_2 5 rfl rfl)
theorem dX10_mutes_53 : decode cX10_mutes 53 = .ok (.irem, 1) := dk_112 (dk_at dksX10_mutes_2 6 rfl rfl)
theorem dX10_mutes_54 : decode cX10_mutes 54 = .ok (.ifCond .ne 7, 3) := dk_154 0 7 (dk_at dksX10_mutes_2 7 rfl rfl)
theorem dX10_mutes_57 : decode cX10_mutes 57 = .ok (.iload_n 1, 1) := dk_27 (dk_at dksX10_mutes_2 10 rfl rfl)
theorem dX10_mutes_58 : decode cX10_mutes 58 = .ok (.goto 4, 3) := dk_167 0 4 (dk_at dksX10_mutes_2 11 rfl rfl)
theorem dX10_mutes_61 : decode cX10_mutes 61 = .ok (.iload_n 2, 1) := dk_28 (dk_at dksX10_mutes_2 14 rfl rfl)
theorem dX10_mutes_62 : decode cX10_mutes 62 = .ok (.istore 7, 2) := dk_54 7 (dk_at dksX10_mutes_2 15 rfl rfl)
theorem dX10_mutes_64 : decode cX10_mutes 64 = .ok (.aload_n 0, 1) := dk_42 (dk_at dksX10_mutes_2 17 rfl rfl)
theorem dX10_mutes_65 : decode cX10_mutes 65 = .ok (.iload 7, 2) := dk_21 7 (dk_at dksX10_mutes_2 18 rfl rfl)
theorem dX10_mutes_67 : decode cX10_mutes 67 = .ok (.iload_n 3, 1) := dk_29 (dk_at dksX10_mutes_2 20 rfl rfl)
theorem dX10_mutes_68 : decode cX10_mutes 68 = .ok (.iconst 0, 1) := dk_3 (dk_at dksX10_mutes_2 21 rfl rfl)
theorem dX10_mutes_69 : decode cX10_mutes 69 = .ok (.iload 4, 2) := dk_21 4 (dk_at dksX10_mutes_2 22 rfl rfl)
theorem dX10_mutes_71 : decode cX10_mutes 71 = .ok (.invokevirtual 356, 3) := dk_182 1 100 (dk_at dksX10_mutes_3 0 rfl rfl)
theorem dX10_mutes_74 : decode cX10_mutes 74 = .ok (.iconst 0, 1) := dk_3 (dk_at dksX10_mutes_3 3 rfl rfl)
theorem dX10_mutes_75 : decode cX10_mutes 75 = .ok (.istore 8, 2) := dk_54 8 (dk_at dksX10_mutes_3 4 rfl rfl)
theorem dX10_mutes_77 : decode cX10_mutes 77 = .ok (.iconst 0, 1) := dk_3 (dk_at dksX10_mutes_3 6 rfl rfl)
theorem dX10_mutes_78 : decode cX10_mutes 78 = .ok (.istore 9, 2) := dk_54 9 (dk_at dksX10_mutes_3 7 rfl rfl)
theorem dX10_mutes_80 : decode cX10_mutes 80 = .ok (.iload 9, 2) := dk_21 9 (dk_at dksX10_mutes_3 9 rfl rfl)
theorem dX10_mutes_82 : decode cX10_mutes 82 = .ok (.aload_n 0, 1) := dk_42 (dk_at dksX10_mutes_3 11 rfl rfl)
theorem dX10_mutes_83 : decode cX10_mutes 83 = .ok (.getfield 250, 3) := dk_180 0 250 (dk_at dksX10_mutes_3 12 rfl rfl)
theorem dX10_mutes_86 : decode cX10_mutes 86 = .ok (.if_icmp .ge 45, 3) := dk_162 0 45 (dk_at dksX10_mutes_3 15 rfl rfl)
theorem dX10_mutes_89 : decode cX10_mutes 89 = .ok (.aload_n 0, 1) := dk_42 (dk_at dksX10_mutes_3 18 rfl rfl)
theorem dX10_mutes_90 : decode cX10_mutes 90 = .ok (.iload_n 3, 1) := dk_29 (dk_at dksX10_mutes_3 19 rfl rfl)
theorem dX10_mutes_91 : decode cX10_mutes 91 = .ok (.iload 9, 2) := dk_21 9 (dk_at dksX10_mutes_3 20 rfl rfl)
theorem dX10_mutes_93 : decode cX10_mutes 93 = .ok (.invokevirtual 293, 3) := dk_182 1 37 (dk_at dksX10_mutes_4 0 rfl rfl)
theorem dX10_mutes_96 : decode cX10_mutes 96 = .ok (.ifCond .eq 29, 3) := dk_153 0 29 (dk_at dksX10_mutes_4 3 rfl rfl)
theorem dX10_mutes_99 : decode cX10_mutes 99 = .ok (.aload_n 0, 1) := dk_42 (dk_at dksX10_mutes_4 6 rfl rfl)
theorem dX10_mutes_100 : decode cX10_mutes 100 = .ok (.iload 4, 2) := dk_21 4 (dk_at dksX10_mutes_4 7 rfl rfl)
theorem dX10_mutes_102 : decode cX10_mutes 102 = .ok (.iload 9, 2) := dk_21 9 (dk_at dksX10_mutes_4 9 rfl rfl)
theorem dX10_mutes_104 : decode cX10_mutes 104 = .ok (.invokevirtual 293, 3) := dk_182 1 37 (dk_at dksX10_mutes_4 11 rfl rfl)
theorem dX10_mutes_107 : decode cX10_mutes 107 = .ok (.ifCond .eq 6, 3) := dk_153 0 6 (dk_at dksX10_mutes_4 14 rfl rfl)
theorem dX10_mutes_110 : decode cX10_mutes 110 = .ok (.goto 15, 3) := dk_167 0 15 (dk_at dksX10_mutes_4 17 rfl rfl)
theorem dX10_mutes_113 : decode cX10_mutes 113 = .ok (.aload_n 0, 1) := dk_42 (dk_at dksX10_mutes_4 20 rfl rfl)
theorem dX10_mutes_114 : decode cX10_mutes 114 = .ok (.getfield 46, 3) := dk_180 0 46 (dk_at dksX10_mutes_4 21 rfl rfl)
theorem dX10_mutes_117 : decode cX10_mutes 117 = .ok (.iload 9, 2) := dk_21 9 (dk_at dksX10_mutes_5 0 rfl rfl)
theorem dX10_mutes_119 : decode cX10_mutes 119 = .ok (.iload 6, 2) := dk_21 6 (dk_at dksX10_mutes_5 2 rfl rfl)
theorem dX10_mutes_121 : decode cX10_mutes 121 = .ok (.iastore, 1) := dk_79 (dk_at dksX10_mutes_5 4 rfl rfl)
theorem dX10_mutes_122 : decode cX10_mutes 122 = .ok (.iconst 1, 1) := dk_4 (dk_at dksX10_mutes_5 5 rfl rfl)
theorem dX10_mutes_123 : decode cX10_mutes 123 = .ok (.istore 8, 2) := dk_54 8 (dk_at dksX10_mutes_5 6 rfl rfl)
theorem dX10_mutes_125 : decode cX10_mutes 125 = .ok (.iinc 9 1, 3) := dk_132 9 1 (dk_at dksX10_mutes_5 8 rfl rfl)
theorem dX10_mutes_128 : decode cX10_mutes 128 = .ok (.goto (-48), 3) := dk_167 255 208 (dk_at dksX10_mutes_5 11 rfl rfl)
theorem dX10_mutes_131 : decode cX10_mutes 131 = .ok (.iload 8, 2) := dk_21 8 (dk_at dksX10_mutes_5 14 rfl rfl)
theorem dX10_mutes_133 : decode cX10_mutes 133 = .ok (.ifCond .eq 7, 3) := dk_153 0 7 (dk_at dksX10_mutes_5 16 rfl rfl)
theorem dX10_mutes_136 : decode cX10_mutes 136 = .ok (.iconst 0, 1) := dk_3 (dk_at dksX10_mutes_5 19 rfl rfl)
theorem dX10_mutes_137 : decode cX10_mutes 137 = .ok (.goto 7, 3) := dk_167 0 7 (dk_at dksX10_mutes_5 20 rfl rfl)
theorem dX10_mutes_140 : decode cX10_mutes 140 = .ok (.iload 5, 2) := dk_21 5 (dk_at dksX10_mutes_6 0 rfl rfl)
theorem dX10_mutes_142 : decode cX10_mutes 142 = .ok (.iconst 1, 1) := dk_4 (dk_at dksX10_mutes_6 2 rfl rfl)
theorem dX10_mutes_143 : decode cX10_mutes 143 = .ok (.iadd, 1) := dk_96 (dk_at dksX10_mutes_6 3 rfl rfl)
theorem dX10_mutes_144 : decode cX10_mutes 144 = .ok (.istore 5, 2) := dk_54 5 (dk_at dksX10_mutes_6 4 rfl rfl)
theorem dX10_mutes_146 : decode cX10_mutes 146 = .ok (.iload_n 3, 1) := dk_29 (dk_at dksX10_mutes_6 6 rfl rfl)
theorem dX10_mutes_147 : decode cX10_mutes 147 = .ok (.istore 9, 2) := dk_54 9 (dk_at dksX10_mutes_6 7 rfl rfl)
theorem dX10_mutes_149 : decode cX10_mutes 149 = .ok (.iload 4, 2) := dk_21 4 (dk_at dksX10_mutes_6 9 rfl rfl)
theorem dX10_mutes_151 : decode cX10_mutes 151 = .ok (.istore_n 3, 1) := dk_62 (dk_at dksX10_mutes_6 11 rfl rfl)
theorem dX10_mutes_152 : decode cX10_mutes 152 = .ok (.iload 9, 2) := dk_21 9 (dk_at dksX10_mutes_6 12 rfl rfl)
theorem dX10_mutes_154 : decode cX10_mutes 154 = .ok (.istore 4, 2) := dk_54 4 (dk_at dksX10_mutes_6 14 rfl rfl)
theorem dX10_mutes_156 : decode cX10_mutes 156 = .ok (.iinc 6 1, 3) := dk_132 6 1 (dk_at dksX10_mutes_6 16 rfl rfl)
theorem dX10_mutes_159 : decode cX10_mutes 159 = .ok (.goto (-115), 3) := dk_167 255 141 (dk_at dksX10_mutes_6 19 rfl rfl)
theorem dX10_mutes_162 : decode cX10_mutes 162 = .ok (.aload_n 0, 1) := dk_42 (dk_at dksX10_mutes_6 22 rfl rfl)
theorem dX10_mutes_163 : decode cX10_mutes 163 = .ok (.iload_n 3, 1) := dk_29 (dk_at dksX10_mutes_6 23 rfl rfl)
theorem dX10_mutes_164 : decode cX10_mutes 164 = .ok (.invokevirtual 333, 3) := dk_182 1 77 (dk_at dksX10_mutes_7 0 rfl rfl)
theorem dX10_mutes_167 : decode cX10_mutes 167 = .ok (.ireturn, 1) := dk_172 (dk_at dksX10_mutes_7 3 rfl rfl)
abbrev cX10_laysAnswers : ByteArray := prog_33_method_77_code
def yX10_laysAnswers : MethodName := ⟨RX10, "laysAnswers", "(IIZI)V"⟩
def dkwX10_laysAnswers_2 : List UInt8 := [4, 167, 0, 4, 3, 182, 1, 33, 132, 5, 1, 167, 255, 209, 177]
abbrev dktX10_laysAnswers_2 : List UInt8 := dkwX10_laysAnswers_2 ++ []
def dkwX10_laysAnswers_1 : List UInt8 := [21, 5, 42, 28, 21, 5, 182, 1, 37, 153, 0, 19, 42, 21, 4, 21, 5, 182, 1, 37, 29, 160, 0, 7]
abbrev dktX10_laysAnswers_1 : List UInt8 := dkwX10_laysAnswers_1 ++ dktX10_laysAnswers_2
def dkwX10_laysAnswers_0 : List UInt8 := [42, 27, 28, 21, 4, 182, 1, 61, 3, 54, 5, 21, 5, 42, 180, 0, 250, 162, 0, 44, 42, 21, 4]
abbrev dktX10_laysAnswers_0 : List UInt8 := dkwX10_laysAnswers_0 ++ dktX10_laysAnswers_1
theorem dksX10_laysAnswers_0 : cX10_laysAnswers.data.toList.drop 0 = dktX10_laysAnswers_0 := by decide +kernel
theorem dksX10_laysAnswers_1 : cX10_laysAnswers.data.toList.drop 23 = dktX10_laysAnswers_1 := dk_seg dksX10_laysAnswers_0 23 rfl rfl
theorem dksX10_laysAnswers_2 : cX10_laysAnswers.data.toList.drop 47 = dktX10_laysAnswers_2 := dk_seg dksX10_laysAnswers_1 24 rfl rfl
theorem dX10_laysAnswers_0 : decode cX10_laysAnswers 0 = .ok (.aload_n 0, 1) := dk_42 (dk_at dksX10_laysAnswers_0 0 rfl rfl)
theorem dX10_laysAnswers_1 : decode cX10_laysAnswers 1 = .ok (.iload_n 1, 1) := dk_27 (dk_at dksX10_laysAnswers_0 1 rfl rfl)
theorem dX10_laysAnswers_2 : decode cX10_laysAnswers 2 = .ok (.iload_n 2, 1) := dk_28 (dk_at dksX10_laysAnswers_0 2 rfl rfl)
theorem dX10_laysAnswers_3 : decode cX10_laysAnswers 3 = .ok (.iload 4, 2) := dk_21 4 (dk_at dksX10_laysAnswers_0 3 rfl rfl)
theorem dX10_laysAnswers_5 : decode cX10_laysAnswers 5 = .ok (.invokevirtual 317, 3) := dk_182 1 61 (dk_at dksX10_laysAnswers_0 5 rfl rfl)
theorem dX10_laysAnswers_8 : decode cX10_laysAnswers 8 = .ok (.iconst 0, 1) := dk_3 (dk_at dksX10_laysAnswers_0 8 rfl rfl)
theorem dX10_laysAnswers_9 : decode cX10_laysAnswers 9 = .ok (.istore 5, 2) := dk_54 5 (dk_at dksX10_laysAnswers_0 9 rfl rfl)
theorem dX10_laysAnswers_11 : decode cX10_laysAnswers 11 = .ok (.iload 5, 2) := dk_21 5 (dk_at dksX10_laysAnswers_0 11 rfl rfl)
theorem dX10_laysAnswers_13 : decode cX10_laysAnswers 13 = .ok (.aload_n 0, 1) := dk_42 (dk_at dksX10_laysAnswers_0 13 rfl rfl)
theorem dX10_laysAnswers_14 : decode cX10_laysAnswers 14 = .ok (.getfield 250, 3) := dk_180 0 250 (dk_at dksX10_laysAnswers_0 14 rfl rfl)
theorem dX10_laysAnswers_17 : decode cX10_laysAnswers 17 = .ok (.if_icmp .ge 44, 3) := dk_162 0 44 (dk_at dksX10_laysAnswers_0 17 rfl rfl)
theorem dX10_laysAnswers_20 : decode cX10_laysAnswers 20 = .ok (.aload_n 0, 1) := dk_42 (dk_at dksX10_laysAnswers_0 20 rfl rfl)
theorem dX10_laysAnswers_21 : decode cX10_laysAnswers 21 = .ok (.iload 4, 2) := dk_21 4 (dk_at dksX10_laysAnswers_0 21 rfl rfl)
theorem dX10_laysAnswers_23 : decode cX10_laysAnswers 23 = .ok (.iload 5, 2) := dk_21 5 (dk_at dksX10_laysAnswers_1 0 rfl rfl)
theorem dX10_laysAnswers_25 : decode cX10_laysAnswers 25 = .ok (.aload_n 0, 1) := dk_42 (dk_at dksX10_laysAnswers_1 2 rfl rfl)
theorem dX10_laysAnswers_26 : decode cX10_laysAnswers 26 = .ok (.iload_n 2, 1) := dk_28 (dk_at dksX10_laysAnswers_1 3 rfl rfl)
theorem dX10_laysAnswers_27 : decode cX10_laysAnswers 27 = .ok (.iload 5, 2) := dk_21 5 (dk_at dksX10_laysAnswers_1 4 rfl rfl)
theorem dX10_laysAnswers_29 : decode cX10_laysAnswers 29 = .ok (.invokevirtual 293, 3) := dk_182 1 37 (dk_at dksX10_laysAnswers_1 6 rfl rfl)
theorem dX10_laysAnswers_32 : decode cX10_laysAnswers 32 = .ok (.ifCond .eq 19, 3) := dk_153 0 19 (dk_at dksX10_laysAnswers_1 9 rfl rfl)
theorem dX10_laysAnswers_35 : decode cX10_laysAnswers 35 = .ok (.aload_n 0, 1) := dk_42 (dk_at dksX10_laysAnswers_1 12 rfl rfl)
theorem dX10_laysAnswers_36 : decode cX10_laysAnswers 36 = .ok (.iload 4, 2) := dk_21 4 (dk_at dksX10_laysAnswers_1 13 rfl rfl)
theorem dX10_laysAnswers_38 : decode cX10_laysAnswers 38 = .ok (.iload 5, 2) := dk_21 5 (dk_at dksX10_laysAnswers_1 15 rfl rfl)
theorem dX10_laysAnswers_40 : decode cX10_laysAnswers 40 = .ok (.invokevirtual 293, 3) := dk_182 1 37 (dk_at dksX10_laysAnswers_1 17 rfl rfl)
theorem dX10_laysAnswers_43 : decode cX10_laysAnswers 43 = .ok (.iload_n 3, 1) := dk_29 (dk_at dksX10_laysAnswers_1 20 rfl rfl)
theorem dX10_laysAnswers_44 : decode cX10_laysAnswers 44 = .ok (.if_icmp .ne 7, 3) := dk_160 0 7 (dk_at dksX10_laysAnswers_1 21 rfl rfl)
theorem dX10_laysAnswers_47 : decode cX10_laysAnswers 47 = .ok (.iconst 1, 1) := dk_4 (dk_at dksX10_laysAnswers_2 0 rfl rfl)
theorem dX10_laysAnswers_48 : decode cX10_laysAnswers 48 = .ok (.goto 4, 3) := dk_167 0 4 (dk_at dksX10_laysAnswers_2 1 rfl rfl)
theorem dX10_laysAnswers_51 : decode cX10_laysAnswers 51 = .ok (.iconst 0, 1) := dk_3 (dk_at dksX10_laysAnswers_2 4 rfl rfl)
theorem dX10_laysAnswers_52 : decode cX10_laysAnswers 52 = .ok (.invokevirtual 289, 3) := dk_182 1 33 (dk_at dksX10_laysAnswers_2 5 rfl rfl)
theorem dX10_laysAnswers_55 : decode cX10_laysAnswers 55 = .ok (.iinc 5 1, 3) := dk_132 5 1 (dk_at dksX10_laysAnswers_2 8 rfl rfl)
theorem dX10_laysAnswers_58 : decode cX10_laysAnswers 58 = .ok (.goto (-47), 3) := dk_167 255 209 (dk_at dksX10_laysAnswers_2 11 rfl rfl)
theorem dX10_laysAnswers_61 : decode cX10_laysAnswers 61 = .ok (.return_, 1) := dk_177 (dk_at dksX10_laysAnswers_2 14 rfl rfl)
abbrev cX10_when : ByteArray := prog_33_method_81_code
def yX10_when : MethodName := ⟨RX10, "when", "(III)I"⟩
def dkwX10_when_1 : List UInt8 := [180, 0, 71, 158, 0, 5, 3, 172, 42, 27, 28, 182, 1, 107, 87, 42, 180, 0, 46, 29, 46, 172]
abbrev dktX10_when_1 : List UInt8 := dkwX10_when_1 ++ []
def dkwX10_when_0 : List UInt8 := [42, 42, 27, 28, 182, 1, 104, 181, 0, 71, 42, 29, 182, 1, 0, 154, 0, 8, 42, 4, 181, 0, 71, 42]
abbrev dktX10_when_0 : List UInt8 := dkwX10_when_0 ++ dktX10_when_1
theorem dksX10_when_0 : cX10_when.data.toList.drop 0 = dktX10_when_0 := by decide +kernel
theorem dksX10_when_1 : cX10_when.data.toList.drop 24 = dktX10_when_1 := dk_seg dksX10_when_0 24 rfl rfl
theorem dX10_when_0 : decode cX10_when 0 = .ok (.aload_n 0, 1) := dk_42 (dk_at dksX10_when_0 0 rfl rfl)
theorem dX10_when_1 : decode cX10_when 1 = .ok (.aload_n 0, 1) := dk_42 (dk_at dksX10_when_0 1 rfl rfl)
theorem dX10_when_2 : decode cX10_when 2 = .ok (.iload_n 1, 1) := dk_27 (dk_at dksX10_when_0 2 rfl rfl)
theorem dX10_when_3 : decode cX10_when 3 = .ok (.iload_n 2, 1) := dk_28 (dk_at dksX10_when_0 3 rfl rfl)
theorem dX10_when_4 : decode cX10_when 4 = .ok (.invokevirtual 360, 3) := dk_182 1 104 (dk_at dksX10_when_0 4 rfl rfl)
theorem dX10_when_7 : decode cX10_when 7 = .ok (.putfield 71, 3) := dk_181 0 71 (dk_at dksX10_when_0 7 rfl rfl)
theorem dX10_when_10 : decode cX10_when 10 = .ok (.aload_n 0, 1) := dk_42 (dk_at dksX10_when_0 10 rfl rfl)
theorem dX10_when_11 : decode cX10_when 11 = .ok (.iload_n 3, 1) := dk_29 (dk_at dksX10_when_0 11 rfl rfl)
theorem dX10_when_12 : decode cX10_when 12 = .ok (.invokevirtual 256, 3) := dk_182 1 0 (dk_at dksX10_when_0 12 rfl rfl)
theorem dX10_when_15 : decode cX10_when 15 = .ok (.ifCond .ne 8, 3) := dk_154 0 8 (dk_at dksX10_when_0 15 rfl rfl)
theorem dX10_when_18 : decode cX10_when 18 = .ok (.aload_n 0, 1) := dk_42 (dk_at dksX10_when_0 18 rfl rfl)
theorem dX10_when_19 : decode cX10_when 19 = .ok (.iconst 1, 1) := dk_4 (dk_at dksX10_when_0 19 rfl rfl)
theorem dX10_when_20 : decode cX10_when 20 = .ok (.putfield 71, 3) := dk_181 0 71 (dk_at dksX10_when_0 20 rfl rfl)
theorem dX10_when_23 : decode cX10_when 23 = .ok (.aload_n 0, 1) := dk_42 (dk_at dksX10_when_0 23 rfl rfl)
theorem dX10_when_24 : decode cX10_when 24 = .ok (.getfield 71, 3) := dk_180 0 71 (dk_at dksX10_when_1 0 rfl rfl)
theorem dX10_when_27 : decode cX10_when 27 = .ok (.ifCond .le 5, 3) := dk_158 0 5 (dk_at dksX10_when_1 3 rfl rfl)
theorem dX10_when_30 : decode cX10_when 30 = .ok (.iconst 0, 1) := dk_3 (dk_at dksX10_when_1 6 rfl rfl)
theorem dX10_when_31 : decode cX10_when 31 = .ok (.ireturn, 1) := dk_172 (dk_at dksX10_when_1 7 rfl rfl)
theorem dX10_when_32 : decode cX10_when 32 = .ok (.aload_n 0, 1) := dk_42 (dk_at dksX10_when_1 8 rfl rfl)
theorem dX10_when_33 : decode cX10_when 33 = .ok (.iload_n 1, 1) := dk_27 (dk_at dksX10_when_1 9 rfl rfl)
theorem dX10_when_34 : decode cX10_when 34 = .ok (.iload_n 2, 1) := dk_28 (dk_at dksX10_when_1 10 rfl rfl)
theorem dX10_when_35 : decode cX10_when 35 = .ok (.invokevirtual 363, 3) := dk_182 1 107 (dk_at dksX10_when_1 11 rfl rfl)
theorem dX10_when_38 : decode cX10_when 38 = .ok (.pop, 1) := dk_87 (dk_at dksX10_when_1 14 rfl rfl)
theorem dX10_when_39 : decode cX10_when 39 = .ok (.aload_n 0, 1) := dk_42 (dk_at dksX10_when_1 15 rfl rfl)
theorem dX10_when_40 : decode cX10_when 40 = .ok (.getfield 46, 3) := dk_180 0 46 (dk_at dksX10_when_1 16 rfl rfl)
theorem dX10_when_43 : decode cX10_when 43 = .ok (.iload_n 3, 1) := dk_29 (dk_at dksX10_when_1 19 rfl rfl)
theorem dX10_when_44 : decode cX10_when 44 = .ok (.iaload, 1) := dk_46 (dk_at dksX10_when_1 20 rfl rfl)
theorem dX10_when_45 : decode cX10_when 45 = .ok (.ireturn, 1) := dk_172 (dk_at dksX10_when_1 21 rfl rfl)
abbrev cX10_longest : ByteArray := prog_33_method_82_code
def yX10_longest : MethodName := ⟨RX10, "longest", "(III)I"⟩
def dkwX10_longest_5 : List UInt8 := [180, 0, 46, 21, 4, 46, 167, 0, 5, 21, 4, 172]
abbrev dktX10_longest_5 : List UInt8 := dkwX10_longest_5 ++ []
def dkwX10_longest_4 : List UInt8 := [164, 0, 7, 21, 5, 54, 4, 132, 5, 1, 167, 255, 206, 29, 154, 0, 19, 21, 4, 2, 159, 0, 13, 42]
abbrev dktX10_longest_4 : List UInt8 := dkwX10_longest_4 ++ dktX10_longest_5
def dkwX10_longest_3 : List UInt8 := [159, 0, 30, 21, 4, 2, 159, 0, 20, 42, 180, 0, 46, 21, 5, 46, 42, 180, 0, 46, 21, 4, 46]
abbrev dktX10_longest_3 : List UInt8 := dkwX10_longest_3 ++ dktX10_longest_4
def dkwX10_longest_2 : List UInt8 := [2, 54, 4, 3, 54, 5, 21, 5, 42, 180, 0, 250, 162, 0, 47, 42, 180, 0, 46, 21, 5, 46, 2]
abbrev dktX10_longest_2 : List UInt8 := dkwX10_longest_2 ++ dktX10_longest_3
def dkwX10_longest_1 : List UInt8 := [154, 0, 8, 42, 5, 181, 0, 71, 42, 180, 0, 71, 158, 0, 5, 3, 172, 42, 27, 28, 182, 1, 107, 87]
abbrev dktX10_longest_1 : List UInt8 := dkwX10_longest_1 ++ dktX10_longest_2
def dkwX10_longest_0 : List UInt8 := [42, 42, 27, 28, 182, 1, 104, 181, 0, 71, 42, 180, 0, 71, 154, 0, 18, 29, 133, 9, 10, 184, 0, 133]
abbrev dktX10_longest_0 : List UInt8 := dkwX10_longest_0 ++ dktX10_longest_1
theorem dksX10_longest_0 : cX10_longest.data.toList.drop 0 = dktX10_longest_0 := by decide +kernel
theorem dksX10_longest_1 : cX10_longest.data.toList.drop 24 = dktX10_longest_1 := dk_seg dksX10_longest_0 24 rfl rfl
theorem dksX10_longest_2 : cX10_longest.data.toList.drop 48 = dktX10_longest_2 := dk_seg dksX10_longest_1 24 rfl rfl
theorem dksX10_longest_3 : cX10_longest.data.toList.drop 71 = dktX10_longest_3 := dk_seg dksX10_longest_2 23 rfl rfl
theorem dksX10_longest_4 : cX10_longest.data.toList.drop 94 = dktX10_longest_4 := dk_seg dksX10_longest_3 23 rfl rfl
theorem dksX10_longest_5 : cX10_longest.data.toList.drop 118 = dktX10_longest_5 := dk_seg dksX10_longest_4 24 rfl rfl
theorem dX10_longest_0 : decode cX10_longest 0 = .ok (.aload_n 0, 1) := dk_42 (dk_at dksX10_longest_0 0 rfl rfl)
theorem dX10_longest_1 : decode cX10_longest 1 = .ok (.aload_n 0, 1) := dk_42 (dk_at dksX10_longest_0 1 rfl rfl)
theorem dX10_longest_2 : decode cX10_longest 2 = .ok (.iload_n 1, 1) := dk_27 (dk_at dksX10_longest_0 2 rfl rfl)
theorem dX10_longest_3 : decode cX10_longest 3 = .ok (.iload_n 2, 1) := dk_28 (dk_at dksX10_longest_0 3 rfl rfl)
theorem dX10_longest_4 : decode cX10_longest 4 = .ok (.invokevirtual 360, 3) := dk_182 1 104 (dk_at dksX10_longest_0 4 rfl rfl)
theorem dX10_longest_7 : decode cX10_longest 7 = .ok (.putfield 71, 3) := dk_181 0 71 (dk_at dksX10_longest_0 7 rfl rfl)
theorem dX10_longest_10 : decode cX10_longest 10 = .ok (.aload_n 0, 1) := dk_42 (dk_at dksX10_longest_0 10 rfl rfl)
theorem dX10_longest_11 : decode cX10_longest 11 = .ok (.getfield 71, 3) := dk_180 0 71 (dk_at dksX10_longest_0 11 rfl rfl)
theorem dX10_longest_14 : decode cX10_longest 14 = .ok (.ifCond .ne 18, 3) := dk_154 0 18 (dk_at dksX10_longest_0 14 rfl rfl)
theorem dX10_longest_17 : decode cX10_longest 17 = .ok (.iload_n 3, 1) := dk_29 (dk_at dksX10_longest_0 17 rfl rfl)
theorem dX10_longest_18 : decode cX10_longest 18 = .ok (.i2l, 1) := dk_133 (dk_at dksX10_longest_0 18 rfl rfl)
theorem dX10_longest_19 : decode cX10_longest 19 = .ok (.lconst 0, 1) := dk_9 (dk_at dksX10_longest_0 19 rfl rfl)
theorem dX10_longest_20 : decode cX10_longest 20 = .ok (.lconst 1, 1) := dk_10 (dk_at dksX10_longest_0 20 rfl rfl)
theorem dX10_longest_21 : decode cX10_longest 21 = .ok (.invokestatic 133, 3) := dk_184 0 133 (dk_at dksX10_longest_0 21 rfl rfl)
theorem dX10_longest_24 : decode cX10_longest 24 = .ok (.ifCond .ne 8, 3) := dk_154 0 8 (dk_at dksX10_longest_1 0 rfl rfl)
theorem dX10_longest_27 : decode cX10_longest 27 = .ok (.aload_n 0, 1) := dk_42 (dk_at dksX10_longest_1 3 rfl rfl)
theorem dX10_longest_28 : decode cX10_longest 28 = .ok (.iconst 2, 1) := dk_5 (dk_at dksX10_longest_1 4 rfl rfl)
theorem dX10_longest_29 : decode cX10_longest 29 = .ok (.putfield 71, 3) := dk_181 0 71 (dk_at dksX10_longest_1 5 rfl rfl)
theorem dX10_longest_32 : decode cX10_longest 32 = .ok (.aload_n 0, 1) := dk_42 (dk_at dksX10_longest_1 8 rfl rfl)
theorem dX10_longest_33 : decode cX10_longest 33 = .ok (.getfield 71, 3) := dk_180 0 71 (dk_at dksX10_longest_1 9 rfl rfl)
theorem dX10_longest_36 : decode cX10_longest 36 = .ok (.ifCond .le 5, 3) := dk_158 0 5 (dk_at dksX10_longest_1 12 rfl rfl)
theorem dX10_longest_39 : decode cX10_longest 39 = .ok (.iconst 0, 1) := dk_3 (dk_at dksX10_longest_1 15 rfl rfl)
theorem dX10_longest_40 : decode cX10_longest 40 = .ok (.ireturn, 1) := dk_172 (dk_at dksX10_longest_1 16 rfl rfl)
theorem dX10_longest_41 : decode cX10_longest 41 = .ok (.aload_n 0, 1) := dk_42 (dk_at dksX10_longest_1 17 rfl rfl)
theorem dX10_longest_42 : decode cX10_longest 42 = .ok (.iload_n 1, 1) := dk_27 (dk_at dksX10_longest_1 18 rfl rfl)
theorem dX10_longest_43 : decode cX10_longest 43 = .ok (.iload_n 2, 1) := dk_28 (dk_at dksX10_longest_1 19 rfl rfl)
theorem dX10_longest_44 : decode cX10_longest 44 = .ok (.invokevirtual 363, 3) := dk_182 1 107 (dk_at dksX10_longest_1 20 rfl rfl)
theorem dX10_longest_47 : decode cX10_longest 47 = .ok (.pop, 1) := dk_87 (dk_at dksX10_longest_1 23 rfl rfl)
theorem dX10_longest_48 : decode cX10_longest 48 = .ok (.iconst (-1), 1) := dk_2 (dk_at dksX10_longest_2 0 rfl rfl)
theorem dX10_longest_49 : decode cX10_longest 49 = .ok (.istore 4, 2) := dk_54 4 (dk_at dksX10_longest_2 1 rfl rfl)
theorem dX10_longest_51 : decode cX10_longest 51 = .ok (.iconst 0, 1) := dk_3 (dk_at dksX10_longest_2 3 rfl rfl)
theorem dX10_longest_52 : decode cX10_longest 52 = .ok (.istore 5, 2) := dk_54 5 (dk_at dksX10_longest_2 4 rfl rfl)
theorem dX10_longest_54 : decode cX10_longest 54 = .ok (.iload 5, 2) := dk_21 5 (dk_at dksX10_longest_2 6 rfl rfl)
theorem dX10_longest_56 : decode cX10_longest 56 = .ok (.aload_n 0, 1) := dk_42 (dk_at dksX10_longest_2 8 rfl rfl)
theorem dX10_longest_57 : decode cX10_longest 57 = .ok (.getfield 250, 3) := dk_180 0 250 (dk_at dksX10_longest_2 9 rfl rfl)
theorem dX10_longest_60 : decode cX10_longest 60 = .ok (.if_icmp .ge 47, 3) := dk_162 0 47 (dk_at dksX10_longest_2 12 rfl rfl)
theorem dX10_longest_63 : decode cX10_longest 63 = .ok (.aload_n 0, 1) := dk_42 (dk_at dksX10_longest_2 15 rfl rfl)
theorem dX10_longest_64 : decode cX10_longest 64 = .ok (.getfield 46, 3) := dk_180 0 46 (dk_at dksX10_longest_2 16 rfl rfl)
theorem dX10_longest_67 : decode cX10_longest 67 = .ok (.iload 5, 2) := dk_21 5 (dk_at dksX10_longest_2 19 rfl rfl)
theorem dX10_longest_69 : decode cX10_longest 69 = .ok (.iaload, 1) := dk_46 (dk_at dksX10_longest_2 21 rfl rfl)
theorem dX10_longest_70 : decode cX10_longest 70 = .ok (.iconst (-1), 1) := dk_2 (dk_at dksX10_longest_2 22 rfl rfl)
theorem dX10_longest_71 : decode cX10_longest 71 = .ok (.if_icmp .eq 30, 3) := dk_159 0 30 (dk_at dksX10_longest_3 0 rfl rfl)
theorem dX10_longest_74 : decode cX10_longest 74 = .ok (.iload 4, 2) := dk_21 4 (dk_at dksX10_longest_3 3 rfl rfl)
theorem dX10_longest_76 : decode cX10_longest 76 = .ok (.iconst (-1), 1) := dk_2 (dk_at dksX10_longest_3 5 rfl rfl)
theorem dX10_longest_77 : decode cX10_longest 77 = .ok (.if_icmp .eq 20, 3) := dk_159 0 20 (dk_at dksX10_longest_3 6 rfl rfl)
theorem dX10_longest_80 : decode cX10_longest 80 = .ok (.aload_n 0, 1) := dk_42 (dk_at dksX10_longest_3 9 rfl rfl)
theorem dX10_longest_81 : decode cX10_longest 81 = .ok (.getfield 46, 3) := dk_180 0 46 (dk_at dksX10_longest_3 10 rfl rfl)
theorem dX10_longest_84 : decode cX10_longest 84 = .ok (.iload 5, 2) := dk_21 5 (dk_at dksX10_longest_3 13 rfl rfl)
theorem dX10_longest_86 : decode cX10_longest 86 = .ok (.iaload, 1) := dk_46 (dk_at dksX10_longest_3 15 rfl rfl)
theorem dX10_longest_87 : decode cX10_longest 87 = .ok (.aload_n 0, 1) := dk_42 (dk_at dksX10_longest_3 16 rfl rfl)
theorem dX10_longest_88 : decode cX10_longest 88 = .ok (.getfield 46, 3) := dk_180 0 46 (dk_at dksX10_longest_3 17 rfl rfl)
theorem dX10_longest_91 : decode cX10_longest 91 = .ok (.iload 4, 2) := dk_21 4 (dk_at dksX10_longest_3 20 rfl rfl)
theorem dX10_longest_93 : decode cX10_longest 93 = .ok (.iaload, 1) := dk_46 (dk_at dksX10_longest_3 22 rfl rfl)
theorem dX10_longest_94 : decode cX10_longest 94 = .ok (.if_icmp .le 7, 3) := dk_164 0 7 (dk_at dksX10_longest_4 0 rfl rfl)
theorem dX10_longest_97 : decode cX10_longest 97 = .ok (.iload 5, 2) := dk_21 5 (dk_at dksX10_longest_4 3 rfl rfl)
theorem dX10_longest_99 : decode cX10_longest 99 = .ok (.istore 4, 2) := dk_54 4 (dk_at dksX10_longest_4 5 rfl rfl)
theorem dX10_longest_101 : decode cX10_longest 101 = .ok (.iinc 5 1, 3) := dk_132 5 1 (dk_at dksX10_longest_4 7 rfl rfl)
theorem dX10_longest_104 : decode cX10_longest 104 = .ok (.goto (-50), 3) := dk_167 255 206 (dk_at dksX10_longest_4 10 rfl rfl)
theorem dX10_longest_107 : decode cX10_longest 107 = .ok (.iload_n 3, 1) := dk_29 (dk_at dksX10_longest_4 13 rfl rfl)
theorem dX10_longest_108 : decode cX10_longest 108 = .ok (.ifCond .ne 19, 3) := dk_154 0 19 (dk_at dksX10_longest_4 14 rfl rfl)
theorem dX10_longest_111 : decode cX10_longest 111 = .ok (.iload 4, 2) := dk_21 4 (dk_at dksX10_longest_4 17 rfl rfl)
theorem dX10_longest_113 : decode cX10_longest 113 = .ok (.iconst (-1), 1) := dk_2 (dk_at dksX10_longest_4 19 rfl rfl)
theorem dX10_longest_114 : decode cX10_longest 114 = .ok (.if_icmp .eq 13, 3) := dk_159 0 13 (dk_at dksX10_longest_4 20 rfl rfl)
theorem dX10_longest_117 : decode cX10_longest 117 = .ok (.aload_n 0, 1) := dk_42 (dk_at dksX10_longest_4 23 rfl rfl)
theorem dX10_longest_118 : decode cX10_longest 118 = .ok (.getfield 46, 3) := dk_180 0 46 (dk_at dksX10_longest_5 0 rfl rfl)
theorem dX10_longest_121 : decode cX10_longest 121 = .ok (.iload 4, 2) := dk_21 4 (dk_at dksX10_longest_5 3 rfl rfl)
theorem dX10_longest_123 : decode cX10_longest 123 = .ok (.iaload, 1) := dk_46 (dk_at dksX10_longest_5 5 rfl rfl)
theorem dX10_longest_124 : decode cX10_longest 124 = .ok (.goto 5, 3) := dk_167 0 5 (dk_at dksX10_longest_5 6 rfl rfl)
theorem dX10_longest_127 : decode cX10_longest 127 = .ok (.iload 4, 2) := dk_21 4 (dk_at dksX10_longest_5 9 rfl rfl)
theorem dX10_longest_129 : decode cX10_longest 129 = .ok (.ireturn, 1) := dk_172 (dk_at dksX10_longest_5 11 rfl rfl)
abbrev cX10_soonest : ByteArray := prog_33_method_88_code
def yX10_soonest : MethodName := ⟨RX10, "soonest", "(IIII)I"⟩
def dkwX10_soonest_5 : List UInt8 := [2, 172]
abbrev dktX10_soonest_5 : List UInt8 := dkwX10_soonest_5 ++ []
def dkwX10_soonest_4 : List UInt8 := [184, 0, 133, 153, 0, 13, 42, 180, 0, 49, 21, 4, 46, 167, 0, 4, 2, 172, 132, 5, 1, 167, 255, 196]
abbrev dktX10_soonest_4 : List UInt8 := dkwX10_soonest_4 ++ dktX10_soonest_5
def dkwX10_soonest_3 : List UInt8 := [153, 0, 41, 21, 4, 2, 160, 0, 8, 21, 5, 167, 0, 29, 21, 4, 133, 9, 21, 5, 4, 100, 133]
abbrev dktX10_soonest_3 : List UInt8 := dkwX10_soonest_3 ++ dktX10_soonest_4
def dkwX10_soonest_2 : List UInt8 := [3, 4, 182, 1, 67, 3, 54, 5, 21, 5, 8, 163, 0, 60, 42, 27, 28, 29, 3, 21, 5, 182, 1, 120]
abbrev dktX10_soonest_2 : List UInt8 := dkwX10_soonest_2 ++ dktX10_soonest_3
def dkwX10_soonest_1 : List UInt8 := [182, 1, 124, 153, 0, 7, 3, 167, 0, 4, 5, 181, 0, 71, 42, 180, 0, 71, 158, 0, 5, 3, 172, 42]
abbrev dktX10_soonest_1 : List UInt8 := dkwX10_soonest_1 ++ dktX10_soonest_2
def dkwX10_soonest_0 : List UInt8 := [42, 42, 27, 182, 1, 0, 154, 0, 7, 4, 167, 0, 24, 42, 28, 182, 1, 124, 153, 0, 15, 42, 29]
abbrev dktX10_soonest_0 : List UInt8 := dkwX10_soonest_0 ++ dktX10_soonest_1
theorem dksX10_soonest_0 : cX10_soonest.data.toList.drop 0 = dktX10_soonest_0 := by decide +kernel
theorem dksX10_soonest_1 : cX10_soonest.data.toList.drop 23 = dktX10_soonest_1 := dk_seg dksX10_soonest_0 23 rfl rfl
theorem dksX10_soonest_2 : cX10_soonest.data.toList.drop 47 = dktX10_soonest_2 := dk_seg dksX10_soonest_1 24 rfl rfl
theorem dksX10_soonest_3 : cX10_soonest.data.toList.drop 71 = dktX10_soonest_3 := dk_seg dksX10_soonest_2 24 rfl rfl
theorem dksX10_soonest_4 : cX10_soonest.data.toList.drop 94 = dktX10_soonest_4 := dk_seg dksX10_soonest_3 23 rfl rfl
theorem dksX10_soonest_5 : cX10_soonest.data.toList.drop 118 = dktX10_soonest_5 := dk_seg dksX10_soonest_4 24 rfl rfl
theorem dX10_soonest_0 : decode cX10_soonest 0 = .ok (.aload_n 0, 1) := dk_42 (dk_at dksX10_soonest_0 0 rfl rfl)
theorem dX10_soonest_1 : decode cX10_soonest 1 = .ok (.aload_n 0, 1) := dk_42 (dk_at dksX10_soonest_0 1 rfl rfl)
theorem dX10_soonest_2 : decode cX10_soonest 2 = .ok (.iload_n 1, 1) := dk_27 (dk_at dksX10_soonest_0 2 rfl rfl)
theorem dX10_soonest_3 : decode cX10_soonest 3 = .ok (.invokevirtual 256, 3) := dk_182 1 0 (dk_at dksX10_soonest_0 3 rfl rfl)
theorem dX10_soonest_6 : decode cX10_soonest 6 = .ok (.ifCond .ne 7, 3) := dk_154 0 7 (dk_at dksX10_soonest_0 6 rfl rfl)
theorem dX10_soonest_9 : decode cX10_soonest 9 = .ok (.iconst 1, 1) := dk_4 (dk_at dksX10_soonest_0 9 rfl rfl)
theorem dX10_soonest_10 : decode cX10_soonest 10 = .ok (.goto 24, 3) := dk_167 0 24 (dk_at dksX10_soonest_0 10 rfl rfl)
theorem dX10_soonest_13 : decode cX10_soonest 13 = .ok (.aload_n 0, 1) := dk_42 (dk_at dksX10_soonest_0 13 rfl rfl)
theorem dX10_soonest_14 : decode cX10_soonest 14 = .ok (.iload_n 2, 1) := dk_28 (dk_at dksX10_soonest_0 14 rfl rfl)
theorem dX10_soonest_15 : decode cX10_soonest 15 = .ok (.invokevirtual 380, 3) := dk_182 1 124 (dk_at dksX10_soonest_0 15 rfl rfl)
theorem dX10_soonest_18 : decode cX10_soonest 18 = .ok (.ifCond .eq 15, 3) := dk_153 0 15 (dk_at dksX10_soonest_0 18 rfl rfl)
theorem dX10_soonest_21 : decode cX10_soonest 21 = .ok (.aload_n 0, 1) := dk_42 (dk_at dksX10_soonest_0 21 rfl rfl)
theorem dX10_soonest_22 : decode cX10_soonest 22 = .ok (.iload_n 3, 1) := dk_29 (dk_at dksX10_soonest_0 22 rfl rfl)
theorem dX10_soonest_23 : decode cX10_soonest 23 = .ok (.invokevirtual 380, 3) := dk_182 1 124 (dk_at dksX10_soonest_1 0 rfl rfl)
theorem dX10_soonest_26 : decode cX10_soonest 26 = .ok (.ifCond .eq 7, 3) := dk_153 0 7 (dk_at dksX10_soonest_1 3 rfl rfl)
theorem dX10_soonest_29 : decode cX10_soonest 29 = .ok (.iconst 0, 1) := dk_3 (dk_at dksX10_soonest_1 6 rfl rfl)
theorem dX10_soonest_30 : decode cX10_soonest 30 = .ok (.goto 4, 3) := dk_167 0 4 (dk_at dksX10_soonest_1 7 rfl rfl)
theorem dX10_soonest_33 : decode cX10_soonest 33 = .ok (.iconst 2, 1) := dk_5 (dk_at dksX10_soonest_1 10 rfl rfl)
theorem dX10_soonest_34 : decode cX10_soonest 34 = .ok (.putfield 71, 3) := dk_181 0 71 (dk_at dksX10_soonest_1 11 rfl rfl)
theorem dX10_soonest_37 : decode cX10_soonest 37 = .ok (.aload_n 0, 1) := dk_42 (dk_at dksX10_soonest_1 14 rfl rfl)
theorem dX10_soonest_38 : decode cX10_soonest 38 = .ok (.getfield 71, 3) := dk_180 0 71 (dk_at dksX10_soonest_1 15 rfl rfl)
theorem dX10_soonest_41 : decode cX10_soonest 41 = .ok (.ifCond .le 5, 3) := dk_158 0 5 (dk_at dksX10_soonest_1 18 rfl rfl)
theorem dX10_soonest_44 : decode cX10_soonest 44 = .ok (.iconst 0, 1) := dk_3 (dk_at dksX10_soonest_1 21 rfl rfl)
theorem dX10_soonest_45 : decode cX10_soonest 45 = .ok (.ireturn, 1) := dk_172 (dk_at dksX10_soonest_1 22 rfl rfl)
theorem dX10_soonest_46 : decode cX10_soonest 46 = .ok (.aload_n 0, 1) := dk_42 (dk_at dksX10_soonest_1 23 rfl rfl)
theorem dX10_soonest_47 : decode cX10_soonest 47 = .ok (.iconst 0, 1) := dk_3 (dk_at dksX10_soonest_2 0 rfl rfl)
theorem dX10_soonest_48 : decode cX10_soonest 48 = .ok (.iconst 1, 1) := dk_4 (dk_at dksX10_soonest_2 1 rfl rfl)
theorem dX10_soonest_49 : decode cX10_soonest 49 = .ok (.invokevirtual 323, 3) := dk_182 1 67 (dk_at dksX10_soonest_2 2 rfl rfl)
theorem dX10_soonest_52 : decode cX10_soonest 52 = .ok (.iconst 0, 1) := dk_3 (dk_at dksX10_soonest_2 5 rfl rfl)
theorem dX10_soonest_53 : decode cX10_soonest 53 = .ok (.istore 5, 2) := dk_54 5 (dk_at dksX10_soonest_2 6 rfl rfl)
theorem dX10_soonest_55 : decode cX10_soonest 55 = .ok (.iload 5, 2) := dk_21 5 (dk_at dksX10_soonest_2 8 rfl rfl)
theorem dX10_soonest_57 : decode cX10_soonest 57 = .ok (.iconst 5, 1) := dk_8 (dk_at dksX10_soonest_2 10 rfl rfl)
theorem dX10_soonest_58 : decode cX10_soonest 58 = .ok (.if_icmp .gt 60, 3) := dk_163 0 60 (dk_at dksX10_soonest_2 11 rfl rfl)
theorem dX10_soonest_61 : decode cX10_soonest 61 = .ok (.aload_n 0, 1) := dk_42 (dk_at dksX10_soonest_2 14 rfl rfl)
theorem dX10_soonest_62 : decode cX10_soonest 62 = .ok (.iload_n 1, 1) := dk_27 (dk_at dksX10_soonest_2 15 rfl rfl)
theorem dX10_soonest_63 : decode cX10_soonest 63 = .ok (.iload_n 2, 1) := dk_28 (dk_at dksX10_soonest_2 16 rfl rfl)
theorem dX10_soonest_64 : decode cX10_soonest 64 = .ok (.iload_n 3, 1) := dk_29 (dk_at dksX10_soonest_2 17 rfl rfl)
theorem dX10_soonest_65 : decode cX10_soonest 65 = .ok (.iconst 0, 1) := dk_3 (dk_at dksX10_soonest_2 18 rfl rfl)
theorem dX10_soonest_66 : decode cX10_soonest 66 = .ok (.iload 5, 2) := dk_21 5 (dk_at dksX10_soonest_2 19 rfl rfl)
theorem dX10_soonest_68 : decode cX10_soonest 68 = .ok (.invokevirtual 376, 3) := dk_182 1 120 (dk_at dksX10_soonest_2 21 rfl rfl)
theorem dX10_soonest_71 : decode cX10_soonest 71 = .ok (.ifCond .eq 41, 3) := dk_153 0 41 (dk_at dksX10_soonest_3 0 rfl rfl)
theorem dX10_soonest_74 : decode cX10_soonest 74 = .ok (.iload 4, 2) := dk_21 4 (dk_at dksX10_soonest_3 3 rfl rfl)
theorem dX10_soonest_76 : decode cX10_soonest 76 = .ok (.iconst (-1), 1) := dk_2 (dk_at dksX10_soonest_3 5 rfl rfl)
theorem dX10_soonest_77 : decode cX10_soonest 77 = .ok (.if_icmp .ne 8, 3) := dk_160 0 8 (dk_at dksX10_soonest_3 6 rfl rfl)
theorem dX10_soonest_80 : decode cX10_soonest 80 = .ok (.iload 5, 2) := dk_21 5 (dk_at dksX10_soonest_3 9 rfl rfl)
theorem dX10_soonest_82 : decode cX10_soonest 82 = .ok (.goto 29, 3) := dk_167 0 29 (dk_at dksX10_soonest_3 11 rfl rfl)
theorem dX10_soonest_85 : decode cX10_soonest 85 = .ok (.iload 4, 2) := dk_21 4 (dk_at dksX10_soonest_3 14 rfl rfl)
theorem dX10_soonest_87 : decode cX10_soonest 87 = .ok (.i2l, 1) := dk_133 (dk_at dksX10_soonest_3 16 rfl rfl)
theorem dX10_soonest_88 : decode cX10_soonest 88 = .ok (.lconst 0, 1) := dk_9 (dk_at dksX10_soonest_3 17 rfl rfl)
theorem dX10_soonest_89 : decode cX10_soonest 89 = .ok (.iload 5, 2) := dk_21 5 (dk_at dksX10_soonest_3 18 rfl rfl)
theorem dX10_soonest_91 : decode cX10_soonest 91 = .ok (.iconst 1, 1) := dk_4 (dk_at dksX10_soonest_3 20 rfl rfl)
theorem dX10_soonest_92 : decode cX10_soonest 92 = .ok (.isub, 1) := dk_100 (dk_at dksX10_soonest_3 21 rfl rfl)
theorem dX10_soonest_93 : decode cX10_soonest 93 = .ok (.i2l, 1) := dk_133 (dk_at dksX10_soonest_3 22 rfl rfl)
theorem dX10_soonest_94 : decode cX10_soonest 94 = .ok (.invokestatic 133, 3) := dk_184 0 133 (dk_at dksX10_soonest_4 0 rfl rfl)
theorem dX10_soonest_97 : decode cX10_soonest 97 = .ok (.ifCond .eq 13, 3) := dk_153 0 13 (dk_at dksX10_soonest_4 3 rfl rfl)
theorem dX10_soonest_100 : decode cX10_soonest 100 = .ok (.aload_n 0, 1) := dk_42 (dk_at dksX10_soonest_4 6 rfl rfl)
theorem dX10_soonest_101 : decode cX10_soonest 101 = .ok (.getfield 49, 3) := dk_180 0 49 (dk_at dksX10_soonest_4 7 rfl rfl)
theorem dX10_soonest_104 : decode cX10_soonest 104 = .ok (.iload 4, 2) := dk_21 4 (dk_at dksX10_soonest_4 10 rfl rfl)
theorem dX10_soonest_106 : decode cX10_soonest 106 = .ok (.iaload, 1) := dk_46 (dk_at dksX10_soonest_4 12 rfl rfl)
theorem dX10_soonest_107 : decode cX10_soonest 107 = .ok (.goto 4, 3) := dk_167 0 4 (dk_at dksX10_soonest_4 13 rfl rfl)
theorem dX10_soonest_110 : decode cX10_soonest 110 = .ok (.iconst (-1), 1) := dk_2 (dk_at dksX10_soonest_4 16 rfl rfl)
theorem dX10_soonest_111 : decode cX10_soonest 111 = .ok (.ireturn, 1) := dk_172 (dk_at dksX10_soonest_4 17 rfl rfl)
theorem dX10_soonest_112 : decode cX10_soonest 112 = .ok (.iinc 5 1, 3) := dk_132 5 1 (dk_at dksX10_soonest_4 18 rfl rfl)
theorem dX10_soonest_115 : decode cX10_soonest 115 = .ok (.goto (-60), 3) := dk_167 255 196 (dk_at dksX10_soonest_4 21 rfl rfl)
theorem dX10_soonest_118 : decode cX10_soonest 118 = .ok (.iconst (-1), 1) := dk_2 (dk_at dksX10_soonest_5 0 rfl rfl)
theorem dX10_soonest_119 : decode cX10_soonest 119 = .ok (.ireturn, 1) := dk_172 (dk_at dksX10_soonest_5 1 rfl rfl)
abbrev cX10_areSpeakers : ByteArray := prog_33_method_87_code
def yX10_areSpeakers : MethodName := ⟨RX10, "areSpeakers", "(I)Z"⟩
def dkwX10_areSpeakers_0 : List UInt8 := [27, 133, 9, 4, 42, 180, 0, 9, 8, 46, 120, 4, 100, 133, 184, 0, 133, 172]
abbrev dktX10_areSpeakers_0 : List UInt8 := dkwX10_areSpeakers_0 ++ []
theorem dksX10_areSpeakers_0 : cX10_areSpeakers.data.toList.drop 0 = dktX10_areSpeakers_0 := by decide +kernel
theorem dX10_areSpeakers_0 : decode cX10_areSpeakers 0 = .ok (.iload_n 1, 1) := dk_27 (dk_at dksX10_areSpeakers_0 0 rfl rfl)
theorem dX10_areSpeakers_1 : decode cX10_areSpeakers 1 = .ok (.i2l, 1) := dk_133 (dk_at dksX10_areSpeakers_0 1 rfl rfl)
theorem dX10_areSpeakers_2 : decode cX10_areSpeakers 2 = .ok (.lconst 0, 1) := dk_9 (dk_at dksX10_areSpeakers_0 2 rfl rfl)
theorem dX10_areSpeakers_3 : decode cX10_areSpeakers 3 = .ok (.iconst 1, 1) := dk_4 (dk_at dksX10_areSpeakers_0 3 rfl rfl)
theorem dX10_areSpeakers_4 : decode cX10_areSpeakers 4 = .ok (.aload_n 0, 1) := dk_42 (dk_at dksX10_areSpeakers_0 4 rfl rfl)
theorem dX10_areSpeakers_5 : decode cX10_areSpeakers 5 = .ok (.getfield 9, 3) := dk_180 0 9 (dk_at dksX10_areSpeakers_0 5 rfl rfl)
theorem dX10_areSpeakers_8 : decode cX10_areSpeakers 8 = .ok (.iconst 5, 1) := dk_8 (dk_at dksX10_areSpeakers_0 8 rfl rfl)
theorem dX10_areSpeakers_9 : decode cX10_areSpeakers 9 = .ok (.iaload, 1) := dk_46 (dk_at dksX10_areSpeakers_0 9 rfl rfl)
theorem dX10_areSpeakers_10 : decode cX10_areSpeakers 10 = .ok (.ishl, 1) := dk_120 (dk_at dksX10_areSpeakers_0 10 rfl rfl)
theorem dX10_areSpeakers_11 : decode cX10_areSpeakers 11 = .ok (.iconst 1, 1) := dk_4 (dk_at dksX10_areSpeakers_0 11 rfl rfl)
theorem dX10_areSpeakers_12 : decode cX10_areSpeakers 12 = .ok (.isub, 1) := dk_100 (dk_at dksX10_areSpeakers_0 12 rfl rfl)
theorem dX10_areSpeakers_13 : decode cX10_areSpeakers 13 = .ok (.i2l, 1) := dk_133 (dk_at dksX10_areSpeakers_0 13 rfl rfl)
theorem dX10_areSpeakers_14 : decode cX10_areSpeakers 14 = .ok (.invokestatic 133, 3) := dk_184 0 133 (dk_at dksX10_areSpeakers_0 14 rfl rfl)
theorem dX10_areSpeakers_17 : decode cX10_areSpeakers 17 = .ok (.ireturn, 1) := dk_172 (dk_at dksX10_areSpeakers_0 17 rfl rfl)
abbrev cX10_soon : ByteArray := prog_33_method_86_code
def yX10_soon : MethodName := ⟨RX10, "soon", "(IIIII)Z"⟩
def dkwX10_soon_4 : List UInt8 := [167, 255, 192, 3, 172]
abbrev dktX10_soon_4 : List UInt8 := dkwX10_soon_4 ++ []
def dkwX10_soon_3 : List UInt8 := [42, 27, 28, 29, 21, 4, 4, 96, 21, 5, 4, 100, 182, 1, 120, 153, 0, 5, 4, 172, 132, 6, 1]
abbrev dktX10_soon_3 : List UInt8 := dkwX10_soon_3 ++ dktX10_soon_4
def dkwX10_soon_2 : List UInt8 := [21, 6, 21, 4, 27, 182, 1, 110, 21, 4, 4, 96, 182, 1, 100, 42, 180, 0, 49, 21, 4, 21, 6, 79]
abbrev dktX10_soon_2 : List UInt8 := dkwX10_soon_2 ++ dktX10_soon_3
def dkwX10_soon_1 : List UInt8 := [182, 1, 117, 172, 3, 54, 6, 21, 6, 42, 180, 0, 9, 8, 46, 162, 0, 59, 42, 21, 6, 21, 4, 42]
abbrev dktX10_soon_1 : List UInt8 := dkwX10_soon_1 ++ dktX10_soon_2
def dkwX10_soon_0 : List UInt8 := [42, 29, 21, 4, 27, 182, 1, 114, 154, 0, 5, 3, 172, 21, 5, 154, 0, 12, 42, 28, 21, 4, 27]
abbrev dktX10_soon_0 : List UInt8 := dkwX10_soon_0 ++ dktX10_soon_1
theorem dksX10_soon_0 : cX10_soon.data.toList.drop 0 = dktX10_soon_0 := by decide +kernel
theorem dksX10_soon_1 : cX10_soon.data.toList.drop 23 = dktX10_soon_1 := dk_seg dksX10_soon_0 23 rfl rfl
theorem dksX10_soon_2 : cX10_soon.data.toList.drop 47 = dktX10_soon_2 := dk_seg dksX10_soon_1 24 rfl rfl
theorem dksX10_soon_3 : cX10_soon.data.toList.drop 71 = dktX10_soon_3 := dk_seg dksX10_soon_2 24 rfl rfl
theorem dksX10_soon_4 : cX10_soon.data.toList.drop 94 = dktX10_soon_4 := dk_seg dksX10_soon_3 23 rfl rfl
theorem dX10_soon_0 : decode cX10_soon 0 = .ok (.aload_n 0, 1) := dk_42 (dk_at dksX10_soon_0 0 rfl rfl)
theorem dX10_soon_1 : decode cX10_soon 1 = .ok (.iload_n 3, 1) := dk_29 (dk_at dksX10_soon_0 1 rfl rfl)
theorem dX10_soon_2 : decode cX10_soon 2 = .ok (.iload 4, 2) := dk_21 4 (dk_at dksX10_soon_0 2 rfl rfl)
theorem dX10_soon_4 : decode cX10_soon 4 = .ok (.iload_n 1, 1) := dk_27 (dk_at dksX10_soon_0 4 rfl rfl)
theorem dX10_soon_5 : decode cX10_soon 5 = .ok (.invokevirtual 370, 3) := dk_182 1 114 (dk_at dksX10_soon_0 5 rfl rfl)
theorem dX10_soon_8 : decode cX10_soon 8 = .ok (.ifCond .ne 5, 3) := dk_154 0 5 (dk_at dksX10_soon_0 8 rfl rfl)
theorem dX10_soon_11 : decode cX10_soon 11 = .ok (.iconst 0, 1) := dk_3 (dk_at dksX10_soon_0 11 rfl rfl)
theorem dX10_soon_12 : decode cX10_soon 12 = .ok (.ireturn, 1) := dk_172 (dk_at dksX10_soon_0 12 rfl rfl)
theorem dX10_soon_13 : decode cX10_soon 13 = .ok (.iload 5, 2) := dk_21 5 (dk_at dksX10_soon_0 13 rfl rfl)
theorem dX10_soon_15 : decode cX10_soon 15 = .ok (.ifCond .ne 12, 3) := dk_154 0 12 (dk_at dksX10_soon_0 15 rfl rfl)
theorem dX10_soon_18 : decode cX10_soon 18 = .ok (.aload_n 0, 1) := dk_42 (dk_at dksX10_soon_0 18 rfl rfl)
theorem dX10_soon_19 : decode cX10_soon 19 = .ok (.iload_n 2, 1) := dk_28 (dk_at dksX10_soon_0 19 rfl rfl)
theorem dX10_soon_20 : decode cX10_soon 20 = .ok (.iload 4, 2) := dk_21 4 (dk_at dksX10_soon_0 20 rfl rfl)
theorem dX10_soon_22 : decode cX10_soon 22 = .ok (.iload_n 1, 1) := dk_27 (dk_at dksX10_soon_0 22 rfl rfl)
theorem dX10_soon_23 : decode cX10_soon 23 = .ok (.invokevirtual 373, 3) := dk_182 1 117 (dk_at dksX10_soon_1 0 rfl rfl)
theorem dX10_soon_26 : decode cX10_soon 26 = .ok (.ireturn, 1) := dk_172 (dk_at dksX10_soon_1 3 rfl rfl)
theorem dX10_soon_27 : decode cX10_soon 27 = .ok (.iconst 0, 1) := dk_3 (dk_at dksX10_soon_1 4 rfl rfl)
theorem dX10_soon_28 : decode cX10_soon 28 = .ok (.istore 6, 2) := dk_54 6 (dk_at dksX10_soon_1 5 rfl rfl)
theorem dX10_soon_30 : decode cX10_soon 30 = .ok (.iload 6, 2) := dk_21 6 (dk_at dksX10_soon_1 7 rfl rfl)
theorem dX10_soon_32 : decode cX10_soon 32 = .ok (.aload_n 0, 1) := dk_42 (dk_at dksX10_soon_1 9 rfl rfl)
theorem dX10_soon_33 : decode cX10_soon 33 = .ok (.getfield 9, 3) := dk_180 0 9 (dk_at dksX10_soon_1 10 rfl rfl)
theorem dX10_soon_36 : decode cX10_soon 36 = .ok (.iconst 5, 1) := dk_8 (dk_at dksX10_soon_1 13 rfl rfl)
theorem dX10_soon_37 : decode cX10_soon 37 = .ok (.iaload, 1) := dk_46 (dk_at dksX10_soon_1 14 rfl rfl)
theorem dX10_soon_38 : decode cX10_soon 38 = .ok (.if_icmp .ge 59, 3) := dk_162 0 59 (dk_at dksX10_soon_1 15 rfl rfl)
theorem dX10_soon_41 : decode cX10_soon 41 = .ok (.aload_n 0, 1) := dk_42 (dk_at dksX10_soon_1 18 rfl rfl)
theorem dX10_soon_42 : decode cX10_soon 42 = .ok (.iload 6, 2) := dk_21 6 (dk_at dksX10_soon_1 19 rfl rfl)
theorem dX10_soon_44 : decode cX10_soon 44 = .ok (.iload 4, 2) := dk_21 4 (dk_at dksX10_soon_1 21 rfl rfl)
theorem dX10_soon_46 : decode cX10_soon 46 = .ok (.aload_n 0, 1) := dk_42 (dk_at dksX10_soon_1 23 rfl rfl)
theorem dX10_soon_47 : decode cX10_soon 47 = .ok (.iload 6, 2) := dk_21 6 (dk_at dksX10_soon_2 0 rfl rfl)
theorem dX10_soon_49 : decode cX10_soon 49 = .ok (.iload 4, 2) := dk_21 4 (dk_at dksX10_soon_2 2 rfl rfl)
theorem dX10_soon_51 : decode cX10_soon 51 = .ok (.iload_n 1, 1) := dk_27 (dk_at dksX10_soon_2 4 rfl rfl)
theorem dX10_soon_52 : decode cX10_soon 52 = .ok (.invokevirtual 366, 3) := dk_182 1 110 (dk_at dksX10_soon_2 5 rfl rfl)
theorem dX10_soon_55 : decode cX10_soon 55 = .ok (.iload 4, 2) := dk_21 4 (dk_at dksX10_soon_2 8 rfl rfl)
theorem dX10_soon_57 : decode cX10_soon 57 = .ok (.iconst 1, 1) := dk_4 (dk_at dksX10_soon_2 10 rfl rfl)
theorem dX10_soon_58 : decode cX10_soon 58 = .ok (.iadd, 1) := dk_96 (dk_at dksX10_soon_2 11 rfl rfl)
theorem dX10_soon_59 : decode cX10_soon 59 = .ok (.invokevirtual 356, 3) := dk_182 1 100 (dk_at dksX10_soon_2 12 rfl rfl)
theorem dX10_soon_62 : decode cX10_soon 62 = .ok (.aload_n 0, 1) := dk_42 (dk_at dksX10_soon_2 15 rfl rfl)
theorem dX10_soon_63 : decode cX10_soon 63 = .ok (.getfield 49, 3) := dk_180 0 49 (dk_at dksX10_soon_2 16 rfl rfl)
theorem dX10_soon_66 : decode cX10_soon 66 = .ok (.iload 4, 2) := dk_21 4 (dk_at dksX10_soon_2 19 rfl rfl)
theorem dX10_soon_68 : decode cX10_soon 68 = .ok (.iload 6, 2) := dk_21 6 (dk_at dksX10_soon_2 21 rfl rfl)
theorem dX10_soon_70 : decode cX10_soon 70 = .ok (.iastore, 1) := dk_79 (dk_at dksX10_soon_2 23 rfl rfl)
theorem dX10_soon_71 : decode cX10_soon 71 = .ok (.aload_n 0, 1) := dk_42 (dk_at dksX10_soon_3 0 rfl rfl)
theorem dX10_soon_72 : decode cX10_soon 72 = .ok (.iload_n 1, 1) := dk_27 (dk_at dksX10_soon_3 1 rfl rfl)
theorem dX10_soon_73 : decode cX10_soon 73 = .ok (.iload_n 2, 1) := dk_28 (dk_at dksX10_soon_3 2 rfl rfl)
theorem dX10_soon_74 : decode cX10_soon 74 = .ok (.iload_n 3, 1) := dk_29 (dk_at dksX10_soon_3 3 rfl rfl)
theorem dX10_soon_75 : decode cX10_soon 75 = .ok (.iload 4, 2) := dk_21 4 (dk_at dksX10_soon_3 4 rfl rfl)
theorem dX10_soon_77 : decode cX10_soon 77 = .ok (.iconst 1, 1) := dk_4 (dk_at dksX10_soon_3 6 rfl rfl)
theorem dX10_soon_78 : decode cX10_soon 78 = .ok (.iadd, 1) := dk_96 (dk_at dksX10_soon_3 7 rfl rfl)
theorem dX10_soon_79 : decode cX10_soon 79 = .ok (.iload 5, 2) := dk_21 5 (dk_at dksX10_soon_3 8 rfl rfl)
theorem dX10_soon_81 : decode cX10_soon 81 = .ok (.iconst 1, 1) := dk_4 (dk_at dksX10_soon_3 10 rfl rfl)
theorem dX10_soon_82 : decode cX10_soon 82 = .ok (.isub, 1) := dk_100 (dk_at dksX10_soon_3 11 rfl rfl)
theorem dX10_soon_83 : decode cX10_soon 83 = .ok (.invokevirtual 376, 3) := dk_182 1 120 (dk_at dksX10_soon_3 12 rfl rfl)
theorem dX10_soon_86 : decode cX10_soon 86 = .ok (.ifCond .eq 5, 3) := dk_153 0 5 (dk_at dksX10_soon_3 15 rfl rfl)
theorem dX10_soon_89 : decode cX10_soon 89 = .ok (.iconst 1, 1) := dk_4 (dk_at dksX10_soon_3 18 rfl rfl)
theorem dX10_soon_90 : decode cX10_soon 90 = .ok (.ireturn, 1) := dk_172 (dk_at dksX10_soon_3 19 rfl rfl)
theorem dX10_soon_91 : decode cX10_soon 91 = .ok (.iinc 6 1, 3) := dk_132 6 1 (dk_at dksX10_soon_3 20 rfl rfl)
theorem dX10_soon_94 : decode cX10_soon 94 = .ok (.goto (-64), 3) := dk_167 255 192 (dk_at dksX10_soon_4 0 rfl rfl)
theorem dX10_soon_97 : decode cX10_soon 97 = .ok (.iconst 0, 1) := dk_3 (dk_at dksX10_soon_4 3 rfl rfl)
theorem dX10_soon_98 : decode cX10_soon 98 = .ok (.ireturn, 1) := dk_172 (dk_at dksX10_soon_4 4 rfl rfl)
abbrev cX10_none : ByteArray := prog_33_method_84_code
def yX10_none : MethodName := ⟨RX10, "none", "(III)Z"⟩
def dkwX10_none_1 : List UInt8 := [42, 21, 4, 28, 29, 182, 1, 110, 153, 0, 5, 3, 172, 132, 4, 1, 167, 255, 219, 4, 172]
abbrev dktX10_none_1 : List UInt8 := dkwX10_none_1 ++ []
def dkwX10_none_0 : List UInt8 := [3, 54, 4, 21, 4, 42, 180, 0, 9, 8, 46, 162, 0, 32, 27, 21, 4, 122, 4, 126, 4, 160, 0, 16]
abbrev dktX10_none_0 : List UInt8 := dkwX10_none_0 ++ dktX10_none_1
theorem dksX10_none_0 : cX10_none.data.toList.drop 0 = dktX10_none_0 := by decide +kernel
theorem dksX10_none_1 : cX10_none.data.toList.drop 24 = dktX10_none_1 := dk_seg dksX10_none_0 24 rfl rfl
theorem dX10_none_0 : decode cX10_none 0 = .ok (.iconst 0, 1) := dk_3 (dk_at dksX10_none_0 0 rfl rfl)
theorem dX10_none_1 : decode cX10_none 1 = .ok (.istore 4, 2) := dk_54 4 (dk_at dksX10_none_0 1 rfl rfl)
theorem dX10_none_3 : decode cX10_none 3 = .ok (.iload 4, 2) := dk_21 4 (dk_at dksX10_none_0 3 rfl rfl)
theorem dX10_none_5 : decode cX10_none 5 = .ok (.aload_n 0, 1) := dk_42 (dk_at dksX10_none_0 5 rfl rfl)
theorem dX10_none_6 : decode cX10_none 6 = .ok (.getfield 9, 3) := dk_180 0 9 (dk_at dksX10_none_0 6 rfl rfl)
theorem dX10_none_9 : decode cX10_none 9 = .ok (.iconst 5, 1) := dk_8 (dk_at dksX10_none_0 9 rfl rfl)
theorem dX10_none_10 : decode cX10_none 10 = .ok (.iaload, 1) := dk_46 (dk_at dksX10_none_0 10 rfl rfl)
theorem dX10_none_11 : decode cX10_none 11 = .ok (.if_icmp .ge 32, 3) := dk_162 0 32 (dk_at dksX10_none_0 11 rfl rfl)
theorem dX10_none_14 : decode cX10_none 14 = .ok (.iload_n 1, 1) := dk_27 (dk_at dksX10_none_0 14 rfl rfl)
theorem dX10_none_15 : decode cX10_none 15 = .ok (.iload 4, 2) := dk_21 4 (dk_at dksX10_none_0 15 rfl rfl)
theorem dX10_none_17 : decode cX10_none 17 = .ok (.ishr, 1) := dk_122 (dk_at dksX10_none_0 17 rfl rfl)
theorem dX10_none_18 : decode cX10_none 18 = .ok (.iconst 1, 1) := dk_4 (dk_at dksX10_none_0 18 rfl rfl)
theorem dX10_none_19 : decode cX10_none 19 = .ok (.iand, 1) := dk_126 (dk_at dksX10_none_0 19 rfl rfl)
theorem dX10_none_20 : decode cX10_none 20 = .ok (.iconst 1, 1) := dk_4 (dk_at dksX10_none_0 20 rfl rfl)
theorem dX10_none_21 : decode cX10_none 21 = .ok (.if_icmp .ne 16, 3) := dk_160 0 16 (dk_at dksX10_none_0 21 rfl rfl)
theorem dX10_none_24 : decode cX10_none 24 = .ok (.aload_n 0, 1) := dk_42 (dk_at dksX10_none_1 0 rfl rfl)
theorem dX10_none_25 : decode cX10_none 25 = .ok (.iload 4, 2) := dk_21 4 (dk_at dksX10_none_1 1 rfl rfl)
theorem dX10_none_27 : decode cX10_none 27 = .ok (.iload_n 2, 1) := dk_28 (dk_at dksX10_none_1 3 rfl rfl)
theorem dX10_none_28 : decode cX10_none 28 = .ok (.iload_n 3, 1) := dk_29 (dk_at dksX10_none_1 4 rfl rfl)
theorem dX10_none_29 : decode cX10_none 29 = .ok (.invokevirtual 366, 3) := dk_182 1 110 (dk_at dksX10_none_1 5 rfl rfl)
theorem dX10_none_32 : decode cX10_none 32 = .ok (.ifCond .eq 5, 3) := dk_153 0 5 (dk_at dksX10_none_1 8 rfl rfl)
theorem dX10_none_35 : decode cX10_none 35 = .ok (.iconst 0, 1) := dk_3 (dk_at dksX10_none_1 11 rfl rfl)
theorem dX10_none_36 : decode cX10_none 36 = .ok (.ireturn, 1) := dk_172 (dk_at dksX10_none_1 12 rfl rfl)
theorem dX10_none_37 : decode cX10_none 37 = .ok (.iinc 4 1, 3) := dk_132 4 1 (dk_at dksX10_none_1 13 rfl rfl)
theorem dX10_none_40 : decode cX10_none 40 = .ok (.goto (-37), 3) := dk_167 255 219 (dk_at dksX10_none_1 16 rfl rfl)
theorem dX10_none_43 : decode cX10_none 43 = .ok (.iconst 1, 1) := dk_4 (dk_at dksX10_none_1 19 rfl rfl)
theorem dX10_none_44 : decode cX10_none 44 = .ok (.ireturn, 1) := dk_172 (dk_at dksX10_none_1 20 rfl rfl)
abbrev cX10_knowsAt : ByteArray := prog_33_method_83_code
def yX10_knowsAt : MethodName := ⟨RX10, "knowsAt", "(III)Z"⟩
def dkwX10_knowsAt_1 : List UInt8 := [153, 0, 7, 4, 167, 0, 4, 3, 100, 154, 0, 7, 4, 167, 0, 4, 3, 172]
abbrev dktX10_knowsAt_1 : List UInt8 := dkwX10_knowsAt_1 ++ []
def dkwX10_knowsAt_0 : List UInt8 := [42, 27, 28, 2, 182, 1, 44, 42, 180, 0, 43, 42, 27, 29, 182, 1, 17, 46, 42, 28, 29, 182, 1, 37]
abbrev dktX10_knowsAt_0 : List UInt8 := dkwX10_knowsAt_0 ++ dktX10_knowsAt_1
theorem dksX10_knowsAt_0 : cX10_knowsAt.data.toList.drop 0 = dktX10_knowsAt_0 := by decide +kernel
theorem dksX10_knowsAt_1 : cX10_knowsAt.data.toList.drop 24 = dktX10_knowsAt_1 := dk_seg dksX10_knowsAt_0 24 rfl rfl
theorem dX10_knowsAt_0 : decode cX10_knowsAt 0 = .ok (.aload_n 0, 1) := dk_42 (dk_at dksX10_knowsAt_0 0 rfl rfl)
theorem dX10_knowsAt_1 : decode cX10_knowsAt 1 = .ok (.iload_n 1, 1) := dk_27 (dk_at dksX10_knowsAt_0 1 rfl rfl)
theorem dX10_knowsAt_2 : decode cX10_knowsAt 2 = .ok (.iload_n 2, 1) := dk_28 (dk_at dksX10_knowsAt_0 2 rfl rfl)
theorem dX10_knowsAt_3 : decode cX10_knowsAt 3 = .ok (.iconst (-1), 1) := dk_2 (dk_at dksX10_knowsAt_0 3 rfl rfl)
theorem dX10_knowsAt_4 : decode cX10_knowsAt 4 = .ok (.invokevirtual 300, 3) := dk_182 1 44 (dk_at dksX10_knowsAt_0 4 rfl rfl)
theorem dX10_knowsAt_7 : decode cX10_knowsAt 7 = .ok (.aload_n 0, 1) := dk_42 (dk_at dksX10_knowsAt_0 7 rfl rfl)
theorem dX10_knowsAt_8 : decode cX10_knowsAt 8 = .ok (.getfield 43, 3) := dk_180 0 43 (dk_at dksX10_knowsAt_0 8 rfl rfl)
theorem dX10_knowsAt_11 : decode cX10_knowsAt 11 = .ok (.aload_n 0, 1) := dk_42 (dk_at dksX10_knowsAt_0 11 rfl rfl)
theorem dX10_knowsAt_12 : decode cX10_knowsAt 12 = .ok (.iload_n 1, 1) := dk_27 (dk_at dksX10_knowsAt_0 12 rfl rfl)
theorem dX10_knowsAt_13 : decode cX10_knowsAt 13 = .ok (.iload_n 3, 1) := dk_29 (dk_at dksX10_knowsAt_0 13 rfl rfl)
theorem dX10_knowsAt_14 : decode cX10_knowsAt 14 = .ok (.invokevirtual 273, 3) := dk_182 1 17 (dk_at dksX10_knowsAt_0 14 rfl rfl)
theorem dX10_knowsAt_17 : decode cX10_knowsAt 17 = .ok (.iaload, 1) := dk_46 (dk_at dksX10_knowsAt_0 17 rfl rfl)
theorem dX10_knowsAt_18 : decode cX10_knowsAt 18 = .ok (.aload_n 0, 1) := dk_42 (dk_at dksX10_knowsAt_0 18 rfl rfl)
theorem dX10_knowsAt_19 : decode cX10_knowsAt 19 = .ok (.iload_n 2, 1) := dk_28 (dk_at dksX10_knowsAt_0 19 rfl rfl)
theorem dX10_knowsAt_20 : decode cX10_knowsAt 20 = .ok (.iload_n 3, 1) := dk_29 (dk_at dksX10_knowsAt_0 20 rfl rfl)
theorem dX10_knowsAt_21 : decode cX10_knowsAt 21 = .ok (.invokevirtual 293, 3) := dk_182 1 37 (dk_at dksX10_knowsAt_0 21 rfl rfl)
theorem dX10_knowsAt_24 : decode cX10_knowsAt 24 = .ok (.ifCond .eq 7, 3) := dk_153 0 7 (dk_at dksX10_knowsAt_1 0 rfl rfl)
theorem dX10_knowsAt_27 : decode cX10_knowsAt 27 = .ok (.iconst 1, 1) := dk_4 (dk_at dksX10_knowsAt_1 3 rfl rfl)
theorem dX10_knowsAt_28 : decode cX10_knowsAt 28 = .ok (.goto 4, 3) := dk_167 0 4 (dk_at dksX10_knowsAt_1 4 rfl rfl)
theorem dX10_knowsAt_31 : decode cX10_knowsAt 31 = .ok (.iconst 0, 1) := dk_3 (dk_at dksX10_knowsAt_1 7 rfl rfl)
theorem dX10_knowsAt_32 : decode cX10_knowsAt 32 = .ok (.isub, 1) := dk_100 (dk_at dksX10_knowsAt_1 8 rfl rfl)
theorem dX10_knowsAt_33 : decode cX10_knowsAt 33 = .ok (.ifCond .ne 7, 3) := dk_154 0 7 (dk_at dksX10_knowsAt_1 9 rfl rfl)
theorem dX10_knowsAt_36 : decode cX10_knowsAt 36 = .ok (.iconst 1, 1) := dk_4 (dk_at dksX10_knowsAt_1 12 rfl rfl)
theorem dX10_knowsAt_37 : decode cX10_knowsAt 37 = .ok (.goto 4, 3) := dk_167 0 4 (dk_at dksX10_knowsAt_1 13 rfl rfl)
theorem dX10_knowsAt_40 : decode cX10_knowsAt 40 = .ok (.iconst 0, 1) := dk_3 (dk_at dksX10_knowsAt_1 16 rfl rfl)
theorem dX10_knowsAt_41 : decode cX10_knowsAt 41 = .ok (.ireturn, 1) := dk_172 (dk_at dksX10_knowsAt_1 17 rfl rfl)
abbrev cX10_all : ByteArray := prog_33_method_85_code
def yX10_all : MethodName := ⟨RX10, "all", "(III)Z"⟩
def dkwX10_all_1 : List UInt8 := [42, 21, 4, 28, 29, 182, 1, 110, 154, 0, 5, 3, 172, 132, 4, 1, 167, 255, 219, 4, 172]
abbrev dktX10_all_1 : List UInt8 := dkwX10_all_1 ++ []
def dkwX10_all_0 : List UInt8 := [3, 54, 4, 21, 4, 42, 180, 0, 9, 8, 46, 162, 0, 32, 27, 21, 4, 122, 4, 126, 4, 160, 0, 16]
abbrev dktX10_all_0 : List UInt8 := dkwX10_all_0 ++ dktX10_all_1
theorem dksX10_all_0 : cX10_all.data.toList.drop 0 = dktX10_all_0 := by decide +kernel
theorem dksX10_all_1 : cX10_all.data.toList.drop 24 = dktX10_all_1 := dk_seg dksX10_all_0 24 rfl rfl
theorem dX10_all_0 : decode cX10_all 0 = .ok (.iconst 0, 1) := dk_3 (dk_at dksX10_all_0 0 rfl rfl)
theorem dX10_all_1 : decode cX10_all 1 = .ok (.istore 4, 2) := dk_54 4 (dk_at dksX10_all_0 1 rfl rfl)
theorem dX10_all_3 : decode cX10_all 3 = .ok (.iload 4, 2) := dk_21 4 (dk_at dksX10_all_0 3 rfl rfl)
theorem dX10_all_5 : decode cX10_all 5 = .ok (.aload_n 0, 1) := dk_42 (dk_at dksX10_all_0 5 rfl rfl)
theorem dX10_all_6 : decode cX10_all 6 = .ok (.getfield 9, 3) := dk_180 0 9 (dk_at dksX10_all_0 6 rfl rfl)
theorem dX10_all_9 : decode cX10_all 9 = .ok (.iconst 5, 1) := dk_8 (dk_at dksX10_all_0 9 rfl rfl)
theorem dX10_all_10 : decode cX10_all 10 = .ok (.iaload, 1) := dk_46 (dk_at dksX10_all_0 10 rfl rfl)
theorem dX10_all_11 : decode cX10_all 11 = .ok (.if_icmp .ge 32, 3) := dk_162 0 32 (dk_at dksX10_all_0 11 rfl rfl)
theorem dX10_all_14 : decode cX10_all 14 = .ok (.iload_n 1, 1) := dk_27 (dk_at dksX10_all_0 14 rfl rfl)
theorem dX10_all_15 : decode cX10_all 15 = .ok (.iload 4, 2) := dk_21 4 (dk_at dksX10_all_0 15 rfl rfl)
theorem dX10_all_17 : decode cX10_all 17 = .ok (.ishr, 1) := dk_122 (dk_at dksX10_all_0 17 rfl rfl)
theorem dX10_all_18 : decode cX10_all 18 = .ok (.iconst 1, 1) := dk_4 (dk_at dksX10_all_0 18 rfl rfl)
theorem dX10_all_19 : decode cX10_all 19 = .ok (.iand, 1) := dk_126 (dk_at dksX10_all_0 19 rfl rfl)
theorem dX10_all_20 : decode cX10_all 20 = .ok (.iconst 1, 1) := dk_4 (dk_at dksX10_all_0 20 rfl rfl)
theorem dX10_all_21 : decode cX10_all 21 = .ok (.if_icmp .ne 16, 3) := dk_160 0 16 (dk_at dksX10_all_0 21 rfl rfl)
theorem dX10_all_24 : decode cX10_all 24 = .ok (.aload_n 0, 1) := dk_42 (dk_at dksX10_all_1 0 rfl rfl)
theorem dX10_all_25 : decode cX10_all 25 = .ok (.iload 4, 2) := dk_21 4 (dk_at dksX10_all_1 1 rfl rfl)
theorem dX10_all_27 : decode cX10_all 27 = .ok (.iload_n 2, 1) := dk_28 (dk_at dksX10_all_1 3 rfl rfl)
theorem dX10_all_28 : decode cX10_all 28 = .ok (.iload_n 3, 1) := dk_29 (dk_at dksX10_all_1 4 rfl rfl)
theorem dX10_all_29 : decode cX10_all 29 = .ok (.invokevirtual 366, 3) := dk_182 1 110 (dk_at dksX10_all_1 5 rfl rfl)
theorem dX10_all_32 : decode cX10_all 32 = .ok (.ifCond .ne 5, 3) := dk_154 0 5 (dk_at dksX10_all_1 8 rfl rfl)
theorem dX10_all_35 : decode cX10_all 35 = .ok (.iconst 0, 1) := dk_3 (dk_at dksX10_all_1 11 rfl rfl)
theorem dX10_all_36 : decode cX10_all 36 = .ok (.ireturn, 1) := dk_172 (dk_at dksX10_all_1 12 rfl rfl)
theorem dX10_all_37 : decode cX10_all 37 = .ok (.iinc 4 1, 3) := dk_132 4 1 (dk_at dksX10_all_1 13 rfl rfl)
theorem dX10_all_40 : decode cX10_all 40 = .ok (.goto (-37), 3) := dk_167 255 219 (dk_at dksX10_all_1 16 rfl rfl)
theorem dX10_all_43 : decode cX10_all 43 = .ok (.iconst 1, 1) := dk_4 (dk_at dksX10_all_1 19 rfl rfl)
theorem dX10_all_44 : decode cX10_all 44 = .ok (.ireturn, 1) := dk_172 (dk_at dksX10_all_1 20 rfl rfl)
abbrev cX10_shortest : ByteArray := prog_33_method_90_code
def yX10_shortest : MethodName := ⟨RX10, "shortest", "(II)I"⟩
def dkwX10_shortest_5 : List UInt8 := [16, 10, 100, 46, 167, 0, 4, 2, 172, 132, 3, 1, 167, 255, 196, 2, 172]
abbrev dktX10_shortest_5 : List UInt8 := dkwX10_shortest_5 ++ []
def dkwX10_shortest_4 : List UInt8 := [160, 0, 11, 42, 29, 182, 1, 83, 167, 0, 24, 28, 16, 10, 100, 29, 162, 0, 15, 42, 180, 0, 49, 28]
abbrev dktX10_shortest_4 : List UInt8 := dkwX10_shortest_4 ++ dktX10_shortest_5
def dkwX10_shortest_3 : List UInt8 := [163, 0, 61, 42, 3, 29, 182, 1, 127, 153, 0, 46, 28, 154, 0, 7, 29, 167, 0, 37, 28, 4]
abbrev dktX10_shortest_3 : List UInt8 := dkwX10_shortest_3 ++ dktX10_shortest_4
def dkwX10_shortest_2 : List UInt8 := [180, 0, 71, 158, 0, 5, 3, 172, 42, 182, 0, 253, 42, 3, 4, 182, 1, 67, 3, 62, 29, 27]
abbrev dktX10_shortest_2 : List UInt8 := dkwX10_shortest_2 ++ dktX10_shortest_3
def dkwX10_shortest_1 : List UInt8 := [133, 20, 1, 132, 20, 1, 134, 184, 0, 133, 153, 0, 7, 3, 167, 0, 4, 4, 181, 0, 71, 42]
abbrev dktX10_shortest_1 : List UInt8 := dkwX10_shortest_1 ++ dktX10_shortest_2
def dkwX10_shortest_0 : List UInt8 := [42, 27, 133, 10, 20, 1, 130, 184, 0, 133, 153, 0, 31, 28, 133, 9, 10, 184, 0, 133, 154, 0, 17, 28]
abbrev dktX10_shortest_0 : List UInt8 := dkwX10_shortest_0 ++ dktX10_shortest_1
theorem dksX10_shortest_0 : cX10_shortest.data.toList.drop 0 = dktX10_shortest_0 := by decide +kernel
theorem dksX10_shortest_1 : cX10_shortest.data.toList.drop 24 = dktX10_shortest_1 := dk_seg dksX10_shortest_0 24 rfl rfl
theorem dksX10_shortest_2 : cX10_shortest.data.toList.drop 46 = dktX10_shortest_2 := dk_seg dksX10_shortest_1 22 rfl rfl
theorem dksX10_shortest_3 : cX10_shortest.data.toList.drop 68 = dktX10_shortest_3 := dk_seg dksX10_shortest_2 22 rfl rfl
theorem dksX10_shortest_4 : cX10_shortest.data.toList.drop 90 = dktX10_shortest_4 := dk_seg dksX10_shortest_3 22 rfl rfl
theorem dksX10_shortest_5 : cX10_shortest.data.toList.drop 114 = dktX10_shortest_5 := dk_seg dksX10_shortest_4 24 rfl rfl
theorem dX10_shortest_0 : decode cX10_shortest 0 = .ok (.aload_n 0, 1) := dk_42 (dk_at dksX10_shortest_0 0 rfl rfl)
theorem dX10_shortest_1 : decode cX10_shortest 1 = .ok (.iload_n 1, 1) := dk_27 (dk_at dksX10_shortest_0 1 rfl rfl)
theorem dX10_shortest_2 : decode cX10_shortest 2 = .ok (.i2l, 1) := dk_133 (dk_at dksX10_shortest_0 2 rfl rfl)
theorem dX10_shortest_3 : decode cX10_shortest 3 = .ok (.lconst 1, 1) := dk_10 (dk_at dksX10_shortest_0 3 rfl rfl)
theorem dX10_shortest_4 : decode cX10_shortest 4 = .ok (.ldc2_w 386, 3) := dk_20 1 130 (dk_at dksX10_shortest_0 4 rfl rfl)
theorem dX10_shortest_7 : decode cX10_shortest 7 = .ok (.invokestatic 133, 3) := dk_184 0 133 (dk_at dksX10_shortest_0 7 rfl rfl)
theorem dX10_shortest_10 : decode cX10_shortest 10 = .ok (.ifCond .eq 31, 3) := dk_153 0 31 (dk_at dksX10_shortest_0 10 rfl rfl)
theorem dX10_shortest_13 : decode cX10_shortest 13 = .ok (.iload_n 2, 1) := dk_28 (dk_at dksX10_shortest_0 13 rfl rfl)
theorem dX10_shortest_14 : decode cX10_shortest 14 = .ok (.i2l, 1) := dk_133 (dk_at dksX10_shortest_0 14 rfl rfl)
theorem dX10_shortest_15 : decode cX10_shortest 15 = .ok (.lconst 0, 1) := dk_9 (dk_at dksX10_shortest_0 15 rfl rfl)
theorem dX10_shortest_16 : decode cX10_shortest 16 = .ok (.lconst 1, 1) := dk_10 (dk_at dksX10_shortest_0 16 rfl rfl)
theorem dX10_shortest_17 : decode cX10_shortest 17 = .ok (.invokestatic 133, 3) := dk_184 0 133 (dk_at dksX10_shortest_0 17 rfl rfl)
theorem dX10_shortest_20 : decode cX10_shortest 20 = .ok (.ifCond .ne 17, 3) := dk_154 0 17 (dk_at dksX10_shortest_0 20 rfl rfl)
theorem dX10_shortest_23 : decode cX10_shortest 23 = .ok (.iload_n 2, 1) := dk_28 (dk_at dksX10_shortest_0 23 rfl rfl)
theorem dX10_shortest_24 : decode cX10_shortest 24 = .ok (.i2l, 1) := dk_133 (dk_at dksX10_shortest_1 0 rfl rfl)
theorem dX10_shortest_25 : decode cX10_shortest 25 = .ok (.ldc2_w 388, 3) := dk_20 1 132 (dk_at dksX10_shortest_1 1 rfl rfl)
theorem dX10_shortest_28 : decode cX10_shortest 28 = .ok (.ldc2_w 390, 3) := dk_20 1 134 (dk_at dksX10_shortest_1 4 rfl rfl)
theorem dX10_shortest_31 : decode cX10_shortest 31 = .ok (.invokestatic 133, 3) := dk_184 0 133 (dk_at dksX10_shortest_1 7 rfl rfl)
theorem dX10_shortest_34 : decode cX10_shortest 34 = .ok (.ifCond .eq 7, 3) := dk_153 0 7 (dk_at dksX10_shortest_1 10 rfl rfl)
theorem dX10_shortest_37 : decode cX10_shortest 37 = .ok (.iconst 0, 1) := dk_3 (dk_at dksX10_shortest_1 13 rfl rfl)
theorem dX10_shortest_38 : decode cX10_shortest 38 = .ok (.goto 4, 3) := dk_167 0 4 (dk_at dksX10_shortest_1 14 rfl rfl)
theorem dX10_shortest_41 : decode cX10_shortest 41 = .ok (.iconst 1, 1) := dk_4 (dk_at dksX10_shortest_1 17 rfl rfl)
theorem dX10_shortest_42 : decode cX10_shortest 42 = .ok (.putfield 71, 3) := dk_181 0 71 (dk_at dksX10_shortest_1 18 rfl rfl)
theorem dX10_shortest_45 : decode cX10_shortest 45 = .ok (.aload_n 0, 1) := dk_42 (dk_at dksX10_shortest_1 21 rfl rfl)
theorem dX10_shortest_46 : decode cX10_shortest 46 = .ok (.getfield 71, 3) := dk_180 0 71 (dk_at dksX10_shortest_2 0 rfl rfl)
theorem dX10_shortest_49 : decode cX10_shortest 49 = .ok (.ifCond .le 5, 3) := dk_158 0 5 (dk_at dksX10_shortest_2 3 rfl rfl)
theorem dX10_shortest_52 : decode cX10_shortest 52 = .ok (.iconst 0, 1) := dk_3 (dk_at dksX10_shortest_2 6 rfl rfl)
theorem dX10_shortest_53 : decode cX10_shortest 53 = .ok (.ireturn, 1) := dk_172 (dk_at dksX10_shortest_2 7 rfl rfl)
theorem dX10_shortest_54 : decode cX10_shortest 54 = .ok (.aload_n 0, 1) := dk_42 (dk_at dksX10_shortest_2 8 rfl rfl)
theorem dX10_shortest_55 : decode cX10_shortest 55 = .ok (.invokevirtual 253, 3) := dk_182 0 253 (dk_at dksX10_shortest_2 9 rfl rfl)
theorem dX10_shortest_58 : decode cX10_shortest 58 = .ok (.aload_n 0, 1) := dk_42 (dk_at dksX10_shortest_2 12 rfl rfl)
theorem dX10_shortest_59 : decode cX10_shortest 59 = .ok (.iconst 0, 1) := dk_3 (dk_at dksX10_shortest_2 13 rfl rfl)
theorem dX10_shortest_60 : decode cX10_shortest 60 = .ok (.iconst 1, 1) := dk_4 (dk_at dksX10_shortest_2 14 rfl rfl)
theorem dX10_shortest_61 : decode cX10_shortest 61 = .ok (.invokevirtual 323, 3) := dk_182 1 67 (dk_at dksX10_shortest_2 15 rfl rfl)
theorem dX10_shortest_64 : decode cX10_shortest 64 = .ok (.iconst 0, 1) := dk_3 (dk_at dksX10_shortest_2 18 rfl rfl)
theorem dX10_shortest_65 : decode cX10_shortest 65 = .ok (.istore_n 3, 1) := dk_62 (dk_at dksX10_shortest_2 19 rfl rfl)
theorem dX10_shortest_66 : decode cX10_shortest 66 = .ok (.iload_n 3, 1) := dk_29 (dk_at dksX10_shortest_2 20 rfl rfl)
theorem dX10_shortest_67 : decode cX10_shortest 67 = .ok (.iload_n 1, 1) := dk_27 (dk_at dksX10_shortest_2 21 rfl rfl)
theorem dX10_shortest_68 : decode cX10_shortest 68 = .ok (.if_icmp .gt 61, 3) := dk_163 0 61 (dk_at dksX10_shortest_3 0 rfl rfl)
theorem dX10_shortest_71 : decode cX10_shortest 71 = .ok (.aload_n 0, 1) := dk_42 (dk_at dksX10_shortest_3 3 rfl rfl)
theorem dX10_shortest_72 : decode cX10_shortest 72 = .ok (.iconst 0, 1) := dk_3 (dk_at dksX10_shortest_3 4 rfl rfl)
theorem dX10_shortest_73 : decode cX10_shortest 73 = .ok (.iload_n 3, 1) := dk_29 (dk_at dksX10_shortest_3 5 rfl rfl)
theorem dX10_shortest_74 : decode cX10_shortest 74 = .ok (.invokevirtual 383, 3) := dk_182 1 127 (dk_at dksX10_shortest_3 6 rfl rfl)
theorem dX10_shortest_77 : decode cX10_shortest 77 = .ok (.ifCond .eq 46, 3) := dk_153 0 46 (dk_at dksX10_shortest_3 9 rfl rfl)
theorem dX10_shortest_80 : decode cX10_shortest 80 = .ok (.iload_n 2, 1) := dk_28 (dk_at dksX10_shortest_3 12 rfl rfl)
theorem dX10_shortest_81 : decode cX10_shortest 81 = .ok (.ifCond .ne 7, 3) := dk_154 0 7 (dk_at dksX10_shortest_3 13 rfl rfl)
theorem dX10_shortest_84 : decode cX10_shortest 84 = .ok (.iload_n 3, 1) := dk_29 (dk_at dksX10_shortest_3 16 rfl rfl)
theorem dX10_shortest_85 : decode cX10_shortest 85 = .ok (.goto 37, 3) := dk_167 0 37 (dk_at dksX10_shortest_3 17 rfl rfl)
theorem dX10_shortest_88 : decode cX10_shortest 88 = .ok (.iload_n 2, 1) := dk_28 (dk_at dksX10_shortest_3 20 rfl rfl)
theorem dX10_shortest_89 : decode cX10_shortest 89 = .ok (.iconst 1, 1) := dk_4 (dk_at dksX10_shortest_3 21 rfl rfl)
theorem dX10_shortest_90 : decode cX10_shortest 90 = .ok (.if_icmp .ne 11, 3) := dk_160 0 11 (dk_at dksX10_shortest_4 0 rfl rfl)
theorem dX10_shortest_93 : decode cX10_shortest 93 = .ok (.aload_n 0, 1) := dk_42 (dk_at dksX10_shortest_4 3 rfl rfl)
theorem dX10_shortest_94 : decode cX10_shortest 94 = .ok (.iload_n 3, 1) := dk_29 (dk_at dksX10_shortest_4 4 rfl rfl)
theorem dX10_shortest_95 : decode cX10_shortest 95 = .ok (.invokevirtual 339, 3) := dk_182 1 83 (dk_at dksX10_shortest_4 5 rfl rfl)
theorem dX10_shortest_98 : decode cX10_shortest 98 = .ok (.goto 24, 3) := dk_167 0 24 (dk_at dksX10_shortest_4 8 rfl rfl)
theorem dX10_shortest_101 : decode cX10_shortest 101 = .ok (.iload_n 2, 1) := dk_28 (dk_at dksX10_shortest_4 11 rfl rfl)
theorem dX10_shortest_102 : decode cX10_shortest 102 = .ok (.bipush 10, 2) := dk_16 10 (dk_at dksX10_shortest_4 12 rfl rfl)
theorem dX10_shortest_104 : decode cX10_shortest 104 = .ok (.isub, 1) := dk_100 (dk_at dksX10_shortest_4 14 rfl rfl)
theorem dX10_shortest_105 : decode cX10_shortest 105 = .ok (.iload_n 3, 1) := dk_29 (dk_at dksX10_shortest_4 15 rfl rfl)
theorem dX10_shortest_106 : decode cX10_shortest 106 = .ok (.if_icmp .ge 15, 3) := dk_162 0 15 (dk_at dksX10_shortest_4 16 rfl rfl)
theorem dX10_shortest_109 : decode cX10_shortest 109 = .ok (.aload_n 0, 1) := dk_42 (dk_at dksX10_shortest_4 19 rfl rfl)
theorem dX10_shortest_110 : decode cX10_shortest 110 = .ok (.getfield 49, 3) := dk_180 0 49 (dk_at dksX10_shortest_4 20 rfl rfl)
theorem dX10_shortest_113 : decode cX10_shortest 113 = .ok (.iload_n 2, 1) := dk_28 (dk_at dksX10_shortest_4 23 rfl rfl)
theorem dX10_shortest_114 : decode cX10_shortest 114 = .ok (.bipush 10, 2) := dk_16 10 (dk_at dksX10_shortest_5 0 rfl rfl)
theorem dX10_shortest_116 : decode cX10_shortest 116 = .ok (.isub, 1) := dk_100 (dk_at dksX10_shortest_5 2 rfl rfl)
theorem dX10_shortest_117 : decode cX10_shortest 117 = .ok (.iaload, 1) := dk_46 (dk_at dksX10_shortest_5 3 rfl rfl)
theorem dX10_shortest_118 : decode cX10_shortest 118 = .ok (.goto 4, 3) := dk_167 0 4 (dk_at dksX10_shortest_5 4 rfl rfl)
theorem dX10_shortest_121 : decode cX10_shortest 121 = .ok (.iconst (-1), 1) := dk_2 (dk_at dksX10_shortest_5 7 rfl rfl)
theorem dX10_shortest_122 : decode cX10_shortest 122 = .ok (.ireturn, 1) := dk_172 (dk_at dksX10_shortest_5 8 rfl rfl)
theorem dX10_shortest_123 : decode cX10_shortest 123 = .ok (.iinc 3 1, 3) := dk_132 3 1 (dk_at dksX10_shortest_5 9 rfl rfl)
theorem dX10_shortest_126 : decode cX10_shortest 126 = .ok (.goto (-60), 3) := dk_167 255 196 (dk_at dksX10_shortest_5 12 rfl rfl)
theorem dX10_shortest_129 : decode cX10_shortest 129 = .ok (.iconst (-1), 1) := dk_2 (dk_at dksX10_shortest_5 15 rfl rfl)
theorem dX10_shortest_130 : decode cX10_shortest 130 = .ok (.ireturn, 1) := dk_172 (dk_at dksX10_shortest_5 16 rfl rfl)
abbrev cX10_shortBy : ByteArray := prog_33_method_89_code
def yX10_shortBy : MethodName := ⟨RX10, "shortBy", "(II)Z"⟩
def dkwX10_shortBy_4 : List UInt8 := [132, 4, 1, 167, 255, 192, 3, 172]
abbrev dktX10_shortBy_4 : List UInt8 := dkwX10_shortBy_4 ++ []
def dkwX10_shortBy_3 : List UInt8 := [180, 0, 49, 27, 21, 4, 79, 42, 27, 4, 96, 28, 4, 100, 182, 1, 127, 153, 0, 5, 4, 172]
abbrev dktX10_shortBy_3 : List UInt8 := dkwX10_shortBy_3 ++ dktX10_shortBy_4
def dkwX10_shortBy_2 : List UInt8 := [5, 108, 27, 21, 4, 5, 112, 4, 160, 0, 7, 4, 167, 0, 4, 3, 27, 4, 96, 182, 1, 100, 42]
abbrev dktX10_shortBy_2 : List UInt8 := dkwX10_shortBy_2 ++ dktX10_shortBy_3
def dkwX10_shortBy_1 : List UInt8 := [154, 0, 5, 3, 172, 3, 54, 4, 21, 4, 5, 42, 180, 0, 9, 8, 46, 104, 162, 0, 57, 42, 21, 4]
abbrev dktX10_shortBy_1 : List UInt8 := dkwX10_shortBy_1 ++ dktX10_shortBy_2
def dkwX10_shortBy_0 : List UInt8 := [42, 27, 182, 1, 77, 62, 28, 154, 0, 14, 29, 4, 160, 0, 7, 4, 167, 0, 4, 3, 172, 29]
abbrev dktX10_shortBy_0 : List UInt8 := dkwX10_shortBy_0 ++ dktX10_shortBy_1
theorem dksX10_shortBy_0 : cX10_shortBy.data.toList.drop 0 = dktX10_shortBy_0 := by decide +kernel
theorem dksX10_shortBy_1 : cX10_shortBy.data.toList.drop 22 = dktX10_shortBy_1 := dk_seg dksX10_shortBy_0 22 rfl rfl
theorem dksX10_shortBy_2 : cX10_shortBy.data.toList.drop 46 = dktX10_shortBy_2 := dk_seg dksX10_shortBy_1 24 rfl rfl
theorem dksX10_shortBy_3 : cX10_shortBy.data.toList.drop 69 = dktX10_shortBy_3 := dk_seg dksX10_shortBy_2 23 rfl rfl
theorem dksX10_shortBy_4 : cX10_shortBy.data.toList.drop 91 = dktX10_shortBy_4 := dk_seg dksX10_shortBy_3 22 rfl rfl
theorem dX10_shortBy_0 : decode cX10_shortBy 0 = .ok (.aload_n 0, 1) := dk_42 (dk_at dksX10_shortBy_0 0 rfl rfl)
theorem dX10_shortBy_1 : decode cX10_shortBy 1 = .ok (.iload_n 1, 1) := dk_27 (dk_at dksX10_shortBy_0 1 rfl rfl)
theorem dX10_shortBy_2 : decode cX10_shortBy 2 = .ok (.invokevirtual 333, 3) := dk_182 1 77 (dk_at dksX10_shortBy_0 2 rfl rfl)
theorem dX10_shortBy_5 : decode cX10_shortBy 5 = .ok (.istore_n 3, 1) := dk_62 (dk_at dksX10_shortBy_0 5 rfl rfl)
theorem dX10_shortBy_6 : decode cX10_shortBy 6 = .ok (.iload_n 2, 1) := dk_28 (dk_at dksX10_shortBy_0 6 rfl rfl)
theorem dX10_shortBy_7 : decode cX10_shortBy 7 = .ok (.ifCond .ne 14, 3) := dk_154 0 14 (dk_at dksX10_shortBy_0 7 rfl rfl)
theorem dX10_shortBy_10 : decode cX10_shortBy 10 = .ok (.iload_n 3, 1) := dk_29 (dk_at dksX10_shortBy_0 10 rfl rfl)
theorem dX10_shortBy_11 : decode cX10_shortBy 11 = .ok (.iconst 1, 1) := dk_4 (dk_at dksX10_shortBy_0 11 rfl rfl)
theorem dX10_shortBy_12 : decode cX10_shortBy 12 = .ok (.if_icmp .ne 7, 3) := dk_160 0 7 (dk_at dksX10_shortBy_0 12 rfl rfl)
theorem dX10_shortBy_15 : decode cX10_shortBy 15 = .ok (.iconst 1, 1) := dk_4 (dk_at dksX10_shortBy_0 15 rfl rfl)
theorem dX10_shortBy_16 : decode cX10_shortBy 16 = .ok (.goto 4, 3) := dk_167 0 4 (dk_at dksX10_shortBy_0 16 rfl rfl)
theorem dX10_shortBy_19 : decode cX10_shortBy 19 = .ok (.iconst 0, 1) := dk_3 (dk_at dksX10_shortBy_0 19 rfl rfl)
theorem dX10_shortBy_20 : decode cX10_shortBy 20 = .ok (.ireturn, 1) := dk_172 (dk_at dksX10_shortBy_0 20 rfl rfl)
theorem dX10_shortBy_21 : decode cX10_shortBy 21 = .ok (.iload_n 3, 1) := dk_29 (dk_at dksX10_shortBy_0 21 rfl rfl)
theorem dX10_shortBy_22 : decode cX10_shortBy 22 = .ok (.ifCond .ne 5, 3) := dk_154 0 5 (dk_at dksX10_shortBy_1 0 rfl rfl)
theorem dX10_shortBy_25 : decode cX10_shortBy 25 = .ok (.iconst 0, 1) := dk_3 (dk_at dksX10_shortBy_1 3 rfl rfl)
theorem dX10_shortBy_26 : decode cX10_shortBy 26 = .ok (.ireturn, 1) := dk_172 (dk_at dksX10_shortBy_1 4 rfl rfl)
theorem dX10_shortBy_27 : decode cX10_shortBy 27 = .ok (.iconst 0, 1) := dk_3 (dk_at dksX10_shortBy_1 5 rfl rfl)
theorem dX10_shortBy_28 : decode cX10_shortBy 28 = .ok (.istore 4, 2) := dk_54 4 (dk_at dksX10_shortBy_1 6 rfl rfl)
theorem dX10_shortBy_30 : decode cX10_shortBy 30 = .ok (.iload 4, 2) := dk_21 4 (dk_at dksX10_shortBy_1 8 rfl rfl)
theorem dX10_shortBy_32 : decode cX10_shortBy 32 = .ok (.iconst 2, 1) := dk_5 (dk_at dksX10_shortBy_1 10 rfl rfl)
theorem dX10_shortBy_33 : decode cX10_shortBy 33 = .ok (.aload_n 0, 1) := dk_42 (dk_at dksX10_shortBy_1 11 rfl rfl)
theorem dX10_shortBy_34 : decode cX10_shortBy 34 = .ok (.getfield 9, 3) := dk_180 0 9 (dk_at dksX10_shortBy_1 12 rfl rfl)
theorem dX10_shortBy_37 : decode cX10_shortBy 37 = .ok (.iconst 5, 1) := dk_8 (dk_at dksX10_shortBy_1 15 rfl rfl)
theorem dX10_shortBy_38 : decode cX10_shortBy 38 = .ok (.iaload, 1) := dk_46 (dk_at dksX10_shortBy_1 16 rfl rfl)
theorem dX10_shortBy_39 : decode cX10_shortBy 39 = .ok (.imul, 1) := dk_104 (dk_at dksX10_shortBy_1 17 rfl rfl)
theorem dX10_shortBy_40 : decode cX10_shortBy 40 = .ok (.if_icmp .ge 57, 3) := dk_162 0 57 (dk_at dksX10_shortBy_1 18 rfl rfl)
theorem dX10_shortBy_43 : decode cX10_shortBy 43 = .ok (.aload_n 0, 1) := dk_42 (dk_at dksX10_shortBy_1 21 rfl rfl)
theorem dX10_shortBy_44 : decode cX10_shortBy 44 = .ok (.iload 4, 2) := dk_21 4 (dk_at dksX10_shortBy_1 22 rfl rfl)
theorem dX10_shortBy_46 : decode cX10_shortBy 46 = .ok (.iconst 2, 1) := dk_5 (dk_at dksX10_shortBy_2 0 rfl rfl)
theorem dX10_shortBy_47 : decode cX10_shortBy 47 = .ok (.idiv, 1) := dk_108 (dk_at dksX10_shortBy_2 1 rfl rfl)
theorem dX10_shortBy_48 : decode cX10_shortBy 48 = .ok (.iload_n 1, 1) := dk_27 (dk_at dksX10_shortBy_2 2 rfl rfl)
theorem dX10_shortBy_49 : decode cX10_shortBy 49 = .ok (.iload 4, 2) := dk_21 4 (dk_at dksX10_shortBy_2 3 rfl rfl)
theorem dX10_shortBy_51 : decode cX10_shortBy 51 = .ok (.iconst 2, 1) := dk_5 (dk_at dksX10_shortBy_2 5 rfl rfl)
theorem dX10_shortBy_52 : decode cX10_shortBy 52 = .ok (.irem, 1) := dk_112 (dk_at dksX10_shortBy_2 6 rfl rfl)
theorem dX10_shortBy_53 : decode cX10_shortBy 53 = .ok (.iconst 1, 1) := dk_4 (dk_at dksX10_shortBy_2 7 rfl rfl)
theorem dX10_shortBy_54 : decode cX10_shortBy 54 = .ok (.if_icmp .ne 7, 3) := dk_160 0 7 (dk_at dksX10_shortBy_2 8 rfl rfl)
theorem dX10_shortBy_57 : decode cX10_shortBy 57 = .ok (.iconst 1, 1) := dk_4 (dk_at dksX10_shortBy_2 11 rfl rfl)
theorem dX10_shortBy_58 : decode cX10_shortBy 58 = .ok (.goto 4, 3) := dk_167 0 4 (dk_at dksX10_shortBy_2 12 rfl rfl)
theorem dX10_shortBy_61 : decode cX10_shortBy 61 = .ok (.iconst 0, 1) := dk_3 (dk_at dksX10_shortBy_2 15 rfl rfl)
theorem dX10_shortBy_62 : decode cX10_shortBy 62 = .ok (.iload_n 1, 1) := dk_27 (dk_at dksX10_shortBy_2 16 rfl rfl)
theorem dX10_shortBy_63 : decode cX10_shortBy 63 = .ok (.iconst 1, 1) := dk_4 (dk_at dksX10_shortBy_2 17 rfl rfl)
theorem dX10_shortBy_64 : decode cX10_shortBy 64 = .ok (.iadd, 1) := dk_96 (dk_at dksX10_shortBy_2 18 rfl rfl)
theorem dX10_shortBy_65 : decode cX10_shortBy 65 = .ok (.invokevirtual 356, 3) := dk_182 1 100 (dk_at dksX10_shortBy_2 19 rfl rfl)
theorem dX10_shortBy_68 : decode cX10_shortBy 68 = .ok (.aload_n 0, 1) := dk_42 (dk_at dksX10_shortBy_2 22 rfl rfl)
theorem dX10_shortBy_69 : decode cX10_shortBy 69 = .ok (.getfield 49, 3) := dk_180 0 49 (dk_at dksX10_shortBy_3 0 rfl rfl)
theorem dX10_shortBy_72 : decode cX10_shortBy 72 = .ok (.iload_n 1, 1) := dk_27 (dk_at dksX10_shortBy_3 3 rfl rfl)
theorem dX10_shortBy_73 : decode cX10_shortBy 73 = .ok (.iload 4, 2) := dk_21 4 (dk_at dksX10_shortBy_3 4 rfl rfl)
theorem dX10_shortBy_75 : decode cX10_shortBy 75 = .ok (.iastore, 1) := dk_79 (dk_at dksX10_shortBy_3 6 rfl rfl)
theorem dX10_shortBy_76 : decode cX10_shortBy 76 = .ok (.aload_n 0, 1) := dk_42 (dk_at dksX10_shortBy_3 7 rfl rfl)
theorem dX10_shortBy_77 : decode cX10_shortBy 77 = .ok (.iload_n 1, 1) := dk_27 (dk_at dksX10_shortBy_3 8 rfl rfl)
theorem dX10_shortBy_78 : decode cX10_shortBy 78 = .ok (.iconst 1, 1) := dk_4 (dk_at dksX10_shortBy_3 9 rfl rfl)
theorem dX10_shortBy_79 : decode cX10_shortBy 79 = .ok (.iadd, 1) := dk_96 (dk_at dksX10_shortBy_3 10 rfl rfl)
theorem dX10_shortBy_80 : decode cX10_shortBy 80 = .ok (.iload_n 2, 1) := dk_28 (dk_at dksX10_shortBy_3 11 rfl rfl)
theorem dX10_shortBy_81 : decode cX10_shortBy 81 = .ok (.iconst 1, 1) := dk_4 (dk_at dksX10_shortBy_3 12 rfl rfl)
theorem dX10_shortBy_82 : decode cX10_shortBy 82 = .ok (.isub, 1) := dk_100 (dk_at dksX10_shortBy_3 13 rfl rfl)
theorem dX10_shortBy_83 : decode cX10_shortBy 83 = .ok (.invokevirtual 383, 3) := dk_182 1 127 (dk_at dksX10_shortBy_3 14 rfl rfl)
theorem dX10_shortBy_86 : decode cX10_shortBy 86 = .ok (.ifCond .eq 5, 3) := dk_153 0 5 (dk_at dksX10_shortBy_3 17 rfl rfl)
theorem dX10_shortBy_89 : decode cX10_shortBy 89 = .ok (.iconst 1, 1) := dk_4 (dk_at dksX10_shortBy_3 20 rfl rfl)
theorem dX10_shortBy_90 : decode cX10_shortBy 90 = .ok (.ireturn, 1) := dk_172 (dk_at dksX10_shortBy_3 21 rfl rfl)
theorem dX10_shortBy_91 : decode cX10_shortBy 91 = .ok (.iinc 4 1, 3) := dk_132 4 1 (dk_at dksX10_shortBy_4 0 rfl rfl)
theorem dX10_shortBy_94 : decode cX10_shortBy 94 = .ok (.goto (-64), 3) := dk_167 255 192 (dk_at dksX10_shortBy_4 3 rfl rfl)
theorem dX10_shortBy_97 : decode cX10_shortBy 97 = .ok (.iconst 0, 1) := dk_3 (dk_at dksX10_shortBy_4 6 rfl rfl)
theorem dX10_shortBy_98 : decode cX10_shortBy 98 = .ok (.ireturn, 1) := dk_172 (dk_at dksX10_shortBy_4 7 rfl rfl)
abbrev cX10_liar : ByteArray := prog_33_method_92_code
def yX10_liar : MethodName := ⟨RX10, "liar", "(I)I"⟩
def dkwX10_liar_1 : List UInt8 := [3, 167, 0, 8, 42, 27, 182, 1, 136, 172]
abbrev dktX10_liar_1 : List UInt8 := dkwX10_liar_1 ++ []
def dkwX10_liar_0 : List UInt8 := [42, 42, 27, 182, 1, 14, 153, 0, 7, 3, 167, 0, 4, 4, 181, 0, 71, 42, 180, 0, 71, 158, 0, 7]
abbrev dktX10_liar_0 : List UInt8 := dkwX10_liar_0 ++ dktX10_liar_1
theorem dksX10_liar_0 : cX10_liar.data.toList.drop 0 = dktX10_liar_0 := by decide +kernel
theorem dksX10_liar_1 : cX10_liar.data.toList.drop 24 = dktX10_liar_1 := dk_seg dksX10_liar_0 24 rfl rfl
theorem dX10_liar_0 : decode cX10_liar 0 = .ok (.aload_n 0, 1) := dk_42 (dk_at dksX10_liar_0 0 rfl rfl)
theorem dX10_liar_1 : decode cX10_liar 1 = .ok (.aload_n 0, 1) := dk_42 (dk_at dksX10_liar_0 1 rfl rfl)
theorem dX10_liar_2 : decode cX10_liar 2 = .ok (.iload_n 1, 1) := dk_27 (dk_at dksX10_liar_0 2 rfl rfl)
theorem dX10_liar_3 : decode cX10_liar 3 = .ok (.invokevirtual 270, 3) := dk_182 1 14 (dk_at dksX10_liar_0 3 rfl rfl)
theorem dX10_liar_6 : decode cX10_liar 6 = .ok (.ifCond .eq 7, 3) := dk_153 0 7 (dk_at dksX10_liar_0 6 rfl rfl)
theorem dX10_liar_9 : decode cX10_liar 9 = .ok (.iconst 0, 1) := dk_3 (dk_at dksX10_liar_0 9 rfl rfl)
theorem dX10_liar_10 : decode cX10_liar 10 = .ok (.goto 4, 3) := dk_167 0 4 (dk_at dksX10_liar_0 10 rfl rfl)
theorem dX10_liar_13 : decode cX10_liar 13 = .ok (.iconst 1, 1) := dk_4 (dk_at dksX10_liar_0 13 rfl rfl)
theorem dX10_liar_14 : decode cX10_liar 14 = .ok (.putfield 71, 3) := dk_181 0 71 (dk_at dksX10_liar_0 14 rfl rfl)
theorem dX10_liar_17 : decode cX10_liar 17 = .ok (.aload_n 0, 1) := dk_42 (dk_at dksX10_liar_0 17 rfl rfl)
theorem dX10_liar_18 : decode cX10_liar 18 = .ok (.getfield 71, 3) := dk_180 0 71 (dk_at dksX10_liar_0 18 rfl rfl)
theorem dX10_liar_21 : decode cX10_liar 21 = .ok (.ifCond .le 7, 3) := dk_158 0 7 (dk_at dksX10_liar_0 21 rfl rfl)
theorem dX10_liar_24 : decode cX10_liar 24 = .ok (.iconst 0, 1) := dk_3 (dk_at dksX10_liar_1 0 rfl rfl)
theorem dX10_liar_25 : decode cX10_liar 25 = .ok (.goto 8, 3) := dk_167 0 8 (dk_at dksX10_liar_1 1 rfl rfl)
theorem dX10_liar_28 : decode cX10_liar 28 = .ok (.aload_n 0, 1) := dk_42 (dk_at dksX10_liar_1 4 rfl rfl)
theorem dX10_liar_29 : decode cX10_liar 29 = .ok (.iload_n 1, 1) := dk_27 (dk_at dksX10_liar_1 5 rfl rfl)
theorem dX10_liar_30 : decode cX10_liar 30 = .ok (.invokevirtual 392, 3) := dk_182 1 136 (dk_at dksX10_liar_1 6 rfl rfl)
theorem dX10_liar_33 : decode cX10_liar 33 = .ok (.ireturn, 1) := dk_172 (dk_at dksX10_liar_1 9 rfl rfl)
abbrev cX10_leftBy : ByteArray := prog_33_method_91_code
def yX10_leftBy : MethodName := ⟨RX10, "leftBy", "(I)I"⟩
def dkwX10_leftBy_2 : List UInt8 := [132, 2, 1, 167, 255, 220, 42, 182, 1, 80, 61, 42, 180, 0, 16, 42, 180, 0, 9, 184, 0, 246, 28, 172]
abbrev dktX10_leftBy_2 : List UInt8 := dkwX10_leftBy_2 ++ []
def dkwX10_leftBy_1 : List UInt8 := [180, 0, 9, 16, 8, 6, 28, 104, 96, 4, 96, 28, 27, 160, 0, 7, 4, 167, 0, 4, 3, 79]
abbrev dktX10_leftBy_1 : List UInt8 := dkwX10_leftBy_1 ++ dktX10_leftBy_2
def dkwX10_leftBy_0 : List UInt8 := [42, 180, 0, 9, 42, 180, 0, 16, 184, 0, 246, 3, 61, 28, 42, 180, 0, 9, 8, 46, 162, 0, 32, 42]
abbrev dktX10_leftBy_0 : List UInt8 := dkwX10_leftBy_0 ++ dktX10_leftBy_1
theorem dksX10_leftBy_0 : cX10_leftBy.data.toList.drop 0 = dktX10_leftBy_0 := by decide +kernel
theorem dksX10_leftBy_1 : cX10_leftBy.data.toList.drop 24 = dktX10_leftBy_1 := dk_seg dksX10_leftBy_0 24 rfl rfl
theorem dksX10_leftBy_2 : cX10_leftBy.data.toList.drop 46 = dktX10_leftBy_2 := dk_seg dksX10_leftBy_1 22 rfl rfl
theorem dX10_leftBy_0 : decode cX10_leftBy 0 = .ok (.aload_n 0, 1) := dk_42 (dk_at dksX10_leftBy_0 0 rfl rfl)
theorem dX10_leftBy_1 : decode cX10_leftBy 1 = .ok (.getfield 9, 3) := dk_180 0 9 (dk_at dksX10_leftBy_0 1 rfl rfl)
theorem dX10_leftBy_4 : decode cX10_leftBy 4 = .ok (.aload_n 0, 1) := dk_42 (dk_at dksX10_leftBy_0 4 rfl rfl)
theorem dX10_leftBy_5 : decode cX10_leftBy 5 = .ok (.getfield 16, 3) := dk_180 0 16 (dk_at dksX10_leftBy_0 5 rfl rfl)
theorem dX10_leftBy_8 : decode cX10_leftBy 8 = .ok (.invokestatic 246, 3) := dk_184 0 246 (dk_at dksX10_leftBy_0 8 rfl rfl)
theorem dX10_leftBy_11 : decode cX10_leftBy 11 = .ok (.iconst 0, 1) := dk_3 (dk_at dksX10_leftBy_0 11 rfl rfl)
theorem dX10_leftBy_12 : decode cX10_leftBy 12 = .ok (.istore_n 2, 1) := dk_61 (dk_at dksX10_leftBy_0 12 rfl rfl)
theorem dX10_leftBy_13 : decode cX10_leftBy 13 = .ok (.iload_n 2, 1) := dk_28 (dk_at dksX10_leftBy_0 13 rfl rfl)
theorem dX10_leftBy_14 : decode cX10_leftBy 14 = .ok (.aload_n 0, 1) := dk_42 (dk_at dksX10_leftBy_0 14 rfl rfl)
theorem dX10_leftBy_15 : decode cX10_leftBy 15 = .ok (.getfield 9, 3) := dk_180 0 9 (dk_at dksX10_leftBy_0 15 rfl rfl)
theorem dX10_leftBy_18 : decode cX10_leftBy 18 = .ok (.iconst 5, 1) := dk_8 (dk_at dksX10_leftBy_0 18 rfl rfl)
theorem dX10_leftBy_19 : decode cX10_leftBy 19 = .ok (.iaload, 1) := dk_46 (dk_at dksX10_leftBy_0 19 rfl rfl)
theorem dX10_leftBy_20 : decode cX10_leftBy 20 = .ok (.if_icmp .ge 32, 3) := dk_162 0 32 (dk_at dksX10_leftBy_0 20 rfl rfl)
theorem dX10_leftBy_23 : decode cX10_leftBy 23 = .ok (.aload_n 0, 1) := dk_42 (dk_at dksX10_leftBy_0 23 rfl rfl)
theorem dX10_leftBy_24 : decode cX10_leftBy 24 = .ok (.getfield 9, 3) := dk_180 0 9 (dk_at dksX10_leftBy_1 0 rfl rfl)
theorem dX10_leftBy_27 : decode cX10_leftBy 27 = .ok (.bipush 8, 2) := dk_16 8 (dk_at dksX10_leftBy_1 3 rfl rfl)
theorem dX10_leftBy_29 : decode cX10_leftBy 29 = .ok (.iconst 3, 1) := dk_6 (dk_at dksX10_leftBy_1 5 rfl rfl)
theorem dX10_leftBy_30 : decode cX10_leftBy 30 = .ok (.iload_n 2, 1) := dk_28 (dk_at dksX10_leftBy_1 6 rfl rfl)
theorem dX10_leftBy_31 : decode cX10_leftBy 31 = .ok (.imul, 1) := dk_104 (dk_at dksX10_leftBy_1 7 rfl rfl)
theorem dX10_leftBy_32 : decode cX10_leftBy 32 = .ok (.iadd, 1) := dk_96 (dk_at dksX10_leftBy_1 8 rfl rfl)
theorem dX10_leftBy_33 : decode cX10_leftBy 33 = .ok (.iconst 1, 1) := dk_4 (dk_at dksX10_leftBy_1 9 rfl rfl)
theorem dX10_leftBy_34 : decode cX10_leftBy 34 = .ok (.iadd, 1) := dk_96 (dk_at dksX10_leftBy_1 10 rfl rfl)
theorem dX10_leftBy_35 : decode cX10_leftBy 35 = .ok (.iload_n 2, 1) := dk_28 (dk_at dksX10_leftBy_1 11 rfl rfl)
theorem dX10_leftBy_36 : decode cX10_leftBy 36 = .ok (.iload_n 1, 1) := dk_27 (dk_at dksX10_leftBy_1 12 rfl rfl)
theorem dX10_leftBy_37 : decode cX10_leftBy 37 = .ok (.if_icmp .ne 7, 3) := dk_160 0 7 (dk_at dksX10_leftBy_1 13 rfl rfl)
theorem dX10_leftBy_40 : decode cX10_leftBy 40 = .ok (.iconst 1, 1) := dk_4 (dk_at dksX10_leftBy_1 16 rfl rfl)
theorem dX10_leftBy_41 : decode cX10_leftBy 41 = .ok (.goto 4, 3) := dk_167 0 4 (dk_at dksX10_leftBy_1 17 rfl rfl)
theorem dX10_leftBy_44 : decode cX10_leftBy 44 = .ok (.iconst 0, 1) := dk_3 (dk_at dksX10_leftBy_1 20 rfl rfl)
theorem dX10_leftBy_45 : decode cX10_leftBy 45 = .ok (.iastore, 1) := dk_79 (dk_at dksX10_leftBy_1 21 rfl rfl)
theorem dX10_leftBy_46 : decode cX10_leftBy 46 = .ok (.iinc 2 1, 3) := dk_132 2 1 (dk_at dksX10_leftBy_2 0 rfl rfl)
theorem dX10_leftBy_49 : decode cX10_leftBy 49 = .ok (.goto (-36), 3) := dk_167 255 220 (dk_at dksX10_leftBy_2 3 rfl rfl)
theorem dX10_leftBy_52 : decode cX10_leftBy 52 = .ok (.aload_n 0, 1) := dk_42 (dk_at dksX10_leftBy_2 6 rfl rfl)
theorem dX10_leftBy_53 : decode cX10_leftBy 53 = .ok (.invokevirtual 336, 3) := dk_182 1 80 (dk_at dksX10_leftBy_2 7 rfl rfl)
theorem dX10_leftBy_56 : decode cX10_leftBy 56 = .ok (.istore_n 2, 1) := dk_61 (dk_at dksX10_leftBy_2 10 rfl rfl)
theorem dX10_leftBy_57 : decode cX10_leftBy 57 = .ok (.aload_n 0, 1) := dk_42 (dk_at dksX10_leftBy_2 11 rfl rfl)
theorem dX10_leftBy_58 : decode cX10_leftBy 58 = .ok (.getfield 16, 3) := dk_180 0 16 (dk_at dksX10_leftBy_2 12 rfl rfl)
theorem dX10_leftBy_61 : decode cX10_leftBy 61 = .ok (.aload_n 0, 1) := dk_42 (dk_at dksX10_leftBy_2 15 rfl rfl)
theorem dX10_leftBy_62 : decode cX10_leftBy 62 = .ok (.getfield 9, 3) := dk_180 0 9 (dk_at dksX10_leftBy_2 16 rfl rfl)
theorem dX10_leftBy_65 : decode cX10_leftBy 65 = .ok (.invokestatic 246, 3) := dk_184 0 246 (dk_at dksX10_leftBy_2 19 rfl rfl)
theorem dX10_leftBy_68 : decode cX10_leftBy 68 = .ok (.iload_n 2, 1) := dk_28 (dk_at dksX10_leftBy_2 22 rfl rfl)
theorem dX10_leftBy_69 : decode cX10_leftBy 69 = .ok (.ireturn, 1) := dk_172 (dk_at dksX10_leftBy_2 23 rfl rfl)
abbrev cX10_which : ByteArray := prog_33_method_93_code
def yX10_which : MethodName := ⟨RX10, "which", "()I"⟩
def dkwX10_which_1 : List UInt8 := [182, 1, 136, 4, 160, 0, 9, 4, 28, 120, 167, 0, 4, 3, 128, 60, 132, 2, 1, 167, 255, 224, 27, 172]
abbrev dktX10_which_1 : List UInt8 := dkwX10_which_1 ++ []
def dkwX10_which_0 : List UInt8 := [42, 3, 181, 0, 71, 3, 60, 3, 61, 28, 42, 180, 0, 9, 8, 46, 162, 0, 28, 27, 42, 28]
abbrev dktX10_which_0 : List UInt8 := dkwX10_which_0 ++ dktX10_which_1
theorem dksX10_which_0 : cX10_which.data.toList.drop 0 = dktX10_which_0 := by decide +kernel
theorem dksX10_which_1 : cX10_which.data.toList.drop 22 = dktX10_which_1 := dk_seg dksX10_which_0 22 rfl rfl
theorem dX10_which_0 : decode cX10_which 0 = .ok (.aload_n 0, 1) := dk_42 (dk_at dksX10_which_0 0 rfl rfl)
theorem dX10_which_1 : decode cX10_which 1 = .ok (.iconst 0, 1) := dk_3 (dk_at dksX10_which_0 1 rfl rfl)
theorem dX10_which_2 : decode cX10_which 2 = .ok (.putfield 71, 3) := dk_181 0 71 (dk_at dksX10_which_0 2 rfl rfl)
theorem dX10_which_5 : decode cX10_which 5 = .ok (.iconst 0, 1) := dk_3 (dk_at dksX10_which_0 5 rfl rfl)
theorem dX10_which_6 : decode cX10_which 6 = .ok (.istore_n 1, 1) := dk_60 (dk_at dksX10_which_0 6 rfl rfl)
theorem dX10_which_7 : decode cX10_which 7 = .ok (.iconst 0, 1) := dk_3 (dk_at dksX10_which_0 7 rfl rfl)
theorem dX10_which_8 : decode cX10_which 8 = .ok (.istore_n 2, 1) := dk_61 (dk_at dksX10_which_0 8 rfl rfl)
theorem dX10_which_9 : decode cX10_which 9 = .ok (.iload_n 2, 1) := dk_28 (dk_at dksX10_which_0 9 rfl rfl)
theorem dX10_which_10 : decode cX10_which 10 = .ok (.aload_n 0, 1) := dk_42 (dk_at dksX10_which_0 10 rfl rfl)
theorem dX10_which_11 : decode cX10_which 11 = .ok (.getfield 9, 3) := dk_180 0 9 (dk_at dksX10_which_0 11 rfl rfl)
theorem dX10_which_14 : decode cX10_which 14 = .ok (.iconst 5, 1) := dk_8 (dk_at dksX10_which_0 14 rfl rfl)
theorem dX10_which_15 : decode cX10_which 15 = .ok (.iaload, 1) := dk_46 (dk_at dksX10_which_0 15 rfl rfl)
theorem dX10_which_16 : decode cX10_which 16 = .ok (.if_icmp .ge 28, 3) := dk_162 0 28 (dk_at dksX10_which_0 16 rfl rfl)
theorem dX10_which_19 : decode cX10_which 19 = .ok (.iload_n 1, 1) := dk_27 (dk_at dksX10_which_0 19 rfl rfl)
theorem dX10_which_20 : decode cX10_which 20 = .ok (.aload_n 0, 1) := dk_42 (dk_at dksX10_which_0 20 rfl rfl)
theorem dX10_which_21 : decode cX10_which 21 = .ok (.iload_n 2, 1) := dk_28 (dk_at dksX10_which_0 21 rfl rfl)
theorem dX10_which_22 : decode cX10_which 22 = .ok (.invokevirtual 392, 3) := dk_182 1 136 (dk_at dksX10_which_1 0 rfl rfl)
theorem dX10_which_25 : decode cX10_which 25 = .ok (.iconst 1, 1) := dk_4 (dk_at dksX10_which_1 3 rfl rfl)
theorem dX10_which_26 : decode cX10_which 26 = .ok (.if_icmp .ne 9, 3) := dk_160 0 9 (dk_at dksX10_which_1 4 rfl rfl)
theorem dX10_which_29 : decode cX10_which 29 = .ok (.iconst 1, 1) := dk_4 (dk_at dksX10_which_1 7 rfl rfl)
theorem dX10_which_30 : decode cX10_which 30 = .ok (.iload_n 2, 1) := dk_28 (dk_at dksX10_which_1 8 rfl rfl)
theorem dX10_which_31 : decode cX10_which 31 = .ok (.ishl, 1) := dk_120 (dk_at dksX10_which_1 9 rfl rfl)
theorem dX10_which_32 : decode cX10_which 32 = .ok (.goto 4, 3) := dk_167 0 4 (dk_at dksX10_which_1 10 rfl rfl)
theorem dX10_which_35 : decode cX10_which 35 = .ok (.iconst 0, 1) := dk_3 (dk_at dksX10_which_1 13 rfl rfl)
theorem dX10_which_36 : decode cX10_which 36 = .ok (.ior, 1) := dk_128 (dk_at dksX10_which_1 14 rfl rfl)
theorem dX10_which_37 : decode cX10_which 37 = .ok (.istore_n 1, 1) := dk_60 (dk_at dksX10_which_1 15 rfl rfl)
theorem dX10_which_38 : decode cX10_which 38 = .ok (.iinc 2 1, 3) := dk_132 2 1 (dk_at dksX10_which_1 16 rfl rfl)
theorem dX10_which_41 : decode cX10_which 41 = .ok (.goto (-32), 3) := dk_167 255 224 (dk_at dksX10_which_1 19 rfl rfl)
theorem dX10_which_44 : decode cX10_which 44 = .ok (.iload_n 1, 1) := dk_27 (dk_at dksX10_which_1 22 rfl rfl)
theorem dX10_which_45 : decode cX10_which 45 = .ok (.ireturn, 1) := dk_172 (dk_at dksX10_which_1 23 rfl rfl)
abbrev cX10_orders : ByteArray := prog_33_method_95_code
def yX10_orders : MethodName := ⟨RX10, "orders", "(II)I"⟩
def dkwX10_orders_4 : List UInt8 := [16, 6, 46, 4, 100, 133, 184, 0, 133, 153, 0, 12, 42, 180, 0, 55, 28, 46, 167, 0, 4, 2, 172]
abbrev dktX10_orders_4 : List UInt8 := dkwX10_orders_4 ++ []
def dkwX10_orders_3 : List UInt8 := [160, 0, 10, 42, 180, 1, 139, 167, 0, 39, 42, 180, 1, 139, 158, 0, 31, 28, 133, 9, 42, 180, 0, 9]
abbrev dktX10_orders_3 : List UInt8 := dkwX10_orders_3 ++ dktX10_orders_4
def dkwX10_orders_2 : List UInt8 := [181, 1, 139, 42, 3, 3, 27, 182, 1, 142, 42, 180, 0, 16, 42, 180, 0, 9, 184, 0, 246, 28, 2]
abbrev dktX10_orders_2 : List UInt8 := dkwX10_orders_2 ++ dktX10_orders_3
def dkwX10_orders_1 : List UInt8 := [16, 6, 46, 16, 6, 164, 0, 5, 2, 172, 42, 180, 0, 9, 42, 180, 0, 16, 184, 0, 246, 42, 3]
abbrev dktX10_orders_1 : List UInt8 := dkwX10_orders_1 ++ dktX10_orders_2
def dkwX10_orders_0 : List UInt8 := [42, 3, 181, 0, 71, 42, 27, 182, 1, 0, 154, 0, 9, 42, 4, 182, 0, 237, 172, 42, 180, 0, 9]
abbrev dktX10_orders_0 : List UInt8 := dkwX10_orders_0 ++ dktX10_orders_1
theorem dksX10_orders_0 : cX10_orders.data.toList.drop 0 = dktX10_orders_0 := by decide +kernel
theorem dksX10_orders_1 : cX10_orders.data.toList.drop 23 = dktX10_orders_1 := dk_seg dksX10_orders_0 23 rfl rfl
theorem dksX10_orders_2 : cX10_orders.data.toList.drop 46 = dktX10_orders_2 := dk_seg dksX10_orders_1 23 rfl rfl
theorem dksX10_orders_3 : cX10_orders.data.toList.drop 69 = dktX10_orders_3 := dk_seg dksX10_orders_2 23 rfl rfl
theorem dksX10_orders_4 : cX10_orders.data.toList.drop 93 = dktX10_orders_4 := dk_seg dksX10_orders_3 24 rfl rfl
theorem dX10_orders_0 : decode cX10_orders 0 = .ok (.aload_n 0, 1) := dk_42 (dk_at dksX10_orders_0 0 rfl rfl)
theorem dX10_orders_1 : decode cX10_orders 1 = .ok (.iconst 0, 1) := dk_3 (dk_at dksX10_orders_0 1 rfl rfl)
theorem dX10_orders_2 : decode cX10_orders 2 = .ok (.putfield 71, 3) := dk_181 0 71 (dk_at dksX10_orders_0 2 rfl rfl)
theorem dX10_orders_5 : decode cX10_orders 5 = .ok (.aload_n 0, 1) := dk_42 (dk_at dksX10_orders_0 5 rfl rfl)
theorem dX10_orders_6 : decode cX10_orders 6 = .ok (.iload_n 1, 1) := dk_27 (dk_at dksX10_orders_0 6 rfl rfl)
theorem dX10_orders_7 : decode cX10_orders 7 = .ok (.invokevirtual 256, 3) := dk_182 1 0 (dk_at dksX10_orders_0 7 rfl rfl)
theorem dX10_orders_10 : decode cX10_orders 10 = .ok (.ifCond .ne 9, 3) := dk_154 0 9 (dk_at dksX10_orders_0 10 rfl rfl)
theorem dX10_orders_13 : decode cX10_orders 13 = .ok (.aload_n 0, 1) := dk_42 (dk_at dksX10_orders_0 13 rfl rfl)
theorem dX10_orders_14 : decode cX10_orders 14 = .ok (.iconst 1, 1) := dk_4 (dk_at dksX10_orders_0 14 rfl rfl)
theorem dX10_orders_15 : decode cX10_orders 15 = .ok (.invokevirtual 237, 3) := dk_182 0 237 (dk_at dksX10_orders_0 15 rfl rfl)
theorem dX10_orders_18 : decode cX10_orders 18 = .ok (.ireturn, 1) := dk_172 (dk_at dksX10_orders_0 18 rfl rfl)
theorem dX10_orders_19 : decode cX10_orders 19 = .ok (.aload_n 0, 1) := dk_42 (dk_at dksX10_orders_0 19 rfl rfl)
theorem dX10_orders_20 : decode cX10_orders 20 = .ok (.getfield 9, 3) := dk_180 0 9 (dk_at dksX10_orders_0 20 rfl rfl)
theorem dX10_orders_23 : decode cX10_orders 23 = .ok (.bipush 6, 2) := dk_16 6 (dk_at dksX10_orders_1 0 rfl rfl)
theorem dX10_orders_25 : decode cX10_orders 25 = .ok (.iaload, 1) := dk_46 (dk_at dksX10_orders_1 2 rfl rfl)
theorem dX10_orders_26 : decode cX10_orders 26 = .ok (.bipush 6, 2) := dk_16 6 (dk_at dksX10_orders_1 3 rfl rfl)
theorem dX10_orders_28 : decode cX10_orders 28 = .ok (.if_icmp .le 5, 3) := dk_164 0 5 (dk_at dksX10_orders_1 5 rfl rfl)
theorem dX10_orders_31 : decode cX10_orders 31 = .ok (.iconst (-1), 1) := dk_2 (dk_at dksX10_orders_1 8 rfl rfl)
theorem dX10_orders_32 : decode cX10_orders 32 = .ok (.ireturn, 1) := dk_172 (dk_at dksX10_orders_1 9 rfl rfl)
theorem dX10_orders_33 : decode cX10_orders 33 = .ok (.aload_n 0, 1) := dk_42 (dk_at dksX10_orders_1 10 rfl rfl)
theorem dX10_orders_34 : decode cX10_orders 34 = .ok (.getfield 9, 3) := dk_180 0 9 (dk_at dksX10_orders_1 11 rfl rfl)
theorem dX10_orders_37 : decode cX10_orders 37 = .ok (.aload_n 0, 1) := dk_42 (dk_at dksX10_orders_1 14 rfl rfl)
theorem dX10_orders_38 : decode cX10_orders 38 = .ok (.getfield 16, 3) := dk_180 0 16 (dk_at dksX10_orders_1 15 rfl rfl)
theorem dX10_orders_41 : decode cX10_orders 41 = .ok (.invokestatic 246, 3) := dk_184 0 246 (dk_at dksX10_orders_1 18 rfl rfl)
theorem dX10_orders_44 : decode cX10_orders 44 = .ok (.aload_n 0, 1) := dk_42 (dk_at dksX10_orders_1 21 rfl rfl)
theorem dX10_orders_45 : decode cX10_orders 45 = .ok (.iconst 0, 1) := dk_3 (dk_at dksX10_orders_1 22 rfl rfl)
theorem dX10_orders_46 : decode cX10_orders 46 = .ok (.putfield 395, 3) := dk_181 1 139 (dk_at dksX10_orders_2 0 rfl rfl)
theorem dX10_orders_49 : decode cX10_orders 49 = .ok (.aload_n 0, 1) := dk_42 (dk_at dksX10_orders_2 3 rfl rfl)
theorem dX10_orders_50 : decode cX10_orders 50 = .ok (.iconst 0, 1) := dk_3 (dk_at dksX10_orders_2 4 rfl rfl)
theorem dX10_orders_51 : decode cX10_orders 51 = .ok (.iconst 0, 1) := dk_3 (dk_at dksX10_orders_2 5 rfl rfl)
theorem dX10_orders_52 : decode cX10_orders 52 = .ok (.iload_n 1, 1) := dk_27 (dk_at dksX10_orders_2 6 rfl rfl)
theorem dX10_orders_53 : decode cX10_orders 53 = .ok (.invokevirtual 398, 3) := dk_182 1 142 (dk_at dksX10_orders_2 7 rfl rfl)
theorem dX10_orders_56 : decode cX10_orders 56 = .ok (.aload_n 0, 1) := dk_42 (dk_at dksX10_orders_2 10 rfl rfl)
theorem dX10_orders_57 : decode cX10_orders 57 = .ok (.getfield 16, 3) := dk_180 0 16 (dk_at dksX10_orders_2 11 rfl rfl)
theorem dX10_orders_60 : decode cX10_orders 60 = .ok (.aload_n 0, 1) := dk_42 (dk_at dksX10_orders_2 14 rfl rfl)
theorem dX10_orders_61 : decode cX10_orders 61 = .ok (.getfield 9, 3) := dk_180 0 9 (dk_at dksX10_orders_2 15 rfl rfl)
theorem dX10_orders_64 : decode cX10_orders 64 = .ok (.invokestatic 246, 3) := dk_184 0 246 (dk_at dksX10_orders_2 18 rfl rfl)
theorem dX10_orders_67 : decode cX10_orders 67 = .ok (.iload_n 2, 1) := dk_28 (dk_at dksX10_orders_2 21 rfl rfl)
theorem dX10_orders_68 : decode cX10_orders 68 = .ok (.iconst (-1), 1) := dk_2 (dk_at dksX10_orders_2 22 rfl rfl)
theorem dX10_orders_69 : decode cX10_orders 69 = .ok (.if_icmp .ne 10, 3) := dk_160 0 10 (dk_at dksX10_orders_3 0 rfl rfl)
theorem dX10_orders_72 : decode cX10_orders 72 = .ok (.aload_n 0, 1) := dk_42 (dk_at dksX10_orders_3 3 rfl rfl)
theorem dX10_orders_73 : decode cX10_orders 73 = .ok (.getfield 395, 3) := dk_180 1 139 (dk_at dksX10_orders_3 4 rfl rfl)
theorem dX10_orders_76 : decode cX10_orders 76 = .ok (.goto 39, 3) := dk_167 0 39 (dk_at dksX10_orders_3 7 rfl rfl)
theorem dX10_orders_79 : decode cX10_orders 79 = .ok (.aload_n 0, 1) := dk_42 (dk_at dksX10_orders_3 10 rfl rfl)
theorem dX10_orders_80 : decode cX10_orders 80 = .ok (.getfield 395, 3) := dk_180 1 139 (dk_at dksX10_orders_3 11 rfl rfl)
theorem dX10_orders_83 : decode cX10_orders 83 = .ok (.ifCond .le 31, 3) := dk_158 0 31 (dk_at dksX10_orders_3 14 rfl rfl)
theorem dX10_orders_86 : decode cX10_orders 86 = .ok (.iload_n 2, 1) := dk_28 (dk_at dksX10_orders_3 17 rfl rfl)
theorem dX10_orders_87 : decode cX10_orders 87 = .ok (.i2l, 1) := dk_133 (dk_at dksX10_orders_3 18 rfl rfl)
theorem dX10_orders_88 : decode cX10_orders 88 = .ok (.lconst 0, 1) := dk_9 (dk_at dksX10_orders_3 19 rfl rfl)
theorem dX10_orders_89 : decode cX10_orders 89 = .ok (.aload_n 0, 1) := dk_42 (dk_at dksX10_orders_3 20 rfl rfl)
theorem dX10_orders_90 : decode cX10_orders 90 = .ok (.getfield 9, 3) := dk_180 0 9 (dk_at dksX10_orders_3 21 rfl rfl)
theorem dX10_orders_93 : decode cX10_orders 93 = .ok (.bipush 6, 2) := dk_16 6 (dk_at dksX10_orders_4 0 rfl rfl)
theorem dX10_orders_95 : decode cX10_orders 95 = .ok (.iaload, 1) := dk_46 (dk_at dksX10_orders_4 2 rfl rfl)
theorem dX10_orders_96 : decode cX10_orders 96 = .ok (.iconst 1, 1) := dk_4 (dk_at dksX10_orders_4 3 rfl rfl)
theorem dX10_orders_97 : decode cX10_orders 97 = .ok (.isub, 1) := dk_100 (dk_at dksX10_orders_4 4 rfl rfl)
theorem dX10_orders_98 : decode cX10_orders 98 = .ok (.i2l, 1) := dk_133 (dk_at dksX10_orders_4 5 rfl rfl)
theorem dX10_orders_99 : decode cX10_orders 99 = .ok (.invokestatic 133, 3) := dk_184 0 133 (dk_at dksX10_orders_4 6 rfl rfl)
theorem dX10_orders_102 : decode cX10_orders 102 = .ok (.ifCond .eq 12, 3) := dk_153 0 12 (dk_at dksX10_orders_4 9 rfl rfl)
theorem dX10_orders_105 : decode cX10_orders 105 = .ok (.aload_n 0, 1) := dk_42 (dk_at dksX10_orders_4 12 rfl rfl)
theorem dX10_orders_106 : decode cX10_orders 106 = .ok (.getfield 55, 3) := dk_180 0 55 (dk_at dksX10_orders_4 13 rfl rfl)
theorem dX10_orders_109 : decode cX10_orders 109 = .ok (.iload_n 2, 1) := dk_28 (dk_at dksX10_orders_4 16 rfl rfl)
theorem dX10_orders_110 : decode cX10_orders 110 = .ok (.iaload, 1) := dk_46 (dk_at dksX10_orders_4 17 rfl rfl)
theorem dX10_orders_111 : decode cX10_orders 111 = .ok (.goto 4, 3) := dk_167 0 4 (dk_at dksX10_orders_4 18 rfl rfl)
theorem dX10_orders_114 : decode cX10_orders 114 = .ok (.iconst (-1), 1) := dk_2 (dk_at dksX10_orders_4 21 rfl rfl)
theorem dX10_orders_115 : decode cX10_orders 115 = .ok (.ireturn, 1) := dk_172 (dk_at dksX10_orders_4 22 rfl rfl)
abbrev cX10_triesOrders : ByteArray := prog_33_method_94_code
def yX10_triesOrders : MethodName := ⟨RX10, "triesOrders", "(III)V"⟩
def dkwX10_triesOrders_7 : List UInt8 := [128, 28, 4, 96, 29, 182, 1, 142, 132, 5, 1, 167, 255, 161, 177]
abbrev dktX10_triesOrders_7 : List UInt8 := dkwX10_triesOrders_7 ++ []
def dkwX10_triesOrders_6 : List UInt8 := [96, 4, 96, 42, 180, 0, 16, 16, 26, 5, 21, 5, 104, 96, 4, 96, 46, 79, 42, 27, 4, 21, 5, 120]
abbrev dktX10_triesOrders_6 : List UInt8 := dkwX10_triesOrders_6 ++ dktX10_triesOrders_7
def dkwX10_triesOrders_5 : List UInt8 := [104, 96, 42, 180, 0, 16, 16, 26, 5, 21, 5, 104, 96, 46, 79, 42, 180, 0, 9, 16, 26, 5, 28, 104]
abbrev dktX10_triesOrders_5 : List UInt8 := dkwX10_triesOrders_5 ++ dktX10_triesOrders_6
def dkwX10_triesOrders_4 : List UInt8 := [126, 4, 160, 0, 6, 167, 0, 75, 42, 180, 0, 52, 28, 21, 5, 79, 42, 180, 0, 9, 16, 26, 5, 28]
abbrev dktX10_triesOrders_4 : List UInt8 := dkwX10_triesOrders_4 ++ dktX10_triesOrders_5
def dkwX10_triesOrders_3 : List UInt8 := [180, 1, 139, 4, 96, 181, 1, 139, 177, 3, 54, 5, 21, 5, 21, 4, 162, 0, 94, 27, 21, 5, 122, 4]
abbrev dktX10_triesOrders_3 : List UInt8 := dkwX10_triesOrders_3 ++ dktX10_triesOrders_4
def dkwX10_triesOrders_2 : List UInt8 := [42, 180, 0, 55, 21, 5, 42, 180, 0, 52, 21, 5, 46, 79, 132, 5, 1, 167, 255, 225, 42, 89]
abbrev dktX10_triesOrders_2 : List UInt8 := dkwX10_triesOrders_2 ++ dktX10_triesOrders_3
def dkwX10_triesOrders_1 : List UInt8 := [182, 1, 37, 154, 0, 4, 177, 3, 54, 5, 21, 5, 21, 4, 162, 0, 30, 42, 180, 1, 139, 154, 0, 23]
abbrev dktX10_triesOrders_1 : List UInt8 := dkwX10_triesOrders_1 ++ dktX10_triesOrders_2
def dkwX10_triesOrders_0 : List UInt8 := [42, 180, 0, 16, 16, 6, 46, 54, 4, 28, 21, 4, 160, 0, 66, 42, 182, 1, 74, 42, 21, 4, 29]
abbrev dktX10_triesOrders_0 : List UInt8 := dkwX10_triesOrders_0 ++ dktX10_triesOrders_1
theorem dksX10_triesOrders_0 : cX10_triesOrders.data.toList.drop 0 = dktX10_triesOrders_0 := by decide +kernel
theorem dksX10_triesOrders_1 : cX10_triesOrders.data.toList.drop 23 = dktX10_triesOrders_1 := dk_seg dksX10_triesOrders_0 23 rfl rfl
theorem dksX10_triesOrders_2 : cX10_triesOrders.data.toList.drop 47 = dktX10_triesOrders_2 := dk_seg dksX10_triesOrders_1 24 rfl rfl
theorem dksX10_triesOrders_3 : cX10_triesOrders.data.toList.drop 69 = dktX10_triesOrders_3 := dk_seg dksX10_triesOrders_2 22 rfl rfl
theorem dksX10_triesOrders_4 : cX10_triesOrders.data.toList.drop 93 = dktX10_triesOrders_4 := dk_seg dksX10_triesOrders_3 24 rfl rfl
theorem dksX10_triesOrders_5 : cX10_triesOrders.data.toList.drop 117 = dktX10_triesOrders_5 := dk_seg dksX10_triesOrders_4 24 rfl rfl
theorem dksX10_triesOrders_6 : cX10_triesOrders.data.toList.drop 141 = dktX10_triesOrders_6 := dk_seg dksX10_triesOrders_5 24 rfl rfl
theorem dksX10_triesOrders_7 : cX10_triesOrders.data.toList.drop 165 = dktX10_triesOrders_7 := dk_seg dksX10_triesOrders_6 24 rfl rfl
theorem dX10_triesOrders_0 : decode cX10_triesOrders 0 = .ok (.aload_n 0, 1) := dk_42 (dk_at dksX10_triesOrders_0 0 rfl rfl)
theorem dX10_triesOrders_1 : decode cX10_triesOrders 1 = .ok (.getfield 16, 3) := dk_180 0 16 (dk_at dksX10_triesOrders_0 1 rfl rfl)
theorem dX10_triesOrders_4 : decode cX10_triesOrders 4 = .ok (.bipush 6, 2) := dk_16 6 (dk_at dksX10_triesOrders_0 4 rfl rfl)
theorem dX10_triesOrders_6 : decode cX10_triesOrders 6 = .ok (.iaload, 1) := dk_46 (dk_at dksX10_triesOrders_0 6 rfl rfl)
theorem dX10_triesOrders_7 : decode cX10_triesOrders 7 = .ok (.istore 4, 2) := dk_54 4 (dk_at dksX10_triesOrders_0 7 rfl rfl)
theorem dX10_triesOrders_9 : decode cX10_triesOrders 9 = .ok (.iload_n 2, 1) := dk_28 (dk_at dksX10_triesOrders_0 9 rfl rfl)
theorem dX10_triesOrders_10 : decode cX10_triesOrders 10 = .ok (.iload 4, 2) := dk_21 4 (dk_at dksX10_triesOrders_0 10 rfl rfl)
theorem dX10_triesOrders_12 : decode cX10_triesOrders 12 = .ok (.if_icmp .ne 66, 3) := dk_160 0 66 (dk_at dksX10_triesOrders_0 12 rfl rfl)
theorem dX10_triesOrders_15 : decode cX10_triesOrders 15 = .ok (.aload_n 0, 1) := dk_42 (dk_at dksX10_triesOrders_0 15 rfl rfl)
theorem dX10_triesOrders_16 : decode cX10_triesOrders 16 = .ok (.invokevirtual 330, 3) := dk_182 1 74 (dk_at dksX10_triesOrders_0 16 rfl rfl)
theorem dX10_triesOrders_19 : decode cX10_triesOrders 19 = .ok (.aload_n 0, 1) := dk_42 (dk_at dksX10_triesOrders_0 19 rfl rfl)
theorem dX10_triesOrders_20 : decode cX10_triesOrders 20 = .ok (.iload 4, 2) := dk_21 4 (dk_at dksX10_triesOrders_0 20 rfl rfl)
theorem dX10_triesOrders_22 : decode cX10_triesOrders 22 = .ok (.iload_n 3, 1) := dk_29 (dk_at dksX10_triesOrders_0 22 rfl rfl)
theorem dX10_triesOrders_23 : decode cX10_triesOrders 23 = .ok (.invokevirtual 293, 3) := dk_182 1 37 (dk_at dksX10_triesOrders_1 0 rfl rfl)
theorem dX10_triesOrders_26 : decode cX10_triesOrders 26 = .ok (.ifCond .ne 4, 3) := dk_154 0 4 (dk_at dksX10_triesOrders_1 3 rfl rfl)
theorem dX10_triesOrders_29 : decode cX10_triesOrders 29 = .ok (.return_, 1) := dk_177 (dk_at dksX10_triesOrders_1 6 rfl rfl)
theorem dX10_triesOrders_30 : decode cX10_triesOrders 30 = .ok (.iconst 0, 1) := dk_3 (dk_at dksX10_triesOrders_1 7 rfl rfl)
theorem dX10_triesOrders_31 : decode cX10_triesOrders 31 = .ok (.istore 5, 2) := dk_54 5 (dk_at dksX10_triesOrders_1 8 rfl rfl)
theorem dX10_triesOrders_33 : decode cX10_triesOrders 33 = .ok (.iload 5, 2) := dk_21 5 (dk_at dksX10_triesOrders_1 10 rfl rfl)
theorem dX10_triesOrders_35 : decode cX10_triesOrders 35 = .ok (.iload 4, 2) := dk_21 4 (dk_at dksX10_triesOrders_1 12 rfl rfl)
theorem dX10_triesOrders_37 : decode cX10_triesOrders 37 = .ok (.if_icmp .ge 30, 3) := dk_162 0 30 (dk_at dksX10_triesOrders_1 14 rfl rfl)
theorem dX10_triesOrders_40 : decode cX10_triesOrders 40 = .ok (.aload_n 0, 1) := dk_42 (dk_at dksX10_triesOrders_1 17 rfl rfl)
theorem dX10_triesOrders_41 : decode cX10_triesOrders 41 = .ok (.getfield 395, 3) := dk_180 1 139 (dk_at dksX10_triesOrders_1 18 rfl rfl)
theorem dX10_triesOrders_44 : decode cX10_triesOrders 44 = .ok (.ifCond .ne 23, 3) := dk_154 0 23 (dk_at dksX10_triesOrders_1 21 rfl rfl)
theorem dX10_triesOrders_47 : decode cX10_triesOrders 47 = .ok (.aload_n 0, 1) := dk_42 (dk_at dksX10_triesOrders_2 0 rfl rfl)
theorem dX10_triesOrders_48 : decode cX10_triesOrders 48 = .ok (.getfield 55, 3) := dk_180 0 55 (dk_at dksX10_triesOrders_2 1 rfl rfl)
theorem dX10_triesOrders_51 : decode cX10_triesOrders 51 = .ok (.iload 5, 2) := dk_21 5 (dk_at dksX10_triesOrders_2 4 rfl rfl)
theorem dX10_triesOrders_53 : decode cX10_triesOrders 53 = .ok (.aload_n 0, 1) := dk_42 (dk_at dksX10_triesOrders_2 6 rfl rfl)
theorem dX10_triesOrders_54 : decode cX10_triesOrders 54 = .ok (.getfield 52, 3) := dk_180 0 52 (dk_at dksX10_triesOrders_2 7 rfl rfl)
theorem dX10_triesOrders_57 : decode cX10_triesOrders 57 = .ok (.iload 5, 2) := dk_21 5 (dk_at dksX10_triesOrders_2 10 rfl rfl)
theorem dX10_triesOrders_59 : decode cX10_triesOrders 59 = .ok (.iaload, 1) := dk_46 (dk_at dksX10_triesOrders_2 12 rfl rfl)
theorem dX10_triesOrders_60 : decode cX10_triesOrders 60 = .ok (.iastore, 1) := dk_79 (dk_at dksX10_triesOrders_2 13 rfl rfl)
theorem dX10_triesOrders_61 : decode cX10_triesOrders 61 = .ok (.iinc 5 1, 3) := dk_132 5 1 (dk_at dksX10_triesOrders_2 14 rfl rfl)
theorem dX10_triesOrders_64 : decode cX10_triesOrders 64 = .ok (.goto (-31), 3) := dk_167 255 225 (dk_at dksX10_triesOrders_2 17 rfl rfl)
theorem dX10_triesOrders_67 : decode cX10_triesOrders 67 = .ok (.aload_n 0, 1) := dk_42 (dk_at dksX10_triesOrders_2 20 rfl rfl)
theorem dX10_triesOrders_68 : decode cX10_triesOrders 68 = .ok (.dup, 1) := dk_89 (dk_at dksX10_triesOrders_2 21 rfl rfl)
theorem dX10_triesOrders_69 : decode cX10_triesOrders 69 = .ok (.getfield 395, 3) := dk_180 1 139 (dk_at dksX10_triesOrders_3 0 rfl rfl)
theorem dX10_triesOrders_72 : decode cX10_triesOrders 72 = .ok (.iconst 1, 1) := dk_4 (dk_at dksX10_triesOrders_3 3 rfl rfl)
theorem dX10_triesOrders_73 : decode cX10_triesOrders 73 = .ok (.iadd, 1) := dk_96 (dk_at dksX10_triesOrders_3 4 rfl rfl)
theorem dX10_triesOrders_74 : decode cX10_triesOrders 74 = .ok (.putfield 395, 3) := dk_181 1 139 (dk_at dksX10_triesOrders_3 5 rfl rfl)
theorem dX10_triesOrders_77 : decode cX10_triesOrders 77 = .ok (.return_, 1) := dk_177 (dk_at dksX10_triesOrders_3 8 rfl rfl)
theorem dX10_triesOrders_78 : decode cX10_triesOrders 78 = .ok (.iconst 0, 1) := dk_3 (dk_at dksX10_triesOrders_3 9 rfl rfl)
theorem dX10_triesOrders_79 : decode cX10_triesOrders 79 = .ok (.istore 5, 2) := dk_54 5 (dk_at dksX10_triesOrders_3 10 rfl rfl)
theorem dX10_triesOrders_81 : decode cX10_triesOrders 81 = .ok (.iload 5, 2) := dk_21 5 (dk_at dksX10_triesOrders_3 12 rfl rfl)
theorem dX10_triesOrders_83 : decode cX10_triesOrders 83 = .ok (.iload 4, 2) := dk_21 4 (dk_at dksX10_triesOrders_3 14 rfl rfl)
theorem dX10_triesOrders_85 : decode cX10_triesOrders 85 = .ok (.if_icmp .ge 94, 3) := dk_162 0 94 (dk_at dksX10_triesOrders_3 16 rfl rfl)
theorem dX10_triesOrders_88 : decode cX10_triesOrders 88 = .ok (.iload_n 1, 1) := dk_27 (dk_at dksX10_triesOrders_3 19 rfl rfl)
theorem dX10_triesOrders_89 : decode cX10_triesOrders 89 = .ok (.iload 5, 2) := dk_21 5 (dk_at dksX10_triesOrders_3 20 rfl rfl)
theorem dX10_triesOrders_91 : decode cX10_triesOrders 91 = .ok (.ishr, 1) := dk_122 (dk_at dksX10_triesOrders_3 22 rfl rfl)
theorem dX10_triesOrders_92 : decode cX10_triesOrders 92 = .ok (.iconst 1, 1) := dk_4 (dk_at dksX10_triesOrders_3 23 rfl rfl)
theorem dX10_triesOrders_93 : decode cX10_triesOrders 93 = .ok (.iand, 1) := dk_126 (dk_at dksX10_triesOrders_4 0 rfl rfl)
theorem dX10_triesOrders_94 : decode cX10_triesOrders 94 = .ok (.iconst 1, 1) := dk_4 (dk_at dksX10_triesOrders_4 1 rfl rfl)
theorem dX10_triesOrders_95 : decode cX10_triesOrders 95 = .ok (.if_icmp .ne 6, 3) := dk_160 0 6 (dk_at dksX10_triesOrders_4 2 rfl rfl)
theorem dX10_triesOrders_98 : decode cX10_triesOrders 98 = .ok (.goto 75, 3) := dk_167 0 75 (dk_at dksX10_triesOrders_4 5 rfl rfl)
theorem dX10_triesOrders_101 : decode cX10_triesOrders 101 = .ok (.aload_n 0, 1) := dk_42 (dk_at dksX10_triesOrders_4 8 rfl rfl)
theorem dX10_triesOrders_102 : decode cX10_triesOrders 102 = .ok (.getfield 52, 3) := dk_180 0 52 (dk_at dksX10_triesOrders_4 9 rfl rfl)
theorem dX10_triesOrders_105 : decode cX10_triesOrders 105 = .ok (.iload_n 2, 1) := dk_28 (dk_at dksX10_triesOrders_4 12 rfl rfl)
theorem dX10_triesOrders_106 : decode cX10_triesOrders 106 = .ok (.iload 5, 2) := dk_21 5 (dk_at dksX10_triesOrders_4 13 rfl rfl)
theorem dX10_triesOrders_108 : decode cX10_triesOrders 108 = .ok (.iastore, 1) := dk_79 (dk_at dksX10_triesOrders_4 15 rfl rfl)
theorem dX10_triesOrders_109 : decode cX10_triesOrders 109 = .ok (.aload_n 0, 1) := dk_42 (dk_at dksX10_triesOrders_4 16 rfl rfl)
theorem dX10_triesOrders_110 : decode cX10_triesOrders 110 = .ok (.getfield 9, 3) := dk_180 0 9 (dk_at dksX10_triesOrders_4 17 rfl rfl)
theorem dX10_triesOrders_113 : decode cX10_triesOrders 113 = .ok (.bipush 26, 2) := dk_16 26 (dk_at dksX10_triesOrders_4 20 rfl rfl)
theorem dX10_triesOrders_115 : decode cX10_triesOrders 115 = .ok (.iconst 2, 1) := dk_5 (dk_at dksX10_triesOrders_4 22 rfl rfl)
theorem dX10_triesOrders_116 : decode cX10_triesOrders 116 = .ok (.iload_n 2, 1) := dk_28 (dk_at dksX10_triesOrders_4 23 rfl rfl)
theorem dX10_triesOrders_117 : decode cX10_triesOrders 117 = .ok (.imul, 1) := dk_104 (dk_at dksX10_triesOrders_5 0 rfl rfl)
theorem dX10_triesOrders_118 : decode cX10_triesOrders 118 = .ok (.iadd, 1) := dk_96 (dk_at dksX10_triesOrders_5 1 rfl rfl)
theorem dX10_triesOrders_119 : decode cX10_triesOrders 119 = .ok (.aload_n 0, 1) := dk_42 (dk_at dksX10_triesOrders_5 2 rfl rfl)
theorem dX10_triesOrders_120 : decode cX10_triesOrders 120 = .ok (.getfield 16, 3) := dk_180 0 16 (dk_at dksX10_triesOrders_5 3 rfl rfl)
theorem dX10_triesOrders_123 : decode cX10_triesOrders 123 = .ok (.bipush 26, 2) := dk_16 26 (dk_at dksX10_triesOrders_5 6 rfl rfl)
theorem dX10_triesOrders_125 : decode cX10_triesOrders 125 = .ok (.iconst 2, 1) := dk_5 (dk_at dksX10_triesOrders_5 8 rfl rfl)
theorem dX10_triesOrders_126 : decode cX10_triesOrders 126 = .ok (.iload 5, 2) := dk_21 5 (dk_at dksX10_triesOrders_5 9 rfl rfl)
theorem dX10_triesOrders_128 : decode cX10_triesOrders 128 = .ok (.imul, 1) := dk_104 (dk_at dksX10_triesOrders_5 11 rfl rfl)
theorem dX10_triesOrders_129 : decode cX10_triesOrders 129 = .ok (.iadd, 1) := dk_96 (dk_at dksX10_triesOrders_5 12 rfl rfl)
theorem dX10_triesOrders_130 : decode cX10_triesOrders 130 = .ok (.iaload, 1) := dk_46 (dk_at dksX10_triesOrders_5 13 rfl rfl)
theorem dX10_triesOrders_131 : decode cX10_triesOrders 131 = .ok (.iastore, 1) := dk_79 (dk_at dksX10_triesOrders_5 14 rfl rfl)
theorem dX10_triesOrders_132 : decode cX10_triesOrders 132 = .ok (.aload_n 0, 1) := dk_42 (dk_at dksX10_triesOrders_5 15 rfl rfl)
theorem dX10_triesOrders_133 : decode cX10_triesOrders 133 = .ok (.getfield 9, 3) := dk_180 0 9 (dk_at dksX10_triesOrders_5 16 rfl rfl)
theorem dX10_triesOrders_136 : decode cX10_triesOrders 136 = .ok (.bipush 26, 2) := dk_16 26 (dk_at dksX10_triesOrders_5 19 rfl rfl)
theorem dX10_triesOrders_138 : decode cX10_triesOrders 138 = .ok (.iconst 2, 1) := dk_5 (dk_at dksX10_triesOrders_5 21 rfl rfl)
theorem dX10_triesOrders_139 : decode cX10_triesOrders 139 = .ok (.iload_n 2, 1) := dk_28 (dk_at dksX10_triesOrders_5 22 rfl rfl)
theorem dX10_triesOrders_140 : decode cX10_triesOrders 140 = .ok (.imul, 1) := dk_104 (dk_at dksX10_triesOrders_5 23 rfl rfl)
theorem dX10_triesOrders_141 : decode cX10_triesOrders 141 = .ok (.iadd, 1) := dk_96 (dk_at dksX10_triesOrders_6 0 rfl rfl)
theorem dX10_triesOrders_142 : decode cX10_triesOrders 142 = .ok (.iconst 1, 1) := dk_4 (dk_at dksX10_triesOrders_6 1 rfl rfl)
theorem dX10_triesOrders_143 : decode cX10_triesOrders 143 = .ok (.iadd, 1) := dk_96 (dk_at dksX10_triesOrders_6 2 rfl rfl)
theorem dX10_triesOrders_144 : decode cX10_triesOrders 144 = .ok (.aload_n 0, 1) := dk_42 (dk_at dksX10_triesOrders_6 3 rfl rfl)
theorem dX10_triesOrders_145 : decode cX10_triesOrders 145 = .ok (.getfield 16, 3) := dk_180 0 16 (dk_at dksX10_triesOrders_6 4 rfl rfl)
theorem dX10_triesOrders_148 : decode cX10_triesOrders 148 = .ok (.bipush 26, 2) := dk_16 26 (dk_at dksX10_triesOrders_6 7 rfl rfl)
theorem dX10_triesOrders_150 : decode cX10_triesOrders 150 = .ok (.iconst 2, 1) := dk_5 (dk_at dksX10_triesOrders_6 9 rfl rfl)
theorem dX10_triesOrders_151 : decode cX10_triesOrders 151 = .ok (.iload 5, 2) := dk_21 5 (dk_at dksX10_triesOrders_6 10 rfl rfl)
theorem dX10_triesOrders_153 : decode cX10_triesOrders 153 = .ok (.imul, 1) := dk_104 (dk_at dksX10_triesOrders_6 12 rfl rfl)
theorem dX10_triesOrders_154 : decode cX10_triesOrders 154 = .ok (.iadd, 1) := dk_96 (dk_at dksX10_triesOrders_6 13 rfl rfl)
theorem dX10_triesOrders_155 : decode cX10_triesOrders 155 = .ok (.iconst 1, 1) := dk_4 (dk_at dksX10_triesOrders_6 14 rfl rfl)
theorem dX10_triesOrders_156 : decode cX10_triesOrders 156 = .ok (.iadd, 1) := dk_96 (dk_at dksX10_triesOrders_6 15 rfl rfl)
theorem dX10_triesOrders_157 : decode cX10_triesOrders 157 = .ok (.iaload, 1) := dk_46 (dk_at dksX10_triesOrders_6 16 rfl rfl)
theorem dX10_triesOrders_158 : decode cX10_triesOrders 158 = .ok (.iastore, 1) := dk_79 (dk_at dksX10_triesOrders_6 17 rfl rfl)
theorem dX10_triesOrders_159 : decode cX10_triesOrders 159 = .ok (.aload_n 0, 1) := dk_42 (dk_at dksX10_triesOrders_6 18 rfl rfl)
theorem dX10_triesOrders_160 : decode cX10_triesOrders 160 = .ok (.iload_n 1, 1) := dk_27 (dk_at dksX10_triesOrders_6 19 rfl rfl)
theorem dX10_triesOrders_161 : decode cX10_triesOrders 161 = .ok (.iconst 1, 1) := dk_4 (dk_at dksX10_triesOrders_6 20 rfl rfl)
theorem dX10_triesOrders_162 : decode cX10_triesOrders 162 = .ok (.iload 5, 2) := dk_21 5 (dk_at dksX10_triesOrders_6 21 rfl rfl)
theorem dX10_triesOrders_164 : decode cX10_triesOrders 164 = .ok (.ishl, 1) := dk_120 (dk_at dksX10_triesOrders_6 23 rfl rfl)
theorem dX10_triesOrders_165 : decode cX10_triesOrders 165 = .ok (.ior, 1) := dk_128 (dk_at dksX10_triesOrders_7 0 rfl rfl)
theorem dX10_triesOrders_166 : decode cX10_triesOrders 166 = .ok (.iload_n 2, 1) := dk_28 (dk_at dksX10_triesOrders_7 1 rfl rfl)
theorem dX10_triesOrders_167 : decode cX10_triesOrders 167 = .ok (.iconst 1, 1) := dk_4 (dk_at dksX10_triesOrders_7 2 rfl rfl)
theorem dX10_triesOrders_168 : decode cX10_triesOrders 168 = .ok (.iadd, 1) := dk_96 (dk_at dksX10_triesOrders_7 3 rfl rfl)
theorem dX10_triesOrders_169 : decode cX10_triesOrders 169 = .ok (.iload_n 3, 1) := dk_29 (dk_at dksX10_triesOrders_7 4 rfl rfl)
theorem dX10_triesOrders_170 : decode cX10_triesOrders 170 = .ok (.invokevirtual 398, 3) := dk_182 1 142 (dk_at dksX10_triesOrders_7 5 rfl rfl)
theorem dX10_triesOrders_173 : decode cX10_triesOrders 173 = .ok (.iinc 5 1, 3) := dk_132 5 1 (dk_at dksX10_triesOrders_7 8 rfl rfl)
theorem dX10_triesOrders_176 : decode cX10_triesOrders 176 = .ok (.goto (-95), 3) := dk_167 255 161 (dk_at dksX10_triesOrders_7 11 rfl rfl)
theorem dX10_triesOrders_179 : decode cX10_triesOrders 179 = .ok (.return_, 1) := dk_177 (dk_at dksX10_triesOrders_7 14 rfl rfl)
abbrev cX10_mended : ByteArray := prog_33_method_96_code
def yX10_mended : MethodName := ⟨RX10, "mended", "(I)I"⟩
def dkwX10_mended_6 : List UInt8 := [132, 2, 1, 167, 255, 149, 2, 172]
abbrev dktX10_mended_6 : List UInt8 := dkwX10_mended_6 ++ []
def dkwX10_mended_5 : List UInt8 := [167, 0, 15, 27, 4, 160, 0, 8, 21, 4, 167, 0, 5, 21, 5, 172, 132, 4, 1, 167, 255, 175]
abbrev dktX10_mended_5 : List UInt8 := dkwX10_mended_5 ++ dktX10_mended_6
def dkwX10_mended_4 : List UInt8 := [180, 0, 9, 16, 26, 5, 28, 104, 96, 29, 79, 21, 5, 2, 159, 0, 24, 27, 154, 0, 7, 28]
abbrev dktX10_mended_4 : List UInt8 := dkwX10_mended_4 ++ dktX10_mended_5
def dkwX10_mended_3 : List UInt8 := [167, 0, 61, 42, 180, 0, 9, 16, 26, 5, 28, 104, 96, 21, 4, 79, 42, 182, 1, 89, 54, 5, 42]
abbrev dktX10_mended_3 : List UInt8 := dkwX10_mended_3 ++ dktX10_mended_4
def dkwX10_mended_2 : List UInt8 := [182, 1, 20, 62, 3, 54, 4, 21, 4, 42, 180, 0, 9, 8, 46, 162, 0, 76, 21, 4, 29, 160, 0, 6]
abbrev dktX10_mended_2 : List UInt8 := dkwX10_mended_2 ++ dktX10_mended_3
def dkwX10_mended_1 : List UInt8 := [180, 0, 71, 158, 0, 5, 3, 172, 3, 61, 28, 42, 180, 0, 9, 16, 6, 46, 162, 0, 102, 42, 28]
abbrev dktX10_mended_1 : List UInt8 := dkwX10_mended_1 ++ dktX10_mended_2
def dkwX10_mended_0 : List UInt8 := [42, 27, 133, 9, 20, 1, 145, 184, 0, 133, 153, 0, 7, 3, 167, 0, 4, 4, 181, 0, 71, 42]
abbrev dktX10_mended_0 : List UInt8 := dkwX10_mended_0 ++ dktX10_mended_1
theorem dksX10_mended_0 : cX10_mended.data.toList.drop 0 = dktX10_mended_0 := by decide +kernel
theorem dksX10_mended_1 : cX10_mended.data.toList.drop 22 = dktX10_mended_1 := dk_seg dksX10_mended_0 22 rfl rfl
theorem dksX10_mended_2 : cX10_mended.data.toList.drop 45 = dktX10_mended_2 := dk_seg dksX10_mended_1 23 rfl rfl
theorem dksX10_mended_3 : cX10_mended.data.toList.drop 69 = dktX10_mended_3 := dk_seg dksX10_mended_2 24 rfl rfl
theorem dksX10_mended_4 : cX10_mended.data.toList.drop 92 = dktX10_mended_4 := dk_seg dksX10_mended_3 23 rfl rfl
theorem dksX10_mended_5 : cX10_mended.data.toList.drop 114 = dktX10_mended_5 := dk_seg dksX10_mended_4 22 rfl rfl
theorem dksX10_mended_6 : cX10_mended.data.toList.drop 136 = dktX10_mended_6 := dk_seg dksX10_mended_5 22 rfl rfl
theorem dX10_mended_0 : decode cX10_mended 0 = .ok (.aload_n 0, 1) := dk_42 (dk_at dksX10_mended_0 0 rfl rfl)
theorem dX10_mended_1 : decode cX10_mended 1 = .ok (.iload_n 1, 1) := dk_27 (dk_at dksX10_mended_0 1 rfl rfl)
theorem dX10_mended_2 : decode cX10_mended 2 = .ok (.i2l, 1) := dk_133 (dk_at dksX10_mended_0 2 rfl rfl)
theorem dX10_mended_3 : decode cX10_mended 3 = .ok (.lconst 0, 1) := dk_9 (dk_at dksX10_mended_0 3 rfl rfl)
theorem dX10_mended_4 : decode cX10_mended 4 = .ok (.ldc2_w 401, 3) := dk_20 1 145 (dk_at dksX10_mended_0 4 rfl rfl)
theorem dX10_mended_7 : decode cX10_mended 7 = .ok (.invokestatic 133, 3) := dk_184 0 133 (dk_at dksX10_mended_0 7 rfl rfl)
theorem dX10_mended_10 : decode cX10_mended 10 = .ok (.ifCond .eq 7, 3) := dk_153 0 7 (dk_at dksX10_mended_0 10 rfl rfl)
theorem dX10_mended_13 : decode cX10_mended 13 = .ok (.iconst 0, 1) := dk_3 (dk_at dksX10_mended_0 13 rfl rfl)
theorem dX10_mended_14 : decode cX10_mended 14 = .ok (.goto 4, 3) := dk_167 0 4 (dk_at dksX10_mended_0 14 rfl rfl)
theorem dX10_mended_17 : decode cX10_mended 17 = .ok (.iconst 1, 1) := dk_4 (dk_at dksX10_mended_0 17 rfl rfl)
theorem dX10_mended_18 : decode cX10_mended 18 = .ok (.putfield 71, 3) := dk_181 0 71 (dk_at dksX10_mended_0 18 rfl rfl)
theorem dX10_mended_21 : decode cX10_mended 21 = .ok (.aload_n 0, 1) := dk_42 (dk_at dksX10_mended_0 21 rfl rfl)
theorem dX10_mended_22 : decode cX10_mended 22 = .ok (.getfield 71, 3) := dk_180 0 71 (dk_at dksX10_mended_1 0 rfl rfl)
theorem dX10_mended_25 : decode cX10_mended 25 = .ok (.ifCond .le 5, 3) := dk_158 0 5 (dk_at dksX10_mended_1 3 rfl rfl)
theorem dX10_mended_28 : decode cX10_mended 28 = .ok (.iconst 0, 1) := dk_3 (dk_at dksX10_mended_1 6 rfl rfl)
theorem dX10_mended_29 : decode cX10_mended 29 = .ok (.ireturn, 1) := dk_172 (dk_at dksX10_mended_1 7 rfl rfl)
theorem dX10_mended_30 : decode cX10_mended 30 = .ok (.iconst 0, 1) := dk_3 (dk_at dksX10_mended_1 8 rfl rfl)
theorem dX10_mended_31 : decode cX10_mended 31 = .ok (.istore_n 2, 1) := dk_61 (dk_at dksX10_mended_1 9 rfl rfl)
theorem dX10_mended_32 : decode cX10_mended 32 = .ok (.iload_n 2, 1) := dk_28 (dk_at dksX10_mended_1 10 rfl rfl)
theorem dX10_mended_33 : decode cX10_mended 33 = .ok (.aload_n 0, 1) := dk_42 (dk_at dksX10_mended_1 11 rfl rfl)
theorem dX10_mended_34 : decode cX10_mended 34 = .ok (.getfield 9, 3) := dk_180 0 9 (dk_at dksX10_mended_1 12 rfl rfl)
theorem dX10_mended_37 : decode cX10_mended 37 = .ok (.bipush 6, 2) := dk_16 6 (dk_at dksX10_mended_1 15 rfl rfl)
theorem dX10_mended_39 : decode cX10_mended 39 = .ok (.iaload, 1) := dk_46 (dk_at dksX10_mended_1 17 rfl rfl)
theorem dX10_mended_40 : decode cX10_mended 40 = .ok (.if_icmp .ge 102, 3) := dk_162 0 102 (dk_at dksX10_mended_1 18 rfl rfl)
theorem dX10_mended_43 : decode cX10_mended 43 = .ok (.aload_n 0, 1) := dk_42 (dk_at dksX10_mended_1 21 rfl rfl)
theorem dX10_mended_44 : decode cX10_mended 44 = .ok (.iload_n 2, 1) := dk_28 (dk_at dksX10_mended_1 22 rfl rfl)
theorem dX10_mended_45 : decode cX10_mended 45 = .ok (.invokevirtual 276, 3) := dk_182 1 20 (dk_at dksX10_mended_2 0 rfl rfl)
theorem dX10_mended_48 : decode cX10_mended 48 = .ok (.istore_n 3, 1) := dk_62 (dk_at dksX10_mended_2 3 rfl rfl)
theorem dX10_mended_49 : decode cX10_mended 49 = .ok (.iconst 0, 1) := dk_3 (dk_at dksX10_mended_2 4 rfl rfl)
theorem dX10_mended_50 : decode cX10_mended 50 = .ok (.istore 4, 2) := dk_54 4 (dk_at dksX10_mended_2 5 rfl rfl)
theorem dX10_mended_52 : decode cX10_mended 52 = .ok (.iload 4, 2) := dk_21 4 (dk_at dksX10_mended_2 7 rfl rfl)
theorem dX10_mended_54 : decode cX10_mended 54 = .ok (.aload_n 0, 1) := dk_42 (dk_at dksX10_mended_2 9 rfl rfl)
theorem dX10_mended_55 : decode cX10_mended 55 = .ok (.getfield 9, 3) := dk_180 0 9 (dk_at dksX10_mended_2 10 rfl rfl)
theorem dX10_mended_58 : decode cX10_mended 58 = .ok (.iconst 5, 1) := dk_8 (dk_at dksX10_mended_2 13 rfl rfl)
theorem dX10_mended_59 : decode cX10_mended 59 = .ok (.iaload, 1) := dk_46 (dk_at dksX10_mended_2 14 rfl rfl)
theorem dX10_mended_60 : decode cX10_mended 60 = .ok (.if_icmp .ge 76, 3) := dk_162 0 76 (dk_at dksX10_mended_2 15 rfl rfl)
theorem dX10_mended_63 : decode cX10_mended 63 = .ok (.iload 4, 2) := dk_21 4 (dk_at dksX10_mended_2 18 rfl rfl)
theorem dX10_mended_65 : decode cX10_mended 65 = .ok (.iload_n 3, 1) := dk_29 (dk_at dksX10_mended_2 20 rfl rfl)
theorem dX10_mended_66 : decode cX10_mended 66 = .ok (.if_icmp .ne 6, 3) := dk_160 0 6 (dk_at dksX10_mended_2 21 rfl rfl)
theorem dX10_mended_69 : decode cX10_mended 69 = .ok (.goto 61, 3) := dk_167 0 61 (dk_at dksX10_mended_3 0 rfl rfl)
theorem dX10_mended_72 : decode cX10_mended 72 = .ok (.aload_n 0, 1) := dk_42 (dk_at dksX10_mended_3 3 rfl rfl)
theorem dX10_mended_73 : decode cX10_mended 73 = .ok (.getfield 9, 3) := dk_180 0 9 (dk_at dksX10_mended_3 4 rfl rfl)
theorem dX10_mended_76 : decode cX10_mended 76 = .ok (.bipush 26, 2) := dk_16 26 (dk_at dksX10_mended_3 7 rfl rfl)
theorem dX10_mended_78 : decode cX10_mended 78 = .ok (.iconst 2, 1) := dk_5 (dk_at dksX10_mended_3 9 rfl rfl)
theorem dX10_mended_79 : decode cX10_mended 79 = .ok (.iload_n 2, 1) := dk_28 (dk_at dksX10_mended_3 10 rfl rfl)
theorem dX10_mended_80 : decode cX10_mended 80 = .ok (.imul, 1) := dk_104 (dk_at dksX10_mended_3 11 rfl rfl)
theorem dX10_mended_81 : decode cX10_mended 81 = .ok (.iadd, 1) := dk_96 (dk_at dksX10_mended_3 12 rfl rfl)
theorem dX10_mended_82 : decode cX10_mended 82 = .ok (.iload 4, 2) := dk_21 4 (dk_at dksX10_mended_3 13 rfl rfl)
theorem dX10_mended_84 : decode cX10_mended 84 = .ok (.iastore, 1) := dk_79 (dk_at dksX10_mended_3 15 rfl rfl)
theorem dX10_mended_85 : decode cX10_mended 85 = .ok (.aload_n 0, 1) := dk_42 (dk_at dksX10_mended_3 16 rfl rfl)
theorem dX10_mended_86 : decode cX10_mended 86 = .ok (.invokevirtual 345, 3) := dk_182 1 89 (dk_at dksX10_mended_3 17 rfl rfl)
theorem dX10_mended_89 : decode cX10_mended 89 = .ok (.istore 5, 2) := dk_54 5 (dk_at dksX10_mended_3 20 rfl rfl)
theorem dX10_mended_91 : decode cX10_mended 91 = .ok (.aload_n 0, 1) := dk_42 (dk_at dksX10_mended_3 22 rfl rfl)
theorem dX10_mended_92 : decode cX10_mended 92 = .ok (.getfield 9, 3) := dk_180 0 9 (dk_at dksX10_mended_4 0 rfl rfl)
theorem dX10_mended_95 : decode cX10_mended 95 = .ok (.bipush 26, 2) := dk_16 26 (dk_at dksX10_mended_4 3 rfl rfl)
theorem dX10_mended_97 : decode cX10_mended 97 = .ok (.iconst 2, 1) := dk_5 (dk_at dksX10_mended_4 5 rfl rfl)
theorem dX10_mended_98 : decode cX10_mended 98 = .ok (.iload_n 2, 1) := dk_28 (dk_at dksX10_mended_4 6 rfl rfl)
theorem dX10_mended_99 : decode cX10_mended 99 = .ok (.imul, 1) := dk_104 (dk_at dksX10_mended_4 7 rfl rfl)
theorem dX10_mended_100 : decode cX10_mended 100 = .ok (.iadd, 1) := dk_96 (dk_at dksX10_mended_4 8 rfl rfl)
theorem dX10_mended_101 : decode cX10_mended 101 = .ok (.iload_n 3, 1) := dk_29 (dk_at dksX10_mended_4 9 rfl rfl)
theorem dX10_mended_102 : decode cX10_mended 102 = .ok (.iastore, 1) := dk_79 (dk_at dksX10_mended_4 10 rfl rfl)
theorem dX10_mended_103 : decode cX10_mended 103 = .ok (.iload 5, 2) := dk_21 5 (dk_at dksX10_mended_4 11 rfl rfl)
theorem dX10_mended_105 : decode cX10_mended 105 = .ok (.iconst (-1), 1) := dk_2 (dk_at dksX10_mended_4 13 rfl rfl)
theorem dX10_mended_106 : decode cX10_mended 106 = .ok (.if_icmp .eq 24, 3) := dk_159 0 24 (dk_at dksX10_mended_4 14 rfl rfl)
theorem dX10_mended_109 : decode cX10_mended 109 = .ok (.iload_n 1, 1) := dk_27 (dk_at dksX10_mended_4 17 rfl rfl)
theorem dX10_mended_110 : decode cX10_mended 110 = .ok (.ifCond .ne 7, 3) := dk_154 0 7 (dk_at dksX10_mended_4 18 rfl rfl)
theorem dX10_mended_113 : decode cX10_mended 113 = .ok (.iload_n 2, 1) := dk_28 (dk_at dksX10_mended_4 21 rfl rfl)
theorem dX10_mended_114 : decode cX10_mended 114 = .ok (.goto 15, 3) := dk_167 0 15 (dk_at dksX10_mended_5 0 rfl rfl)
theorem dX10_mended_117 : decode cX10_mended 117 = .ok (.iload_n 1, 1) := dk_27 (dk_at dksX10_mended_5 3 rfl rfl)
theorem dX10_mended_118 : decode cX10_mended 118 = .ok (.iconst 1, 1) := dk_4 (dk_at dksX10_mended_5 4 rfl rfl)
theorem dX10_mended_119 : decode cX10_mended 119 = .ok (.if_icmp .ne 8, 3) := dk_160 0 8 (dk_at dksX10_mended_5 5 rfl rfl)
theorem dX10_mended_122 : decode cX10_mended 122 = .ok (.iload 4, 2) := dk_21 4 (dk_at dksX10_mended_5 8 rfl rfl)
theorem dX10_mended_124 : decode cX10_mended 124 = .ok (.goto 5, 3) := dk_167 0 5 (dk_at dksX10_mended_5 10 rfl rfl)
theorem dX10_mended_127 : decode cX10_mended 127 = .ok (.iload 5, 2) := dk_21 5 (dk_at dksX10_mended_5 13 rfl rfl)
theorem dX10_mended_129 : decode cX10_mended 129 = .ok (.ireturn, 1) := dk_172 (dk_at dksX10_mended_5 15 rfl rfl)
theorem dX10_mended_130 : decode cX10_mended 130 = .ok (.iinc 4 1, 3) := dk_132 4 1 (dk_at dksX10_mended_5 16 rfl rfl)
theorem dX10_mended_133 : decode cX10_mended 133 = .ok (.goto (-81), 3) := dk_167 255 175 (dk_at dksX10_mended_5 19 rfl rfl)
theorem dX10_mended_136 : decode cX10_mended 136 = .ok (.iinc 2 1, 3) := dk_132 2 1 (dk_at dksX10_mended_6 0 rfl rfl)
theorem dX10_mended_139 : decode cX10_mended 139 = .ok (.goto (-107), 3) := dk_167 255 149 (dk_at dksX10_mended_6 3 rfl rfl)
theorem dX10_mended_142 : decode cX10_mended 142 = .ok (.iconst (-1), 1) := dk_2 (dk_at dksX10_mended_6 6 rfl rfl)
theorem dX10_mended_143 : decode cX10_mended 143 = .ok (.ireturn, 1) := dk_172 (dk_at dksX10_mended_6 7 rfl rfl)
abbrev cX10_answers : ByteArray := prog_33_method_98_code
def yX10_answers : MethodName := ⟨RX10, "answers", "(II)I"⟩
def dkwX10_answers_7 : List UInt8 := [29, 182, 1, 77, 167, 0, 18, 28, 4, 160, 0, 11, 42, 29, 182, 1, 83, 167, 0, 5, 21, 5, 172]
abbrev dktX10_answers_7 : List UInt8 := dkwX10_answers_7 ++ []
def dkwX10_answers_6 : List UInt8 := [182, 1, 100, 29, 54, 7, 21, 4, 62, 21, 7, 54, 4, 132, 5, 1, 167, 255, 161, 28, 154, 0, 11, 42]
abbrev dktX10_answers_6 : List UInt8 := dkwX10_answers_6 ++ dktX10_answers_7
def dkwX10_answers_5 : List UInt8 := [54, 6, 42, 21, 6, 5, 108, 29, 21, 6, 5, 112, 4, 160, 0, 7, 4, 167, 0, 4, 3, 21, 4]
abbrev dktX10_answers_5 : List UInt8 := dkwX10_answers_5 ++ dktX10_answers_6
def dkwX10_answers_4 : List UInt8 := [46, 133, 105, 10, 101, 184, 0, 133, 153, 0, 58, 42, 180, 0, 64, 16, 40, 27, 104, 21, 5, 96, 47, 136]
abbrev dktX10_answers_4 : List UInt8 := dkwX10_answers_4 ++ dktX10_answers_5
def dkwX10_answers_3 : List UInt8 := [162, 0, 90, 42, 180, 0, 64, 16, 40, 27, 104, 21, 5, 96, 47, 9, 20, 1, 145, 42, 180, 0, 9, 8]
abbrev dktX10_answers_3 : List UInt8 := dkwX10_answers_3 ++ dktX10_answers_4
def dkwX10_answers_2 : List UInt8 := [3, 62, 4, 54, 4, 42, 29, 4, 182, 1, 67, 3, 54, 5, 21, 5, 42, 180, 0, 61, 27, 46]
abbrev dktX10_answers_2 : List UInt8 := dkwX10_answers_2 ++ dktX10_answers_3
def dkwX10_answers_1 : List UInt8 := [184, 0, 133, 154, 0, 8, 42, 6, 181, 0, 71, 42, 180, 0, 71, 158, 0, 5, 3, 172, 42, 182, 0, 253]
abbrev dktX10_answers_1 : List UInt8 := dkwX10_answers_1 ++ dktX10_answers_2
def dkwX10_answers_0 : List UInt8 := [42, 42, 27, 182, 1, 150, 181, 0, 71, 42, 180, 0, 71, 154, 0, 20, 28, 133, 9, 20, 1, 145]
abbrev dktX10_answers_0 : List UInt8 := dkwX10_answers_0 ++ dktX10_answers_1
theorem dksX10_answers_0 : cX10_answers.data.toList.drop 0 = dktX10_answers_0 := by decide +kernel
theorem dksX10_answers_1 : cX10_answers.data.toList.drop 22 = dktX10_answers_1 := dk_seg dksX10_answers_0 22 rfl rfl
theorem dksX10_answers_2 : cX10_answers.data.toList.drop 46 = dktX10_answers_2 := dk_seg dksX10_answers_1 24 rfl rfl
theorem dksX10_answers_3 : cX10_answers.data.toList.drop 68 = dktX10_answers_3 := dk_seg dksX10_answers_2 22 rfl rfl
theorem dksX10_answers_4 : cX10_answers.data.toList.drop 92 = dktX10_answers_4 := dk_seg dksX10_answers_3 24 rfl rfl
theorem dksX10_answers_5 : cX10_answers.data.toList.drop 116 = dktX10_answers_5 := dk_seg dksX10_answers_4 24 rfl rfl
theorem dksX10_answers_6 : cX10_answers.data.toList.drop 139 = dktX10_answers_6 := dk_seg dksX10_answers_5 23 rfl rfl
theorem dksX10_answers_7 : cX10_answers.data.toList.drop 163 = dktX10_answers_7 := dk_seg dksX10_answers_6 24 rfl rfl
theorem dX10_answers_0 : decode cX10_answers 0 = .ok (.aload_n 0, 1) := dk_42 (dk_at dksX10_answers_0 0 rfl rfl)
theorem dX10_answers_1 : decode cX10_answers 1 = .ok (.aload_n 0, 1) := dk_42 (dk_at dksX10_answers_0 1 rfl rfl)
theorem dX10_answers_2 : decode cX10_answers 2 = .ok (.iload_n 1, 1) := dk_27 (dk_at dksX10_answers_0 2 rfl rfl)
theorem dX10_answers_3 : decode cX10_answers 3 = .ok (.invokevirtual 406, 3) := dk_182 1 150 (dk_at dksX10_answers_0 3 rfl rfl)
theorem dX10_answers_6 : decode cX10_answers 6 = .ok (.putfield 71, 3) := dk_181 0 71 (dk_at dksX10_answers_0 6 rfl rfl)
theorem dX10_answers_9 : decode cX10_answers 9 = .ok (.aload_n 0, 1) := dk_42 (dk_at dksX10_answers_0 9 rfl rfl)
theorem dX10_answers_10 : decode cX10_answers 10 = .ok (.getfield 71, 3) := dk_180 0 71 (dk_at dksX10_answers_0 10 rfl rfl)
theorem dX10_answers_13 : decode cX10_answers 13 = .ok (.ifCond .ne 20, 3) := dk_154 0 20 (dk_at dksX10_answers_0 13 rfl rfl)
theorem dX10_answers_16 : decode cX10_answers 16 = .ok (.iload_n 2, 1) := dk_28 (dk_at dksX10_answers_0 16 rfl rfl)
theorem dX10_answers_17 : decode cX10_answers 17 = .ok (.i2l, 1) := dk_133 (dk_at dksX10_answers_0 17 rfl rfl)
theorem dX10_answers_18 : decode cX10_answers 18 = .ok (.lconst 0, 1) := dk_9 (dk_at dksX10_answers_0 18 rfl rfl)
theorem dX10_answers_19 : decode cX10_answers 19 = .ok (.ldc2_w 401, 3) := dk_20 1 145 (dk_at dksX10_answers_0 19 rfl rfl)
theorem dX10_answers_22 : decode cX10_answers 22 = .ok (.invokestatic 133, 3) := dk_184 0 133 (dk_at dksX10_answers_1 0 rfl rfl)
theorem dX10_answers_25 : decode cX10_answers 25 = .ok (.ifCond .ne 8, 3) := dk_154 0 8 (dk_at dksX10_answers_1 3 rfl rfl)
theorem dX10_answers_28 : decode cX10_answers 28 = .ok (.aload_n 0, 1) := dk_42 (dk_at dksX10_answers_1 6 rfl rfl)
theorem dX10_answers_29 : decode cX10_answers 29 = .ok (.iconst 3, 1) := dk_6 (dk_at dksX10_answers_1 7 rfl rfl)
theorem dX10_answers_30 : decode cX10_answers 30 = .ok (.putfield 71, 3) := dk_181 0 71 (dk_at dksX10_answers_1 8 rfl rfl)
theorem dX10_answers_33 : decode cX10_answers 33 = .ok (.aload_n 0, 1) := dk_42 (dk_at dksX10_answers_1 11 rfl rfl)
theorem dX10_answers_34 : decode cX10_answers 34 = .ok (.getfield 71, 3) := dk_180 0 71 (dk_at dksX10_answers_1 12 rfl rfl)
theorem dX10_answers_37 : decode cX10_answers 37 = .ok (.ifCond .le 5, 3) := dk_158 0 5 (dk_at dksX10_answers_1 15 rfl rfl)
theorem dX10_answers_40 : decode cX10_answers 40 = .ok (.iconst 0, 1) := dk_3 (dk_at dksX10_answers_1 18 rfl rfl)
theorem dX10_answers_41 : decode cX10_answers 41 = .ok (.ireturn, 1) := dk_172 (dk_at dksX10_answers_1 19 rfl rfl)
theorem dX10_answers_42 : decode cX10_answers 42 = .ok (.aload_n 0, 1) := dk_42 (dk_at dksX10_answers_1 20 rfl rfl)
theorem dX10_answers_43 : decode cX10_answers 43 = .ok (.invokevirtual 253, 3) := dk_182 0 253 (dk_at dksX10_answers_1 21 rfl rfl)
theorem dX10_answers_46 : decode cX10_answers 46 = .ok (.iconst 0, 1) := dk_3 (dk_at dksX10_answers_2 0 rfl rfl)
theorem dX10_answers_47 : decode cX10_answers 47 = .ok (.istore_n 3, 1) := dk_62 (dk_at dksX10_answers_2 1 rfl rfl)
theorem dX10_answers_48 : decode cX10_answers 48 = .ok (.iconst 1, 1) := dk_4 (dk_at dksX10_answers_2 2 rfl rfl)
theorem dX10_answers_49 : decode cX10_answers 49 = .ok (.istore 4, 2) := dk_54 4 (dk_at dksX10_answers_2 3 rfl rfl)
theorem dX10_answers_51 : decode cX10_answers 51 = .ok (.aload_n 0, 1) := dk_42 (dk_at dksX10_answers_2 5 rfl rfl)
theorem dX10_answers_52 : decode cX10_answers 52 = .ok (.iload_n 3, 1) := dk_29 (dk_at dksX10_answers_2 6 rfl rfl)
theorem dX10_answers_53 : decode cX10_answers 53 = .ok (.iconst 1, 1) := dk_4 (dk_at dksX10_answers_2 7 rfl rfl)
theorem dX10_answers_54 : decode cX10_answers 54 = .ok (.invokevirtual 323, 3) := dk_182 1 67 (dk_at dksX10_answers_2 8 rfl rfl)
theorem dX10_answers_57 : decode cX10_answers 57 = .ok (.iconst 0, 1) := dk_3 (dk_at dksX10_answers_2 11 rfl rfl)
theorem dX10_answers_58 : decode cX10_answers 58 = .ok (.istore 5, 2) := dk_54 5 (dk_at dksX10_answers_2 12 rfl rfl)
theorem dX10_answers_60 : decode cX10_answers 60 = .ok (.iload 5, 2) := dk_21 5 (dk_at dksX10_answers_2 14 rfl rfl)
theorem dX10_answers_62 : decode cX10_answers 62 = .ok (.aload_n 0, 1) := dk_42 (dk_at dksX10_answers_2 16 rfl rfl)
theorem dX10_answers_63 : decode cX10_answers 63 = .ok (.getfield 61, 3) := dk_180 0 61 (dk_at dksX10_answers_2 17 rfl rfl)
theorem dX10_answers_66 : decode cX10_answers 66 = .ok (.iload_n 1, 1) := dk_27 (dk_at dksX10_answers_2 20 rfl rfl)
theorem dX10_answers_67 : decode cX10_answers 67 = .ok (.iaload, 1) := dk_46 (dk_at dksX10_answers_2 21 rfl rfl)
theorem dX10_answers_68 : decode cX10_answers 68 = .ok (.if_icmp .ge 90, 3) := dk_162 0 90 (dk_at dksX10_answers_3 0 rfl rfl)
theorem dX10_answers_71 : decode cX10_answers 71 = .ok (.aload_n 0, 1) := dk_42 (dk_at dksX10_answers_3 3 rfl rfl)
theorem dX10_answers_72 : decode cX10_answers 72 = .ok (.getfield 64, 3) := dk_180 0 64 (dk_at dksX10_answers_3 4 rfl rfl)
theorem dX10_answers_75 : decode cX10_answers 75 = .ok (.bipush 40, 2) := dk_16 40 (dk_at dksX10_answers_3 7 rfl rfl)
theorem dX10_answers_77 : decode cX10_answers 77 = .ok (.iload_n 1, 1) := dk_27 (dk_at dksX10_answers_3 9 rfl rfl)
theorem dX10_answers_78 : decode cX10_answers 78 = .ok (.imul, 1) := dk_104 (dk_at dksX10_answers_3 10 rfl rfl)
theorem dX10_answers_79 : decode cX10_answers 79 = .ok (.iload 5, 2) := dk_21 5 (dk_at dksX10_answers_3 11 rfl rfl)
theorem dX10_answers_81 : decode cX10_answers 81 = .ok (.iadd, 1) := dk_96 (dk_at dksX10_answers_3 13 rfl rfl)
theorem dX10_answers_82 : decode cX10_answers 82 = .ok (.laload, 1) := dk_47 (dk_at dksX10_answers_3 14 rfl rfl)
theorem dX10_answers_83 : decode cX10_answers 83 = .ok (.lconst 0, 1) := dk_9 (dk_at dksX10_answers_3 15 rfl rfl)
theorem dX10_answers_84 : decode cX10_answers 84 = .ok (.ldc2_w 401, 3) := dk_20 1 145 (dk_at dksX10_answers_3 16 rfl rfl)
theorem dX10_answers_87 : decode cX10_answers 87 = .ok (.aload_n 0, 1) := dk_42 (dk_at dksX10_answers_3 19 rfl rfl)
theorem dX10_answers_88 : decode cX10_answers 88 = .ok (.getfield 9, 3) := dk_180 0 9 (dk_at dksX10_answers_3 20 rfl rfl)
theorem dX10_answers_91 : decode cX10_answers 91 = .ok (.iconst 5, 1) := dk_8 (dk_at dksX10_answers_3 23 rfl rfl)
theorem dX10_answers_92 : decode cX10_answers 92 = .ok (.iaload, 1) := dk_46 (dk_at dksX10_answers_4 0 rfl rfl)
theorem dX10_answers_93 : decode cX10_answers 93 = .ok (.i2l, 1) := dk_133 (dk_at dksX10_answers_4 1 rfl rfl)
theorem dX10_answers_94 : decode cX10_answers 94 = .ok (.lmul, 1) := dk_105 (dk_at dksX10_answers_4 2 rfl rfl)
theorem dX10_answers_95 : decode cX10_answers 95 = .ok (.lconst 1, 1) := dk_10 (dk_at dksX10_answers_4 3 rfl rfl)
theorem dX10_answers_96 : decode cX10_answers 96 = .ok (.lsub, 1) := dk_101 (dk_at dksX10_answers_4 4 rfl rfl)
theorem dX10_answers_97 : decode cX10_answers 97 = .ok (.invokestatic 133, 3) := dk_184 0 133 (dk_at dksX10_answers_4 5 rfl rfl)
theorem dX10_answers_100 : decode cX10_answers 100 = .ok (.ifCond .eq 58, 3) := dk_153 0 58 (dk_at dksX10_answers_4 8 rfl rfl)
theorem dX10_answers_103 : decode cX10_answers 103 = .ok (.aload_n 0, 1) := dk_42 (dk_at dksX10_answers_4 11 rfl rfl)
theorem dX10_answers_104 : decode cX10_answers 104 = .ok (.getfield 64, 3) := dk_180 0 64 (dk_at dksX10_answers_4 12 rfl rfl)
theorem dX10_answers_107 : decode cX10_answers 107 = .ok (.bipush 40, 2) := dk_16 40 (dk_at dksX10_answers_4 15 rfl rfl)
theorem dX10_answers_109 : decode cX10_answers 109 = .ok (.iload_n 1, 1) := dk_27 (dk_at dksX10_answers_4 17 rfl rfl)
theorem dX10_answers_110 : decode cX10_answers 110 = .ok (.imul, 1) := dk_104 (dk_at dksX10_answers_4 18 rfl rfl)
theorem dX10_answers_111 : decode cX10_answers 111 = .ok (.iload 5, 2) := dk_21 5 (dk_at dksX10_answers_4 19 rfl rfl)
theorem dX10_answers_113 : decode cX10_answers 113 = .ok (.iadd, 1) := dk_96 (dk_at dksX10_answers_4 21 rfl rfl)
theorem dX10_answers_114 : decode cX10_answers 114 = .ok (.laload, 1) := dk_47 (dk_at dksX10_answers_4 22 rfl rfl)
theorem dX10_answers_115 : decode cX10_answers 115 = .ok (.l2i, 1) := dk_136 (dk_at dksX10_answers_4 23 rfl rfl)
theorem dX10_answers_116 : decode cX10_answers 116 = .ok (.istore 6, 2) := dk_54 6 (dk_at dksX10_answers_5 0 rfl rfl)
theorem dX10_answers_118 : decode cX10_answers 118 = .ok (.aload_n 0, 1) := dk_42 (dk_at dksX10_answers_5 2 rfl rfl)
theorem dX10_answers_119 : decode cX10_answers 119 = .ok (.iload 6, 2) := dk_21 6 (dk_at dksX10_answers_5 3 rfl rfl)
theorem dX10_answers_121 : decode cX10_answers 121 = .ok (.iconst 2, 1) := dk_5 (dk_at dksX10_answers_5 5 rfl rfl)
theorem dX10_answers_122 : decode cX10_answers 122 = .ok (.idiv, 1) := dk_108 (dk_at dksX10_answers_5 6 rfl rfl)
theorem dX10_answers_123 : decode cX10_answers 123 = .ok (.iload_n 3, 1) := dk_29 (dk_at dksX10_answers_5 7 rfl rfl)
theorem dX10_answers_124 : decode cX10_answers 124 = .ok (.iload 6, 2) := dk_21 6 (dk_at dksX10_answers_5 8 rfl rfl)
theorem dX10_answers_126 : decode cX10_answers 126 = .ok (.iconst 2, 1) := dk_5 (dk_at dksX10_answers_5 10 rfl rfl)
theorem dX10_answers_127 : decode cX10_answers 127 = .ok (.irem, 1) := dk_112 (dk_at dksX10_answers_5 11 rfl rfl)
theorem dX10_answers_128 : decode cX10_answers 128 = .ok (.iconst 1, 1) := dk_4 (dk_at dksX10_answers_5 12 rfl rfl)
theorem dX10_answers_129 : decode cX10_answers 129 = .ok (.if_icmp .ne 7, 3) := dk_160 0 7 (dk_at dksX10_answers_5 13 rfl rfl)
theorem dX10_answers_132 : decode cX10_answers 132 = .ok (.iconst 1, 1) := dk_4 (dk_at dksX10_answers_5 16 rfl rfl)
theorem dX10_answers_133 : decode cX10_answers 133 = .ok (.goto 4, 3) := dk_167 0 4 (dk_at dksX10_answers_5 17 rfl rfl)
theorem dX10_answers_136 : decode cX10_answers 136 = .ok (.iconst 0, 1) := dk_3 (dk_at dksX10_answers_5 20 rfl rfl)
theorem dX10_answers_137 : decode cX10_answers 137 = .ok (.iload 4, 2) := dk_21 4 (dk_at dksX10_answers_5 21 rfl rfl)
theorem dX10_answers_139 : decode cX10_answers 139 = .ok (.invokevirtual 356, 3) := dk_182 1 100 (dk_at dksX10_answers_6 0 rfl rfl)
theorem dX10_answers_142 : decode cX10_answers 142 = .ok (.iload_n 3, 1) := dk_29 (dk_at dksX10_answers_6 3 rfl rfl)
theorem dX10_answers_143 : decode cX10_answers 143 = .ok (.istore 7, 2) := dk_54 7 (dk_at dksX10_answers_6 4 rfl rfl)
theorem dX10_answers_145 : decode cX10_answers 145 = .ok (.iload 4, 2) := dk_21 4 (dk_at dksX10_answers_6 6 rfl rfl)
theorem dX10_answers_147 : decode cX10_answers 147 = .ok (.istore_n 3, 1) := dk_62 (dk_at dksX10_answers_6 8 rfl rfl)
theorem dX10_answers_148 : decode cX10_answers 148 = .ok (.iload 7, 2) := dk_21 7 (dk_at dksX10_answers_6 9 rfl rfl)
theorem dX10_answers_150 : decode cX10_answers 150 = .ok (.istore 4, 2) := dk_54 4 (dk_at dksX10_answers_6 11 rfl rfl)
theorem dX10_answers_152 : decode cX10_answers 152 = .ok (.iinc 5 1, 3) := dk_132 5 1 (dk_at dksX10_answers_6 13 rfl rfl)
theorem dX10_answers_155 : decode cX10_answers 155 = .ok (.goto (-95), 3) := dk_167 255 161 (dk_at dksX10_answers_6 16 rfl rfl)
theorem dX10_answers_158 : decode cX10_answers 158 = .ok (.iload_n 2, 1) := dk_28 (dk_at dksX10_answers_6 19 rfl rfl)
theorem dX10_answers_159 : decode cX10_answers 159 = .ok (.ifCond .ne 11, 3) := dk_154 0 11 (dk_at dksX10_answers_6 20 rfl rfl)
theorem dX10_answers_162 : decode cX10_answers 162 = .ok (.aload_n 0, 1) := dk_42 (dk_at dksX10_answers_6 23 rfl rfl)
theorem dX10_answers_163 : decode cX10_answers 163 = .ok (.iload_n 3, 1) := dk_29 (dk_at dksX10_answers_7 0 rfl rfl)
theorem dX10_answers_164 : decode cX10_answers 164 = .ok (.invokevirtual 333, 3) := dk_182 1 77 (dk_at dksX10_answers_7 1 rfl rfl)
theorem dX10_answers_167 : decode cX10_answers 167 = .ok (.goto 18, 3) := dk_167 0 18 (dk_at dksX10_answers_7 4 rfl rfl)
theorem dX10_answers_170 : decode cX10_answers 170 = .ok (.iload_n 2, 1) := dk_28 (dk_at dksX10_answers_7 7 rfl rfl)
theorem dX10_answers_171 : decode cX10_answers 171 = .ok (.iconst 1, 1) := dk_4 (dk_at dksX10_answers_7 8 rfl rfl)
theorem dX10_answers_172 : decode cX10_answers 172 = .ok (.if_icmp .ne 11, 3) := dk_160 0 11 (dk_at dksX10_answers_7 9 rfl rfl)
theorem dX10_answers_175 : decode cX10_answers 175 = .ok (.aload_n 0, 1) := dk_42 (dk_at dksX10_answers_7 12 rfl rfl)
theorem dX10_answers_176 : decode cX10_answers 176 = .ok (.iload_n 3, 1) := dk_29 (dk_at dksX10_answers_7 13 rfl rfl)
theorem dX10_answers_177 : decode cX10_answers 177 = .ok (.invokevirtual 339, 3) := dk_182 1 83 (dk_at dksX10_answers_7 14 rfl rfl)
theorem dX10_answers_180 : decode cX10_answers 180 = .ok (.goto 5, 3) := dk_167 0 5 (dk_at dksX10_answers_7 17 rfl rfl)
theorem dX10_answers_183 : decode cX10_answers 183 = .ok (.iload 5, 2) := dk_21 5 (dk_at dksX10_answers_7 20 rfl rfl)
theorem dX10_answers_185 : decode cX10_answers 185 = .ok (.ireturn, 1) := dk_172 (dk_at dksX10_answers_7 22 rfl rfl)
abbrev cX10_trayFault : ByteArray := prog_33_method_97_code
def yX10_trayFault : MethodName := ⟨RX10, "trayFault", "(I)I"⟩
def dkwX10_trayFault_1 : List UInt8 := [167, 0, 4, 3, 172]
abbrev dktX10_trayFault_1 : List UInt8 := dkwX10_trayFault_1 ++ []
def dkwX10_trayFault_0 : List UInt8 := [27, 184, 1, 147, 154, 0, 7, 4, 167, 0, 18, 42, 180, 0, 58, 27, 46, 2, 160, 0, 7, 5]
abbrev dktX10_trayFault_0 : List UInt8 := dkwX10_trayFault_0 ++ dktX10_trayFault_1
theorem dksX10_trayFault_0 : cX10_trayFault.data.toList.drop 0 = dktX10_trayFault_0 := by decide +kernel
theorem dksX10_trayFault_1 : cX10_trayFault.data.toList.drop 22 = dktX10_trayFault_1 := dk_seg dksX10_trayFault_0 22 rfl rfl
theorem dX10_trayFault_0 : decode cX10_trayFault 0 = .ok (.iload_n 1, 1) := dk_27 (dk_at dksX10_trayFault_0 0 rfl rfl)
theorem dX10_trayFault_1 : decode cX10_trayFault 1 = .ok (.invokestatic 403, 3) := dk_184 1 147 (dk_at dksX10_trayFault_0 1 rfl rfl)
theorem dX10_trayFault_4 : decode cX10_trayFault 4 = .ok (.ifCond .ne 7, 3) := dk_154 0 7 (dk_at dksX10_trayFault_0 4 rfl rfl)
theorem dX10_trayFault_7 : decode cX10_trayFault 7 = .ok (.iconst 1, 1) := dk_4 (dk_at dksX10_trayFault_0 7 rfl rfl)
theorem dX10_trayFault_8 : decode cX10_trayFault 8 = .ok (.goto 18, 3) := dk_167 0 18 (dk_at dksX10_trayFault_0 8 rfl rfl)
theorem dX10_trayFault_11 : decode cX10_trayFault 11 = .ok (.aload_n 0, 1) := dk_42 (dk_at dksX10_trayFault_0 11 rfl rfl)
theorem dX10_trayFault_12 : decode cX10_trayFault 12 = .ok (.getfield 58, 3) := dk_180 0 58 (dk_at dksX10_trayFault_0 12 rfl rfl)
theorem dX10_trayFault_15 : decode cX10_trayFault 15 = .ok (.iload_n 1, 1) := dk_27 (dk_at dksX10_trayFault_0 15 rfl rfl)
theorem dX10_trayFault_16 : decode cX10_trayFault 16 = .ok (.iaload, 1) := dk_46 (dk_at dksX10_trayFault_0 16 rfl rfl)
theorem dX10_trayFault_17 : decode cX10_trayFault 17 = .ok (.iconst (-1), 1) := dk_2 (dk_at dksX10_trayFault_0 17 rfl rfl)
theorem dX10_trayFault_18 : decode cX10_trayFault 18 = .ok (.if_icmp .ne 7, 3) := dk_160 0 7 (dk_at dksX10_trayFault_0 18 rfl rfl)
theorem dX10_trayFault_21 : decode cX10_trayFault 21 = .ok (.iconst 2, 1) := dk_5 (dk_at dksX10_trayFault_0 21 rfl rfl)
theorem dX10_trayFault_22 : decode cX10_trayFault 22 = .ok (.goto 4, 3) := dk_167 0 4 (dk_at dksX10_trayFault_1 0 rfl rfl)
theorem dX10_trayFault_25 : decode cX10_trayFault 25 = .ok (.iconst 0, 1) := dk_3 (dk_at dksX10_trayFault_1 3 rfl rfl)
theorem dX10_trayFault_26 : decode cX10_trayFault 26 = .ok (.ireturn, 1) := dk_172 (dk_at dksX10_trayFault_1 4 rfl rfl)
abbrev cX10_isTray : ByteArray := prog_33_method_99_code
def yX10_isTray : MethodName := ⟨RX10, "isTray", "(I)Z"⟩
def dkwX10_isTray_0 : List UInt8 := [26, 133, 9, 20, 1, 23, 184, 0, 133, 172]
abbrev dktX10_isTray_0 : List UInt8 := dkwX10_isTray_0 ++ []
theorem dksX10_isTray_0 : cX10_isTray.data.toList.drop 0 = dktX10_isTray_0 := by decide +kernel
theorem dX10_isTray_0 : decode cX10_isTray 0 = .ok (.iload_n 0, 1) := dk_26 (dk_at dksX10_isTray_0 0 rfl rfl)
theorem dX10_isTray_1 : decode cX10_isTray 1 = .ok (.i2l, 1) := dk_133 (dk_at dksX10_isTray_0 1 rfl rfl)
theorem dX10_isTray_2 : decode cX10_isTray 2 = .ok (.lconst 0, 1) := dk_9 (dk_at dksX10_isTray_0 2 rfl rfl)
theorem dX10_isTray_3 : decode cX10_isTray 3 = .ok (.ldc2_w 279, 3) := dk_20 1 23 (dk_at dksX10_isTray_0 3 rfl rfl)
theorem dX10_isTray_6 : decode cX10_isTray 6 = .ok (.invokestatic 133, 3) := dk_184 0 133 (dk_at dksX10_isTray_0 6 rfl rfl)
theorem dX10_isTray_9 : decode cX10_isTray 9 = .ok (.ireturn, 1) := dk_172 (dk_at dksX10_isTray_0 9 rfl rfl)
abbrev cX10_tray : ByteArray := prog_33_method_100_code
def yX10_tray : MethodName := ⟨RX10, "tray", "(III)V"⟩
def dkwX10_tray_4 : List UInt8 := [177]
abbrev dktX10_tray_4 : List UInt8 := dkwX10_tray_4 ++ []
def dkwX10_tray_3 : List UInt8 := [16, 40, 162, 0, 22, 42, 180, 0, 64, 16, 40, 27, 104, 21, 4, 96, 9, 80, 132, 4, 1, 167, 255, 233]
abbrev dktX10_tray_3 : List UInt8 := dkwX10_tray_3 ++ dktX10_tray_4
def dkwX10_tray_2 : List UInt8 := [158, 0, 4, 177, 42, 180, 0, 58, 27, 28, 79, 42, 180, 0, 61, 27, 29, 79, 3, 54, 4, 21, 4]
abbrev dktX10_tray_2 : List UInt8 := dkwX10_tray_2 ++ dktX10_tray_3
def dkwX10_tray_1 : List UInt8 := [29, 133, 9, 20, 1, 153, 184, 0, 133, 154, 0, 7, 5, 167, 0, 4, 3, 181, 0, 71, 42, 180, 0, 71]
abbrev dktX10_tray_1 : List UInt8 := dkwX10_tray_1 ++ dktX10_tray_2
def dkwX10_tray_0 : List UInt8 := [42, 27, 184, 1, 147, 154, 0, 7, 4, 167, 0, 32, 28, 133, 9, 20, 1, 23, 184, 0, 133, 153, 0, 15]
abbrev dktX10_tray_0 : List UInt8 := dkwX10_tray_0 ++ dktX10_tray_1
theorem dksX10_tray_0 : cX10_tray.data.toList.drop 0 = dktX10_tray_0 := by decide +kernel
theorem dksX10_tray_1 : cX10_tray.data.toList.drop 24 = dktX10_tray_1 := dk_seg dksX10_tray_0 24 rfl rfl
theorem dksX10_tray_2 : cX10_tray.data.toList.drop 48 = dktX10_tray_2 := dk_seg dksX10_tray_1 24 rfl rfl
theorem dksX10_tray_3 : cX10_tray.data.toList.drop 71 = dktX10_tray_3 := dk_seg dksX10_tray_2 23 rfl rfl
theorem dksX10_tray_4 : cX10_tray.data.toList.drop 95 = dktX10_tray_4 := dk_seg dksX10_tray_3 24 rfl rfl
theorem dX10_tray_0 : decode cX10_tray 0 = .ok (.aload_n 0, 1) := dk_42 (dk_at dksX10_tray_0 0 rfl rfl)
theorem dX10_tray_1 : decode cX10_tray 1 = .ok (.iload_n 1, 1) := dk_27 (dk_at dksX10_tray_0 1 rfl rfl)
theorem dX10_tray_2 : decode cX10_tray 2 = .ok (.invokestatic 403, 3) := dk_184 1 147 (dk_at dksX10_tray_0 2 rfl rfl)
theorem dX10_tray_5 : decode cX10_tray 5 = .ok (.ifCond .ne 7, 3) := dk_154 0 7 (dk_at dksX10_tray_0 5 rfl rfl)
theorem dX10_tray_8 : decode cX10_tray 8 = .ok (.iconst 1, 1) := dk_4 (dk_at dksX10_tray_0 8 rfl rfl)
theorem dX10_tray_9 : decode cX10_tray 9 = .ok (.goto 32, 3) := dk_167 0 32 (dk_at dksX10_tray_0 9 rfl rfl)
theorem dX10_tray_12 : decode cX10_tray 12 = .ok (.iload_n 2, 1) := dk_28 (dk_at dksX10_tray_0 12 rfl rfl)
theorem dX10_tray_13 : decode cX10_tray 13 = .ok (.i2l, 1) := dk_133 (dk_at dksX10_tray_0 13 rfl rfl)
theorem dX10_tray_14 : decode cX10_tray 14 = .ok (.lconst 0, 1) := dk_9 (dk_at dksX10_tray_0 14 rfl rfl)
theorem dX10_tray_15 : decode cX10_tray 15 = .ok (.ldc2_w 279, 3) := dk_20 1 23 (dk_at dksX10_tray_0 15 rfl rfl)
theorem dX10_tray_18 : decode cX10_tray 18 = .ok (.invokestatic 133, 3) := dk_184 0 133 (dk_at dksX10_tray_0 18 rfl rfl)
theorem dX10_tray_21 : decode cX10_tray 21 = .ok (.ifCond .eq 15, 3) := dk_153 0 15 (dk_at dksX10_tray_0 21 rfl rfl)
theorem dX10_tray_24 : decode cX10_tray 24 = .ok (.iload_n 3, 1) := dk_29 (dk_at dksX10_tray_1 0 rfl rfl)
theorem dX10_tray_25 : decode cX10_tray 25 = .ok (.i2l, 1) := dk_133 (dk_at dksX10_tray_1 1 rfl rfl)
theorem dX10_tray_26 : decode cX10_tray 26 = .ok (.lconst 0, 1) := dk_9 (dk_at dksX10_tray_1 2 rfl rfl)
theorem dX10_tray_27 : decode cX10_tray 27 = .ok (.ldc2_w 409, 3) := dk_20 1 153 (dk_at dksX10_tray_1 3 rfl rfl)
theorem dX10_tray_30 : decode cX10_tray 30 = .ok (.invokestatic 133, 3) := dk_184 0 133 (dk_at dksX10_tray_1 6 rfl rfl)
theorem dX10_tray_33 : decode cX10_tray 33 = .ok (.ifCond .ne 7, 3) := dk_154 0 7 (dk_at dksX10_tray_1 9 rfl rfl)
theorem dX10_tray_36 : decode cX10_tray 36 = .ok (.iconst 2, 1) := dk_5 (dk_at dksX10_tray_1 12 rfl rfl)
theorem dX10_tray_37 : decode cX10_tray 37 = .ok (.goto 4, 3) := dk_167 0 4 (dk_at dksX10_tray_1 13 rfl rfl)
theorem dX10_tray_40 : decode cX10_tray 40 = .ok (.iconst 0, 1) := dk_3 (dk_at dksX10_tray_1 16 rfl rfl)
theorem dX10_tray_41 : decode cX10_tray 41 = .ok (.putfield 71, 3) := dk_181 0 71 (dk_at dksX10_tray_1 17 rfl rfl)
theorem dX10_tray_44 : decode cX10_tray 44 = .ok (.aload_n 0, 1) := dk_42 (dk_at dksX10_tray_1 20 rfl rfl)
theorem dX10_tray_45 : decode cX10_tray 45 = .ok (.getfield 71, 3) := dk_180 0 71 (dk_at dksX10_tray_1 21 rfl rfl)
theorem dX10_tray_48 : decode cX10_tray 48 = .ok (.ifCond .le 4, 3) := dk_158 0 4 (dk_at dksX10_tray_2 0 rfl rfl)
theorem dX10_tray_51 : decode cX10_tray 51 = .ok (.return_, 1) := dk_177 (dk_at dksX10_tray_2 3 rfl rfl)
theorem dX10_tray_52 : decode cX10_tray 52 = .ok (.aload_n 0, 1) := dk_42 (dk_at dksX10_tray_2 4 rfl rfl)
theorem dX10_tray_53 : decode cX10_tray 53 = .ok (.getfield 58, 3) := dk_180 0 58 (dk_at dksX10_tray_2 5 rfl rfl)
theorem dX10_tray_56 : decode cX10_tray 56 = .ok (.iload_n 1, 1) := dk_27 (dk_at dksX10_tray_2 8 rfl rfl)
theorem dX10_tray_57 : decode cX10_tray 57 = .ok (.iload_n 2, 1) := dk_28 (dk_at dksX10_tray_2 9 rfl rfl)
theorem dX10_tray_58 : decode cX10_tray 58 = .ok (.iastore, 1) := dk_79 (dk_at dksX10_tray_2 10 rfl rfl)
theorem dX10_tray_59 : decode cX10_tray 59 = .ok (.aload_n 0, 1) := dk_42 (dk_at dksX10_tray_2 11 rfl rfl)
theorem dX10_tray_60 : decode cX10_tray 60 = .ok (.getfield 61, 3) := dk_180 0 61 (dk_at dksX10_tray_2 12 rfl rfl)
theorem dX10_tray_63 : decode cX10_tray 63 = .ok (.iload_n 1, 1) := dk_27 (dk_at dksX10_tray_2 15 rfl rfl)
theorem dX10_tray_64 : decode cX10_tray 64 = .ok (.iload_n 3, 1) := dk_29 (dk_at dksX10_tray_2 16 rfl rfl)
theorem dX10_tray_65 : decode cX10_tray 65 = .ok (.iastore, 1) := dk_79 (dk_at dksX10_tray_2 17 rfl rfl)
theorem dX10_tray_66 : decode cX10_tray 66 = .ok (.iconst 0, 1) := dk_3 (dk_at dksX10_tray_2 18 rfl rfl)
theorem dX10_tray_67 : decode cX10_tray 67 = .ok (.istore 4, 2) := dk_54 4 (dk_at dksX10_tray_2 19 rfl rfl)
theorem dX10_tray_69 : decode cX10_tray 69 = .ok (.iload 4, 2) := dk_21 4 (dk_at dksX10_tray_2 21 rfl rfl)
theorem dX10_tray_71 : decode cX10_tray 71 = .ok (.bipush 40, 2) := dk_16 40 (dk_at dksX10_tray_3 0 rfl rfl)
theorem dX10_tray_73 : decode cX10_tray 73 = .ok (.if_icmp .ge 22, 3) := dk_162 0 22 (dk_at dksX10_tray_3 2 rfl rfl)
theorem dX10_tray_76 : decode cX10_tray 76 = .ok (.aload_n 0, 1) := dk_42 (dk_at dksX10_tray_3 5 rfl rfl)
theorem dX10_tray_77 : decode cX10_tray 77 = .ok (.getfield 64, 3) := dk_180 0 64 (dk_at dksX10_tray_3 6 rfl rfl)
theorem dX10_tray_80 : decode cX10_tray 80 = .ok (.bipush 40, 2) := dk_16 40 (dk_at dksX10_tray_3 9 rfl rfl)
theorem dX10_tray_82 : decode cX10_tray 82 = .ok (.iload_n 1, 1) := dk_27 (dk_at dksX10_tray_3 11 rfl rfl)
theorem dX10_tray_83 : decode cX10_tray 83 = .ok (.imul, 1) := dk_104 (dk_at dksX10_tray_3 12 rfl rfl)
theorem dX10_tray_84 : decode cX10_tray 84 = .ok (.iload 4, 2) := dk_21 4 (dk_at dksX10_tray_3 13 rfl rfl)
theorem dX10_tray_86 : decode cX10_tray 86 = .ok (.iadd, 1) := dk_96 (dk_at dksX10_tray_3 15 rfl rfl)
theorem dX10_tray_87 : decode cX10_tray 87 = .ok (.lconst 0, 1) := dk_9 (dk_at dksX10_tray_3 16 rfl rfl)
theorem dX10_tray_88 : decode cX10_tray 88 = .ok (.lastore, 1) := dk_80 (dk_at dksX10_tray_3 17 rfl rfl)
theorem dX10_tray_89 : decode cX10_tray 89 = .ok (.iinc 4 1, 3) := dk_132 4 1 (dk_at dksX10_tray_3 18 rfl rfl)
theorem dX10_tray_92 : decode cX10_tray 92 = .ok (.goto (-23), 3) := dk_167 255 233 (dk_at dksX10_tray_3 21 rfl rfl)
theorem dX10_tray_95 : decode cX10_tray 95 = .ok (.return_, 1) := dk_177 (dk_at dksX10_tray_4 0 rfl rfl)
abbrev cX10_write : ByteArray := prog_33_method_102_code
def yX10_write : MethodName := ⟨RX10, "write", "(IIJ)J"⟩
def dkwX10_write_2 : List UInt8 := [42, 6, 182, 0, 237, 133, 173]
abbrev dktX10_write_2 : List UInt8 := dkwX10_write_2 ++ []
def dkwX10_write_1 : List UInt8 := [180, 0, 61, 27, 46, 4, 100, 133, 184, 0, 133, 153, 0, 13, 42, 27, 28, 33, 182, 1, 155, 167, 0, 9]
abbrev dktX10_write_1 : List UInt8 := dkwX10_write_1 ++ dktX10_write_2
def dkwX10_write_0 : List UInt8 := [42, 42, 27, 182, 1, 150, 181, 0, 71, 42, 180, 0, 71, 158, 0, 5, 9, 173, 28, 133, 9, 42]
abbrev dktX10_write_0 : List UInt8 := dkwX10_write_0 ++ dktX10_write_1
theorem dksX10_write_0 : cX10_write.data.toList.drop 0 = dktX10_write_0 := by decide +kernel
theorem dksX10_write_1 : cX10_write.data.toList.drop 22 = dktX10_write_1 := dk_seg dksX10_write_0 22 rfl rfl
theorem dksX10_write_2 : cX10_write.data.toList.drop 46 = dktX10_write_2 := dk_seg dksX10_write_1 24 rfl rfl
theorem dX10_write_0 : decode cX10_write 0 = .ok (.aload_n 0, 1) := dk_42 (dk_at dksX10_write_0 0 rfl rfl)
theorem dX10_write_1 : decode cX10_write 1 = .ok (.aload_n 0, 1) := dk_42 (dk_at dksX10_write_0 1 rfl rfl)
theorem dX10_write_2 : decode cX10_write 2 = .ok (.iload_n 1, 1) := dk_27 (dk_at dksX10_write_0 2 rfl rfl)
theorem dX10_write_3 : decode cX10_write 3 = .ok (.invokevirtual 406, 3) := dk_182 1 150 (dk_at dksX10_write_0 3 rfl rfl)
theorem dX10_write_6 : decode cX10_write 6 = .ok (.putfield 71, 3) := dk_181 0 71 (dk_at dksX10_write_0 6 rfl rfl)
theorem dX10_write_9 : decode cX10_write 9 = .ok (.aload_n 0, 1) := dk_42 (dk_at dksX10_write_0 9 rfl rfl)
theorem dX10_write_10 : decode cX10_write 10 = .ok (.getfield 71, 3) := dk_180 0 71 (dk_at dksX10_write_0 10 rfl rfl)
theorem dX10_write_13 : decode cX10_write 13 = .ok (.ifCond .le 5, 3) := dk_158 0 5 (dk_at dksX10_write_0 13 rfl rfl)
theorem dX10_write_16 : decode cX10_write 16 = .ok (.lconst 0, 1) := dk_9 (dk_at dksX10_write_0 16 rfl rfl)
theorem dX10_write_17 : decode cX10_write 17 = .ok (.lreturn, 1) := dk_173 (dk_at dksX10_write_0 17 rfl rfl)
theorem dX10_write_18 : decode cX10_write 18 = .ok (.iload_n 2, 1) := dk_28 (dk_at dksX10_write_0 18 rfl rfl)
theorem dX10_write_19 : decode cX10_write 19 = .ok (.i2l, 1) := dk_133 (dk_at dksX10_write_0 19 rfl rfl)
theorem dX10_write_20 : decode cX10_write 20 = .ok (.lconst 0, 1) := dk_9 (dk_at dksX10_write_0 20 rfl rfl)
theorem dX10_write_21 : decode cX10_write 21 = .ok (.aload_n 0, 1) := dk_42 (dk_at dksX10_write_0 21 rfl rfl)
theorem dX10_write_22 : decode cX10_write 22 = .ok (.getfield 61, 3) := dk_180 0 61 (dk_at dksX10_write_1 0 rfl rfl)
theorem dX10_write_25 : decode cX10_write 25 = .ok (.iload_n 1, 1) := dk_27 (dk_at dksX10_write_1 3 rfl rfl)
theorem dX10_write_26 : decode cX10_write 26 = .ok (.iaload, 1) := dk_46 (dk_at dksX10_write_1 4 rfl rfl)
theorem dX10_write_27 : decode cX10_write 27 = .ok (.iconst 1, 1) := dk_4 (dk_at dksX10_write_1 5 rfl rfl)
theorem dX10_write_28 : decode cX10_write 28 = .ok (.isub, 1) := dk_100 (dk_at dksX10_write_1 6 rfl rfl)
theorem dX10_write_29 : decode cX10_write 29 = .ok (.i2l, 1) := dk_133 (dk_at dksX10_write_1 7 rfl rfl)
theorem dX10_write_30 : decode cX10_write 30 = .ok (.invokestatic 133, 3) := dk_184 0 133 (dk_at dksX10_write_1 8 rfl rfl)
theorem dX10_write_33 : decode cX10_write 33 = .ok (.ifCond .eq 13, 3) := dk_153 0 13 (dk_at dksX10_write_1 11 rfl rfl)
theorem dX10_write_36 : decode cX10_write 36 = .ok (.aload_n 0, 1) := dk_42 (dk_at dksX10_write_1 14 rfl rfl)
theorem dX10_write_37 : decode cX10_write 37 = .ok (.iload_n 1, 1) := dk_27 (dk_at dksX10_write_1 15 rfl rfl)
theorem dX10_write_38 : decode cX10_write 38 = .ok (.iload_n 2, 1) := dk_28 (dk_at dksX10_write_1 16 rfl rfl)
theorem dX10_write_39 : decode cX10_write 39 = .ok (.lload_n 3, 1) := dk_33 (dk_at dksX10_write_1 17 rfl rfl)
theorem dX10_write_40 : decode cX10_write 40 = .ok (.invokevirtual 411, 3) := dk_182 1 155 (dk_at dksX10_write_1 18 rfl rfl)
theorem dX10_write_43 : decode cX10_write 43 = .ok (.goto 9, 3) := dk_167 0 9 (dk_at dksX10_write_1 21 rfl rfl)
theorem dX10_write_46 : decode cX10_write 46 = .ok (.aload_n 0, 1) := dk_42 (dk_at dksX10_write_2 0 rfl rfl)
theorem dX10_write_47 : decode cX10_write 47 = .ok (.iconst 3, 1) := dk_6 (dk_at dksX10_write_2 1 rfl rfl)
theorem dX10_write_48 : decode cX10_write 48 = .ok (.invokevirtual 237, 3) := dk_182 0 237 (dk_at dksX10_write_2 2 rfl rfl)
theorem dX10_write_51 : decode cX10_write 51 = .ok (.i2l, 1) := dk_133 (dk_at dksX10_write_2 5 rfl rfl)
theorem dX10_write_52 : decode cX10_write 52 = .ok (.lreturn, 1) := dk_173 (dk_at dksX10_write_2 6 rfl rfl)
abbrev cX10_cut : ByteArray := prog_33_method_101_code
def yX10_cut : MethodName := ⟨RX10, "cut", "(IIJ)J"⟩
def dkwX10_cut_1 : List UInt8 := [33, 21, 5, 121, 21, 5, 123, 80, 42, 180, 0, 64, 16, 40, 27, 104, 28, 96, 47, 173]
abbrev dktX10_cut_1 : List UInt8 := dkwX10_cut_1 ++ []
def dkwX10_cut_0 : List UInt8 := [16, 64, 16, 8, 42, 180, 0, 58, 27, 46, 120, 100, 54, 5, 42, 180, 0, 64, 16, 40, 27, 104, 28, 96]
abbrev dktX10_cut_0 : List UInt8 := dkwX10_cut_0 ++ dktX10_cut_1
theorem dksX10_cut_0 : cX10_cut.data.toList.drop 0 = dktX10_cut_0 := by decide +kernel
theorem dksX10_cut_1 : cX10_cut.data.toList.drop 24 = dktX10_cut_1 := dk_seg dksX10_cut_0 24 rfl rfl
theorem dX10_cut_0 : decode cX10_cut 0 = .ok (.bipush 64, 2) := dk_16 64 (dk_at dksX10_cut_0 0 rfl rfl)
theorem dX10_cut_2 : decode cX10_cut 2 = .ok (.bipush 8, 2) := dk_16 8 (dk_at dksX10_cut_0 2 rfl rfl)
theorem dX10_cut_4 : decode cX10_cut 4 = .ok (.aload_n 0, 1) := dk_42 (dk_at dksX10_cut_0 4 rfl rfl)
theorem dX10_cut_5 : decode cX10_cut 5 = .ok (.getfield 58, 3) := dk_180 0 58 (dk_at dksX10_cut_0 5 rfl rfl)
theorem dX10_cut_8 : decode cX10_cut 8 = .ok (.iload_n 1, 1) := dk_27 (dk_at dksX10_cut_0 8 rfl rfl)
theorem dX10_cut_9 : decode cX10_cut 9 = .ok (.iaload, 1) := dk_46 (dk_at dksX10_cut_0 9 rfl rfl)
theorem dX10_cut_10 : decode cX10_cut 10 = .ok (.ishl, 1) := dk_120 (dk_at dksX10_cut_0 10 rfl rfl)
theorem dX10_cut_11 : decode cX10_cut 11 = .ok (.isub, 1) := dk_100 (dk_at dksX10_cut_0 11 rfl rfl)
theorem dX10_cut_12 : decode cX10_cut 12 = .ok (.istore 5, 2) := dk_54 5 (dk_at dksX10_cut_0 12 rfl rfl)
theorem dX10_cut_14 : decode cX10_cut 14 = .ok (.aload_n 0, 1) := dk_42 (dk_at dksX10_cut_0 14 rfl rfl)
theorem dX10_cut_15 : decode cX10_cut 15 = .ok (.getfield 64, 3) := dk_180 0 64 (dk_at dksX10_cut_0 15 rfl rfl)
theorem dX10_cut_18 : decode cX10_cut 18 = .ok (.bipush 40, 2) := dk_16 40 (dk_at dksX10_cut_0 18 rfl rfl)
theorem dX10_cut_20 : decode cX10_cut 20 = .ok (.iload_n 1, 1) := dk_27 (dk_at dksX10_cut_0 20 rfl rfl)
theorem dX10_cut_21 : decode cX10_cut 21 = .ok (.imul, 1) := dk_104 (dk_at dksX10_cut_0 21 rfl rfl)
theorem dX10_cut_22 : decode cX10_cut 22 = .ok (.iload_n 2, 1) := dk_28 (dk_at dksX10_cut_0 22 rfl rfl)
theorem dX10_cut_23 : decode cX10_cut 23 = .ok (.iadd, 1) := dk_96 (dk_at dksX10_cut_0 23 rfl rfl)
theorem dX10_cut_24 : decode cX10_cut 24 = .ok (.lload_n 3, 1) := dk_33 (dk_at dksX10_cut_1 0 rfl rfl)
theorem dX10_cut_25 : decode cX10_cut 25 = .ok (.iload 5, 2) := dk_21 5 (dk_at dksX10_cut_1 1 rfl rfl)
theorem dX10_cut_27 : decode cX10_cut 27 = .ok (.lshl, 1) := dk_121 (dk_at dksX10_cut_1 3 rfl rfl)
theorem dX10_cut_28 : decode cX10_cut 28 = .ok (.iload 5, 2) := dk_21 5 (dk_at dksX10_cut_1 4 rfl rfl)
theorem dX10_cut_30 : decode cX10_cut 30 = .ok (.lshr, 1) := dk_123 (dk_at dksX10_cut_1 6 rfl rfl)
theorem dX10_cut_31 : decode cX10_cut 31 = .ok (.lastore, 1) := dk_80 (dk_at dksX10_cut_1 7 rfl rfl)
theorem dX10_cut_32 : decode cX10_cut 32 = .ok (.aload_n 0, 1) := dk_42 (dk_at dksX10_cut_1 8 rfl rfl)
theorem dX10_cut_33 : decode cX10_cut 33 = .ok (.getfield 64, 3) := dk_180 0 64 (dk_at dksX10_cut_1 9 rfl rfl)
theorem dX10_cut_36 : decode cX10_cut 36 = .ok (.bipush 40, 2) := dk_16 40 (dk_at dksX10_cut_1 12 rfl rfl)
theorem dX10_cut_38 : decode cX10_cut 38 = .ok (.iload_n 1, 1) := dk_27 (dk_at dksX10_cut_1 14 rfl rfl)
theorem dX10_cut_39 : decode cX10_cut 39 = .ok (.imul, 1) := dk_104 (dk_at dksX10_cut_1 15 rfl rfl)
theorem dX10_cut_40 : decode cX10_cut 40 = .ok (.iload_n 2, 1) := dk_28 (dk_at dksX10_cut_1 16 rfl rfl)
theorem dX10_cut_41 : decode cX10_cut 41 = .ok (.iadd, 1) := dk_96 (dk_at dksX10_cut_1 17 rfl rfl)
theorem dX10_cut_42 : decode cX10_cut 42 = .ok (.laload, 1) := dk_47 (dk_at dksX10_cut_1 18 rfl rfl)
theorem dX10_cut_43 : decode cX10_cut 43 = .ok (.lreturn, 1) := dk_173 (dk_at dksX10_cut_1 19 rfl rfl)
abbrev cX10_pour : ByteArray := prog_33_method_103_code
def yX10_pour : MethodName := ⟨RX10, "pour", "(I)I"⟩
def dkwX10_pour_3 : List UInt8 := [88, 132, 2, 1, 132, 3, 1, 167, 255, 205, 28, 172]
abbrev dktX10_pour_3 : List UInt8 := dkwX10_pour_3 ++ []
def dkwX10_pour_2 : List UInt8 := [180, 0, 9, 16, 6, 46, 29, 182, 1, 37, 154, 0, 6, 167, 0, 15, 42, 27, 28, 29, 133, 182, 1, 155]
abbrev dktX10_pour_2 : List UInt8 := dkwX10_pour_2 ++ dktX10_pour_3
def dkwX10_pour_1 : List UInt8 := [3, 62, 29, 42, 180, 0, 250, 162, 0, 49, 28, 42, 180, 0, 61, 27, 46, 162, 0, 39, 42, 42]
abbrev dktX10_pour_1 : List UInt8 := dkwX10_pour_1 ++ dktX10_pour_2
def dkwX10_pour_0 : List UInt8 := [42, 42, 27, 182, 1, 150, 181, 0, 71, 42, 180, 0, 71, 158, 0, 5, 3, 172, 42, 182, 1, 74, 3, 61]
abbrev dktX10_pour_0 : List UInt8 := dkwX10_pour_0 ++ dktX10_pour_1
theorem dksX10_pour_0 : cX10_pour.data.toList.drop 0 = dktX10_pour_0 := by decide +kernel
theorem dksX10_pour_1 : cX10_pour.data.toList.drop 24 = dktX10_pour_1 := dk_seg dksX10_pour_0 24 rfl rfl
theorem dksX10_pour_2 : cX10_pour.data.toList.drop 46 = dktX10_pour_2 := dk_seg dksX10_pour_1 22 rfl rfl
theorem dksX10_pour_3 : cX10_pour.data.toList.drop 70 = dktX10_pour_3 := dk_seg dksX10_pour_2 24 rfl rfl
theorem dX10_pour_0 : decode cX10_pour 0 = .ok (.aload_n 0, 1) := dk_42 (dk_at dksX10_pour_0 0 rfl rfl)
theorem dX10_pour_1 : decode cX10_pour 1 = .ok (.aload_n 0, 1) := dk_42 (dk_at dksX10_pour_0 1 rfl rfl)
theorem dX10_pour_2 : decode cX10_pour 2 = .ok (.iload_n 1, 1) := dk_27 (dk_at dksX10_pour_0 2 rfl rfl)
theorem dX10_pour_3 : decode cX10_pour 3 = .ok (.invokevirtual 406, 3) := dk_182 1 150 (dk_at dksX10_pour_0 3 rfl rfl)
theorem dX10_pour_6 : decode cX10_pour 6 = .ok (.putfield 71, 3) := dk_181 0 71 (dk_at dksX10_pour_0 6 rfl rfl)
theorem dX10_pour_9 : decode cX10_pour 9 = .ok (.aload_n 0, 1) := dk_42 (dk_at dksX10_pour_0 9 rfl rfl)
theorem dX10_pour_10 : decode cX10_pour 10 = .ok (.getfield 71, 3) := dk_180 0 71 (dk_at dksX10_pour_0 10 rfl rfl)
theorem dX10_pour_13 : decode cX10_pour 13 = .ok (.ifCond .le 5, 3) := dk_158 0 5 (dk_at dksX10_pour_0 13 rfl rfl)
theorem dX10_pour_16 : decode cX10_pour 16 = .ok (.iconst 0, 1) := dk_3 (dk_at dksX10_pour_0 16 rfl rfl)
theorem dX10_pour_17 : decode cX10_pour 17 = .ok (.ireturn, 1) := dk_172 (dk_at dksX10_pour_0 17 rfl rfl)
theorem dX10_pour_18 : decode cX10_pour 18 = .ok (.aload_n 0, 1) := dk_42 (dk_at dksX10_pour_0 18 rfl rfl)
theorem dX10_pour_19 : decode cX10_pour 19 = .ok (.invokevirtual 330, 3) := dk_182 1 74 (dk_at dksX10_pour_0 19 rfl rfl)
theorem dX10_pour_22 : decode cX10_pour 22 = .ok (.iconst 0, 1) := dk_3 (dk_at dksX10_pour_0 22 rfl rfl)
theorem dX10_pour_23 : decode cX10_pour 23 = .ok (.istore_n 2, 1) := dk_61 (dk_at dksX10_pour_0 23 rfl rfl)
theorem dX10_pour_24 : decode cX10_pour 24 = .ok (.iconst 0, 1) := dk_3 (dk_at dksX10_pour_1 0 rfl rfl)
theorem dX10_pour_25 : decode cX10_pour 25 = .ok (.istore_n 3, 1) := dk_62 (dk_at dksX10_pour_1 1 rfl rfl)
theorem dX10_pour_26 : decode cX10_pour 26 = .ok (.iload_n 3, 1) := dk_29 (dk_at dksX10_pour_1 2 rfl rfl)
theorem dX10_pour_27 : decode cX10_pour 27 = .ok (.aload_n 0, 1) := dk_42 (dk_at dksX10_pour_1 3 rfl rfl)
theorem dX10_pour_28 : decode cX10_pour 28 = .ok (.getfield 250, 3) := dk_180 0 250 (dk_at dksX10_pour_1 4 rfl rfl)
theorem dX10_pour_31 : decode cX10_pour 31 = .ok (.if_icmp .ge 49, 3) := dk_162 0 49 (dk_at dksX10_pour_1 7 rfl rfl)
theorem dX10_pour_34 : decode cX10_pour 34 = .ok (.iload_n 2, 1) := dk_28 (dk_at dksX10_pour_1 10 rfl rfl)
theorem dX10_pour_35 : decode cX10_pour 35 = .ok (.aload_n 0, 1) := dk_42 (dk_at dksX10_pour_1 11 rfl rfl)
theorem dX10_pour_36 : decode cX10_pour 36 = .ok (.getfield 61, 3) := dk_180 0 61 (dk_at dksX10_pour_1 12 rfl rfl)
theorem dX10_pour_39 : decode cX10_pour 39 = .ok (.iload_n 1, 1) := dk_27 (dk_at dksX10_pour_1 15 rfl rfl)
theorem dX10_pour_40 : decode cX10_pour 40 = .ok (.iaload, 1) := dk_46 (dk_at dksX10_pour_1 16 rfl rfl)
theorem dX10_pour_41 : decode cX10_pour 41 = .ok (.if_icmp .ge 39, 3) := dk_162 0 39 (dk_at dksX10_pour_1 17 rfl rfl)
theorem dX10_pour_44 : decode cX10_pour 44 = .ok (.aload_n 0, 1) := dk_42 (dk_at dksX10_pour_1 20 rfl rfl)
theorem dX10_pour_45 : decode cX10_pour 45 = .ok (.aload_n 0, 1) := dk_42 (dk_at dksX10_pour_1 21 rfl rfl)
theorem dX10_pour_46 : decode cX10_pour 46 = .ok (.getfield 9, 3) := dk_180 0 9 (dk_at dksX10_pour_2 0 rfl rfl)
theorem dX10_pour_49 : decode cX10_pour 49 = .ok (.bipush 6, 2) := dk_16 6 (dk_at dksX10_pour_2 3 rfl rfl)
theorem dX10_pour_51 : decode cX10_pour 51 = .ok (.iaload, 1) := dk_46 (dk_at dksX10_pour_2 5 rfl rfl)
theorem dX10_pour_52 : decode cX10_pour 52 = .ok (.iload_n 3, 1) := dk_29 (dk_at dksX10_pour_2 6 rfl rfl)
theorem dX10_pour_53 : decode cX10_pour 53 = .ok (.invokevirtual 293, 3) := dk_182 1 37 (dk_at dksX10_pour_2 7 rfl rfl)
theorem dX10_pour_56 : decode cX10_pour 56 = .ok (.ifCond .ne 6, 3) := dk_154 0 6 (dk_at dksX10_pour_2 10 rfl rfl)
theorem dX10_pour_59 : decode cX10_pour 59 = .ok (.goto 15, 3) := dk_167 0 15 (dk_at dksX10_pour_2 13 rfl rfl)
theorem dX10_pour_62 : decode cX10_pour 62 = .ok (.aload_n 0, 1) := dk_42 (dk_at dksX10_pour_2 16 rfl rfl)
theorem dX10_pour_63 : decode cX10_pour 63 = .ok (.iload_n 1, 1) := dk_27 (dk_at dksX10_pour_2 17 rfl rfl)
theorem dX10_pour_64 : decode cX10_pour 64 = .ok (.iload_n 2, 1) := dk_28 (dk_at dksX10_pour_2 18 rfl rfl)
theorem dX10_pour_65 : decode cX10_pour 65 = .ok (.iload_n 3, 1) := dk_29 (dk_at dksX10_pour_2 19 rfl rfl)
theorem dX10_pour_66 : decode cX10_pour 66 = .ok (.i2l, 1) := dk_133 (dk_at dksX10_pour_2 20 rfl rfl)
theorem dX10_pour_67 : decode cX10_pour 67 = .ok (.invokevirtual 411, 3) := dk_182 1 155 (dk_at dksX10_pour_2 21 rfl rfl)
theorem dX10_pour_70 : decode cX10_pour 70 = .ok (.pop2, 1) := dk_88 (dk_at dksX10_pour_3 0 rfl rfl)
theorem dX10_pour_71 : decode cX10_pour 71 = .ok (.iinc 2 1, 3) := dk_132 2 1 (dk_at dksX10_pour_3 1 rfl rfl)
theorem dX10_pour_74 : decode cX10_pour 74 = .ok (.iinc 3 1, 3) := dk_132 3 1 (dk_at dksX10_pour_3 4 rfl rfl)
theorem dX10_pour_77 : decode cX10_pour 77 = .ok (.goto (-51), 3) := dk_167 255 205 (dk_at dksX10_pour_3 7 rfl rfl)
theorem dX10_pour_80 : decode cX10_pour 80 = .ok (.iload_n 2, 1) := dk_28 (dk_at dksX10_pour_3 10 rfl rfl)
theorem dX10_pour_81 : decode cX10_pour 81 = .ok (.ireturn, 1) := dk_172 (dk_at dksX10_pour_3 11 rfl rfl)
abbrev cX10_image : ByteArray := prog_33_method_104_code
def yX10_image : MethodName := ⟨RX10, "image", "(I)V"⟩
def dkwX10_image_2 : List UInt8 := [180, 0, 19, 17, 7, 76, 27, 104, 28, 96, 42, 180, 0, 9, 28, 46, 79, 132, 2, 1, 167, 255, 228, 177]
abbrev dktX10_image_2 : List UInt8 := dkwX10_image_2 ++ []
def dkwX10_image_1 : List UInt8 := [180, 0, 71, 158, 0, 4, 177, 42, 180, 0, 22, 27, 4, 84, 3, 61, 28, 17, 7, 76, 162, 0, 27, 42]
abbrev dktX10_image_1 : List UInt8 := dkwX10_image_1 ++ dktX10_image_2
def dkwX10_image_0 : List UInt8 := [42, 27, 133, 9, 20, 1, 145, 184, 0, 133, 153, 0, 7, 3, 167, 0, 4, 4, 181, 0, 71, 42]
abbrev dktX10_image_0 : List UInt8 := dkwX10_image_0 ++ dktX10_image_1
theorem dksX10_image_0 : cX10_image.data.toList.drop 0 = dktX10_image_0 := by decide +kernel
theorem dksX10_image_1 : cX10_image.data.toList.drop 22 = dktX10_image_1 := dk_seg dksX10_image_0 22 rfl rfl
theorem dksX10_image_2 : cX10_image.data.toList.drop 46 = dktX10_image_2 := dk_seg dksX10_image_1 24 rfl rfl
theorem dX10_image_0 : decode cX10_image 0 = .ok (.aload_n 0, 1) := dk_42 (dk_at dksX10_image_0 0 rfl rfl)
theorem dX10_image_1 : decode cX10_image 1 = .ok (.iload_n 1, 1) := dk_27 (dk_at dksX10_image_0 1 rfl rfl)
theorem dX10_image_2 : decode cX10_image 2 = .ok (.i2l, 1) := dk_133 (dk_at dksX10_image_0 2 rfl rfl)
theorem dX10_image_3 : decode cX10_image 3 = .ok (.lconst 0, 1) := dk_9 (dk_at dksX10_image_0 3 rfl rfl)
theorem dX10_image_4 : decode cX10_image 4 = .ok (.ldc2_w 401, 3) := dk_20 1 145 (dk_at dksX10_image_0 4 rfl rfl)
theorem dX10_image_7 : decode cX10_image 7 = .ok (.invokestatic 133, 3) := dk_184 0 133 (dk_at dksX10_image_0 7 rfl rfl)
theorem dX10_image_10 : decode cX10_image 10 = .ok (.ifCond .eq 7, 3) := dk_153 0 7 (dk_at dksX10_image_0 10 rfl rfl)
theorem dX10_image_13 : decode cX10_image 13 = .ok (.iconst 0, 1) := dk_3 (dk_at dksX10_image_0 13 rfl rfl)
theorem dX10_image_14 : decode cX10_image 14 = .ok (.goto 4, 3) := dk_167 0 4 (dk_at dksX10_image_0 14 rfl rfl)
theorem dX10_image_17 : decode cX10_image 17 = .ok (.iconst 1, 1) := dk_4 (dk_at dksX10_image_0 17 rfl rfl)
theorem dX10_image_18 : decode cX10_image 18 = .ok (.putfield 71, 3) := dk_181 0 71 (dk_at dksX10_image_0 18 rfl rfl)
theorem dX10_image_21 : decode cX10_image 21 = .ok (.aload_n 0, 1) := dk_42 (dk_at dksX10_image_0 21 rfl rfl)
theorem dX10_image_22 : decode cX10_image 22 = .ok (.getfield 71, 3) := dk_180 0 71 (dk_at dksX10_image_1 0 rfl rfl)
theorem dX10_image_25 : decode cX10_image 25 = .ok (.ifCond .le 4, 3) := dk_158 0 4 (dk_at dksX10_image_1 3 rfl rfl)
theorem dX10_image_28 : decode cX10_image 28 = .ok (.return_, 1) := dk_177 (dk_at dksX10_image_1 6 rfl rfl)
theorem dX10_image_29 : decode cX10_image 29 = .ok (.aload_n 0, 1) := dk_42 (dk_at dksX10_image_1 7 rfl rfl)
theorem dX10_image_30 : decode cX10_image 30 = .ok (.getfield 22, 3) := dk_180 0 22 (dk_at dksX10_image_1 8 rfl rfl)
theorem dX10_image_33 : decode cX10_image 33 = .ok (.iload_n 1, 1) := dk_27 (dk_at dksX10_image_1 11 rfl rfl)
theorem dX10_image_34 : decode cX10_image 34 = .ok (.iconst 1, 1) := dk_4 (dk_at dksX10_image_1 12 rfl rfl)
theorem dX10_image_35 : decode cX10_image 35 = .ok (.bastore, 1) := dk_84 (dk_at dksX10_image_1 13 rfl rfl)
theorem dX10_image_36 : decode cX10_image 36 = .ok (.iconst 0, 1) := dk_3 (dk_at dksX10_image_1 14 rfl rfl)
theorem dX10_image_37 : decode cX10_image 37 = .ok (.istore_n 2, 1) := dk_61 (dk_at dksX10_image_1 15 rfl rfl)
theorem dX10_image_38 : decode cX10_image 38 = .ok (.iload_n 2, 1) := dk_28 (dk_at dksX10_image_1 16 rfl rfl)
theorem dX10_image_39 : decode cX10_image 39 = .ok (.sipush 1868, 3) := dk_17 7 76 (dk_at dksX10_image_1 17 rfl rfl)
theorem dX10_image_42 : decode cX10_image 42 = .ok (.if_icmp .ge 27, 3) := dk_162 0 27 (dk_at dksX10_image_1 20 rfl rfl)
theorem dX10_image_45 : decode cX10_image 45 = .ok (.aload_n 0, 1) := dk_42 (dk_at dksX10_image_1 23 rfl rfl)
theorem dX10_image_46 : decode cX10_image 46 = .ok (.getfield 19, 3) := dk_180 0 19 (dk_at dksX10_image_2 0 rfl rfl)
theorem dX10_image_49 : decode cX10_image 49 = .ok (.sipush 1868, 3) := dk_17 7 76 (dk_at dksX10_image_2 3 rfl rfl)
theorem dX10_image_52 : decode cX10_image 52 = .ok (.iload_n 1, 1) := dk_27 (dk_at dksX10_image_2 6 rfl rfl)
theorem dX10_image_53 : decode cX10_image 53 = .ok (.imul, 1) := dk_104 (dk_at dksX10_image_2 7 rfl rfl)
theorem dX10_image_54 : decode cX10_image 54 = .ok (.iload_n 2, 1) := dk_28 (dk_at dksX10_image_2 8 rfl rfl)
theorem dX10_image_55 : decode cX10_image 55 = .ok (.iadd, 1) := dk_96 (dk_at dksX10_image_2 9 rfl rfl)
theorem dX10_image_56 : decode cX10_image 56 = .ok (.aload_n 0, 1) := dk_42 (dk_at dksX10_image_2 10 rfl rfl)
theorem dX10_image_57 : decode cX10_image 57 = .ok (.getfield 9, 3) := dk_180 0 9 (dk_at dksX10_image_2 11 rfl rfl)
theorem dX10_image_60 : decode cX10_image 60 = .ok (.iload_n 2, 1) := dk_28 (dk_at dksX10_image_2 14 rfl rfl)
theorem dX10_image_61 : decode cX10_image 61 = .ok (.iaload, 1) := dk_46 (dk_at dksX10_image_2 15 rfl rfl)
theorem dX10_image_62 : decode cX10_image 62 = .ok (.iastore, 1) := dk_79 (dk_at dksX10_image_2 16 rfl rfl)
theorem dX10_image_63 : decode cX10_image 63 = .ok (.iinc 2 1, 3) := dk_132 2 1 (dk_at dksX10_image_2 17 rfl rfl)
theorem dX10_image_66 : decode cX10_image 66 = .ok (.goto (-28), 3) := dk_167 255 228 (dk_at dksX10_image_2 20 rfl rfl)
theorem dX10_image_69 : decode cX10_image 69 = .ok (.return_, 1) := dk_177 (dk_at dksX10_image_2 23 rfl rfl)
abbrev cX10_restore : ByteArray := prog_33_method_105_code
def yX10_restore : MethodName := ⟨RX10, "restore", "(I)V"⟩
def dkwX10_restore_3 : List UInt8 := [132, 2, 1, 167, 255, 228, 177]
abbrev dktX10_restore_3 : List UInt8 := dkwX10_restore_3 ++ []
def dkwX10_restore_2 : List UInt8 := [17, 7, 76, 162, 0, 27, 42, 180, 0, 9, 28, 42, 180, 0, 19, 17, 7, 76, 27, 104, 28, 96, 46, 79]
abbrev dktX10_restore_2 : List UInt8 := dkwX10_restore_2 ++ dktX10_restore_3
def dkwX10_restore_1 : List UInt8 := [154, 0, 7, 5, 167, 0, 4, 3, 181, 0, 71, 42, 180, 0, 71, 158, 0, 4, 177, 3, 61, 28]
abbrev dktX10_restore_1 : List UInt8 := dkwX10_restore_1 ++ dktX10_restore_2
def dkwX10_restore_0 : List UInt8 := [42, 27, 133, 9, 20, 1, 145, 184, 0, 133, 154, 0, 7, 4, 167, 0, 17, 42, 180, 0, 22, 27, 51]
abbrev dktX10_restore_0 : List UInt8 := dkwX10_restore_0 ++ dktX10_restore_1
theorem dksX10_restore_0 : cX10_restore.data.toList.drop 0 = dktX10_restore_0 := by decide +kernel
theorem dksX10_restore_1 : cX10_restore.data.toList.drop 23 = dktX10_restore_1 := dk_seg dksX10_restore_0 23 rfl rfl
theorem dksX10_restore_2 : cX10_restore.data.toList.drop 45 = dktX10_restore_2 := dk_seg dksX10_restore_1 22 rfl rfl
theorem dksX10_restore_3 : cX10_restore.data.toList.drop 69 = dktX10_restore_3 := dk_seg dksX10_restore_2 24 rfl rfl
theorem dX10_restore_0 : decode cX10_restore 0 = .ok (.aload_n 0, 1) := dk_42 (dk_at dksX10_restore_0 0 rfl rfl)
theorem dX10_restore_1 : decode cX10_restore 1 = .ok (.iload_n 1, 1) := dk_27 (dk_at dksX10_restore_0 1 rfl rfl)
theorem dX10_restore_2 : decode cX10_restore 2 = .ok (.i2l, 1) := dk_133 (dk_at dksX10_restore_0 2 rfl rfl)
theorem dX10_restore_3 : decode cX10_restore 3 = .ok (.lconst 0, 1) := dk_9 (dk_at dksX10_restore_0 3 rfl rfl)
theorem dX10_restore_4 : decode cX10_restore 4 = .ok (.ldc2_w 401, 3) := dk_20 1 145 (dk_at dksX10_restore_0 4 rfl rfl)
theorem dX10_restore_7 : decode cX10_restore 7 = .ok (.invokestatic 133, 3) := dk_184 0 133 (dk_at dksX10_restore_0 7 rfl rfl)
theorem dX10_restore_10 : decode cX10_restore 10 = .ok (.ifCond .ne 7, 3) := dk_154 0 7 (dk_at dksX10_restore_0 10 rfl rfl)
theorem dX10_restore_13 : decode cX10_restore 13 = .ok (.iconst 1, 1) := dk_4 (dk_at dksX10_restore_0 13 rfl rfl)
theorem dX10_restore_14 : decode cX10_restore 14 = .ok (.goto 17, 3) := dk_167 0 17 (dk_at dksX10_restore_0 14 rfl rfl)
theorem dX10_restore_17 : decode cX10_restore 17 = .ok (.aload_n 0, 1) := dk_42 (dk_at dksX10_restore_0 17 rfl rfl)
theorem dX10_restore_18 : decode cX10_restore 18 = .ok (.getfield 22, 3) := dk_180 0 22 (dk_at dksX10_restore_0 18 rfl rfl)
theorem dX10_restore_21 : decode cX10_restore 21 = .ok (.iload_n 1, 1) := dk_27 (dk_at dksX10_restore_0 21 rfl rfl)
theorem dX10_restore_22 : decode cX10_restore 22 = .ok (.baload, 1) := dk_51 (dk_at dksX10_restore_0 22 rfl rfl)
theorem dX10_restore_23 : decode cX10_restore 23 = .ok (.ifCond .ne 7, 3) := dk_154 0 7 (dk_at dksX10_restore_1 0 rfl rfl)
theorem dX10_restore_26 : decode cX10_restore 26 = .ok (.iconst 2, 1) := dk_5 (dk_at dksX10_restore_1 3 rfl rfl)
theorem dX10_restore_27 : decode cX10_restore 27 = .ok (.goto 4, 3) := dk_167 0 4 (dk_at dksX10_restore_1 4 rfl rfl)
theorem dX10_restore_30 : decode cX10_restore 30 = .ok (.iconst 0, 1) := dk_3 (dk_at dksX10_restore_1 7 rfl rfl)
theorem dX10_restore_31 : decode cX10_restore 31 = .ok (.putfield 71, 3) := dk_181 0 71 (dk_at dksX10_restore_1 8 rfl rfl)
theorem dX10_restore_34 : decode cX10_restore 34 = .ok (.aload_n 0, 1) := dk_42 (dk_at dksX10_restore_1 11 rfl rfl)
theorem dX10_restore_35 : decode cX10_restore 35 = .ok (.getfield 71, 3) := dk_180 0 71 (dk_at dksX10_restore_1 12 rfl rfl)
theorem dX10_restore_38 : decode cX10_restore 38 = .ok (.ifCond .le 4, 3) := dk_158 0 4 (dk_at dksX10_restore_1 15 rfl rfl)
theorem dX10_restore_41 : decode cX10_restore 41 = .ok (.return_, 1) := dk_177 (dk_at dksX10_restore_1 18 rfl rfl)
theorem dX10_restore_42 : decode cX10_restore 42 = .ok (.iconst 0, 1) := dk_3 (dk_at dksX10_restore_1 19 rfl rfl)
theorem dX10_restore_43 : decode cX10_restore 43 = .ok (.istore_n 2, 1) := dk_61 (dk_at dksX10_restore_1 20 rfl rfl)
theorem dX10_restore_44 : decode cX10_restore 44 = .ok (.iload_n 2, 1) := dk_28 (dk_at dksX10_restore_1 21 rfl rfl)
theorem dX10_restore_45 : decode cX10_restore 45 = .ok (.sipush 1868, 3) := dk_17 7 76 (dk_at dksX10_restore_2 0 rfl rfl)
theorem dX10_restore_48 : decode cX10_restore 48 = .ok (.if_icmp .ge 27, 3) := dk_162 0 27 (dk_at dksX10_restore_2 3 rfl rfl)
theorem dX10_restore_51 : decode cX10_restore 51 = .ok (.aload_n 0, 1) := dk_42 (dk_at dksX10_restore_2 6 rfl rfl)
theorem dX10_restore_52 : decode cX10_restore 52 = .ok (.getfield 9, 3) := dk_180 0 9 (dk_at dksX10_restore_2 7 rfl rfl)
theorem dX10_restore_55 : decode cX10_restore 55 = .ok (.iload_n 2, 1) := dk_28 (dk_at dksX10_restore_2 10 rfl rfl)
theorem dX10_restore_56 : decode cX10_restore 56 = .ok (.aload_n 0, 1) := dk_42 (dk_at dksX10_restore_2 11 rfl rfl)
theorem dX10_restore_57 : decode cX10_restore 57 = .ok (.getfield 19, 3) := dk_180 0 19 (dk_at dksX10_restore_2 12 rfl rfl)
theorem dX10_restore_60 : decode cX10_restore 60 = .ok (.sipush 1868, 3) := dk_17 7 76 (dk_at dksX10_restore_2 15 rfl rfl)
theorem dX10_restore_63 : decode cX10_restore 63 = .ok (.iload_n 1, 1) := dk_27 (dk_at dksX10_restore_2 18 rfl rfl)
theorem dX10_restore_64 : decode cX10_restore 64 = .ok (.imul, 1) := dk_104 (dk_at dksX10_restore_2 19 rfl rfl)
theorem dX10_restore_65 : decode cX10_restore 65 = .ok (.iload_n 2, 1) := dk_28 (dk_at dksX10_restore_2 20 rfl rfl)
theorem dX10_restore_66 : decode cX10_restore 66 = .ok (.iadd, 1) := dk_96 (dk_at dksX10_restore_2 21 rfl rfl)
theorem dX10_restore_67 : decode cX10_restore 67 = .ok (.iaload, 1) := dk_46 (dk_at dksX10_restore_2 22 rfl rfl)
theorem dX10_restore_68 : decode cX10_restore 68 = .ok (.iastore, 1) := dk_79 (dk_at dksX10_restore_2 23 rfl rfl)
theorem dX10_restore_69 : decode cX10_restore 69 = .ok (.iinc 2 1, 3) := dk_132 2 1 (dk_at dksX10_restore_3 0 rfl rfl)
theorem dX10_restore_72 : decode cX10_restore 72 = .ok (.goto (-28), 3) := dk_167 255 228 (dk_at dksX10_restore_3 3 rfl rfl)
theorem dX10_restore_75 : decode cX10_restore 75 = .ok (.return_, 1) := dk_177 (dk_at dksX10_restore_3 6 rfl rfl)
abbrev cX10_count : ByteArray := prog_33_method_106_code
def yX10_count : MethodName := ⟨RX10, "count", "(I)I"⟩
def dkwX10_count_4 : List UInt8 := [16, 6, 46, 172, 42, 180, 0, 250, 172, 42, 180, 0, 74, 172, 2, 172]
abbrev dktX10_count_4 : List UInt8 := dkwX10_count_4 ++ []
def dkwX10_count_3 : List UInt8 := [180, 0, 9, 6, 46, 172, 42, 180, 0, 9, 7, 46, 172, 42, 180, 0, 9, 8, 46, 172, 42, 180, 0, 9]
abbrev dktX10_count_3 : List UInt8 := dkwX10_count_3 ++ dktX10_count_4
def dkwX10_count_2 : List UInt8 := [42, 180, 0, 9, 3, 46, 172, 42, 180, 0, 9, 4, 46, 172, 42, 180, 0, 9, 5, 46, 172, 42]
abbrev dktX10_count_2 : List UInt8 := dkwX10_count_2 ++ dktX10_count_3
def dkwX10_count_1 : List UInt8 := [170, 0, 0, 0, 0, 110, 0, 0, 0, 0, 0, 0, 0, 8, 0, 0, 0, 50, 0, 0, 0, 57, 0, 0, 0, 64, 0, 0, 0, 71, 0, 0, 0, 78, 0, 0, 0, 85, 0, 0, 0, 92, 0, 0, 0, 100, 0, 0, 0, 105]
abbrev dktX10_count_1 : List UInt8 := dkwX10_count_1 ++ dktX10_count_2
def dkwX10_count_0 : List UInt8 := [42, 3, 181, 0, 71, 42, 182, 0, 253, 27]
abbrev dktX10_count_0 : List UInt8 := dkwX10_count_0 ++ dktX10_count_1
theorem dksX10_count_0 : cX10_count.data.toList.drop 0 = dktX10_count_0 := by decide +kernel
theorem dksX10_count_1 : cX10_count.data.toList.drop 10 = dktX10_count_1 := dk_seg dksX10_count_0 10 rfl rfl
theorem dksX10_count_2 : cX10_count.data.toList.drop 60 = dktX10_count_2 := dk_seg dksX10_count_1 50 rfl rfl
theorem dksX10_count_3 : cX10_count.data.toList.drop 82 = dktX10_count_3 := dk_seg dksX10_count_2 22 rfl rfl
theorem dksX10_count_4 : cX10_count.data.toList.drop 106 = dktX10_count_4 := dk_seg dksX10_count_3 24 rfl rfl
theorem dX10_count_0 : decode cX10_count 0 = .ok (.aload_n 0, 1) := dk_42 (dk_at dksX10_count_0 0 rfl rfl)
theorem dX10_count_1 : decode cX10_count 1 = .ok (.iconst 0, 1) := dk_3 (dk_at dksX10_count_0 1 rfl rfl)
theorem dX10_count_2 : decode cX10_count 2 = .ok (.putfield 71, 3) := dk_181 0 71 (dk_at dksX10_count_0 2 rfl rfl)
theorem dX10_count_5 : decode cX10_count 5 = .ok (.aload_n 0, 1) := dk_42 (dk_at dksX10_count_0 5 rfl rfl)
theorem dX10_count_6 : decode cX10_count 6 = .ok (.invokevirtual 253, 3) := dk_182 0 253 (dk_at dksX10_count_0 6 rfl rfl)
theorem dX10_count_9 : decode cX10_count 9 = .ok (.iload_n 1, 1) := dk_27 (dk_at dksX10_count_0 9 rfl rfl)
theorem dX10_count_10 : decode cX10_count 10 = .ok (.tableswitch 110 0 8 #[50, 57, 64, 71, 78, 85, 92, 100, 105], 50) := by decide +kernel
theorem dX10_count_60 : decode cX10_count 60 = .ok (.aload_n 0, 1) := dk_42 (dk_at dksX10_count_2 0 rfl rfl)
theorem dX10_count_61 : decode cX10_count 61 = .ok (.getfield 9, 3) := dk_180 0 9 (dk_at dksX10_count_2 1 rfl rfl)
theorem dX10_count_64 : decode cX10_count 64 = .ok (.iconst 0, 1) := dk_3 (dk_at dksX10_count_2 4 rfl rfl)
theorem dX10_count_65 : decode cX10_count 65 = .ok (.iaload, 1) := dk_46 (dk_at dksX10_count_2 5 rfl rfl)
theorem dX10_count_66 : decode cX10_count 66 = .ok (.ireturn, 1) := dk_172 (dk_at dksX10_count_2 6 rfl rfl)
theorem dX10_count_67 : decode cX10_count 67 = .ok (.aload_n 0, 1) := dk_42 (dk_at dksX10_count_2 7 rfl rfl)
theorem dX10_count_68 : decode cX10_count 68 = .ok (.getfield 9, 3) := dk_180 0 9 (dk_at dksX10_count_2 8 rfl rfl)
theorem dX10_count_71 : decode cX10_count 71 = .ok (.iconst 1, 1) := dk_4 (dk_at dksX10_count_2 11 rfl rfl)
theorem dX10_count_72 : decode cX10_count 72 = .ok (.iaload, 1) := dk_46 (dk_at dksX10_count_2 12 rfl rfl)
theorem dX10_count_73 : decode cX10_count 73 = .ok (.ireturn, 1) := dk_172 (dk_at dksX10_count_2 13 rfl rfl)
theorem dX10_count_74 : decode cX10_count 74 = .ok (.aload_n 0, 1) := dk_42 (dk_at dksX10_count_2 14 rfl rfl)
theorem dX10_count_75 : decode cX10_count 75 = .ok (.getfield 9, 3) := dk_180 0 9 (dk_at dksX10_count_2 15 rfl rfl)
theorem dX10_count_78 : decode cX10_count 78 = .ok (.iconst 2, 1) := dk_5 (dk_at dksX10_count_2 18 rfl rfl)
theorem dX10_count_79 : decode cX10_count 79 = .ok (.iaload, 1) := dk_46 (dk_at dksX10_count_2 19 rfl rfl)
theorem dX10_count_80 : decode cX10_count 80 = .ok (.ireturn, 1) := dk_172 (dk_at dksX10_count_2 20 rfl rfl)
theorem dX10_count_81 : decode cX10_count 81 = .ok (.aload_n 0, 1) := dk_42 (dk_at dksX10_count_2 21 rfl rfl)
theorem dX10_count_82 : decode cX10_count 82 = .ok (.getfield 9, 3) := dk_180 0 9 (dk_at dksX10_count_3 0 rfl rfl)
theorem dX10_count_85 : decode cX10_count 85 = .ok (.iconst 3, 1) := dk_6 (dk_at dksX10_count_3 3 rfl rfl)
theorem dX10_count_86 : decode cX10_count 86 = .ok (.iaload, 1) := dk_46 (dk_at dksX10_count_3 4 rfl rfl)
theorem dX10_count_87 : decode cX10_count 87 = .ok (.ireturn, 1) := dk_172 (dk_at dksX10_count_3 5 rfl rfl)
theorem dX10_count_88 : decode cX10_count 88 = .ok (.aload_n 0, 1) := dk_42 (dk_at dksX10_count_3 6 rfl rfl)
theorem dX10_count_89 : decode cX10_count 89 = .ok (.getfield 9, 3) := dk_180 0 9 (dk_at dksX10_count_3 7 rfl rfl)
theorem dX10_count_92 : decode cX10_count 92 = .ok (.iconst 4, 1) := dk_7 (dk_at dksX10_count_3 10 rfl rfl)
theorem dX10_count_93 : decode cX10_count 93 = .ok (.iaload, 1) := dk_46 (dk_at dksX10_count_3 11 rfl rfl)
theorem dX10_count_94 : decode cX10_count 94 = .ok (.ireturn, 1) := dk_172 (dk_at dksX10_count_3 12 rfl rfl)
theorem dX10_count_95 : decode cX10_count 95 = .ok (.aload_n 0, 1) := dk_42 (dk_at dksX10_count_3 13 rfl rfl)
theorem dX10_count_96 : decode cX10_count 96 = .ok (.getfield 9, 3) := dk_180 0 9 (dk_at dksX10_count_3 14 rfl rfl)
theorem dX10_count_99 : decode cX10_count 99 = .ok (.iconst 5, 1) := dk_8 (dk_at dksX10_count_3 17 rfl rfl)
theorem dX10_count_100 : decode cX10_count 100 = .ok (.iaload, 1) := dk_46 (dk_at dksX10_count_3 18 rfl rfl)
theorem dX10_count_101 : decode cX10_count 101 = .ok (.ireturn, 1) := dk_172 (dk_at dksX10_count_3 19 rfl rfl)
theorem dX10_count_102 : decode cX10_count 102 = .ok (.aload_n 0, 1) := dk_42 (dk_at dksX10_count_3 20 rfl rfl)
theorem dX10_count_103 : decode cX10_count 103 = .ok (.getfield 9, 3) := dk_180 0 9 (dk_at dksX10_count_3 21 rfl rfl)
theorem dX10_count_106 : decode cX10_count 106 = .ok (.bipush 6, 2) := dk_16 6 (dk_at dksX10_count_4 0 rfl rfl)
theorem dX10_count_108 : decode cX10_count 108 = .ok (.iaload, 1) := dk_46 (dk_at dksX10_count_4 2 rfl rfl)
theorem dX10_count_109 : decode cX10_count 109 = .ok (.ireturn, 1) := dk_172 (dk_at dksX10_count_4 3 rfl rfl)
theorem dX10_count_110 : decode cX10_count 110 = .ok (.aload_n 0, 1) := dk_42 (dk_at dksX10_count_4 4 rfl rfl)
theorem dX10_count_111 : decode cX10_count 111 = .ok (.getfield 250, 3) := dk_180 0 250 (dk_at dksX10_count_4 5 rfl rfl)
theorem dX10_count_114 : decode cX10_count 114 = .ok (.ireturn, 1) := dk_172 (dk_at dksX10_count_4 8 rfl rfl)
theorem dX10_count_115 : decode cX10_count 115 = .ok (.aload_n 0, 1) := dk_42 (dk_at dksX10_count_4 9 rfl rfl)
theorem dX10_count_116 : decode cX10_count 116 = .ok (.getfield 74, 3) := dk_180 0 74 (dk_at dksX10_count_4 10 rfl rfl)
theorem dX10_count_119 : decode cX10_count 119 = .ok (.ireturn, 1) := dk_172 (dk_at dksX10_count_4 13 rfl rfl)
theorem dX10_count_120 : decode cX10_count 120 = .ok (.iconst (-1), 1) := dk_2 (dk_at dksX10_count_4 14 rfl rfl)
theorem dX10_count_121 : decode cX10_count 121 = .ok (.ireturn, 1) := dk_172 (dk_at dksX10_count_4 15 rfl rfl)
theorem q118 : (Jvm.Cond.initialized "TwoSlipsModel") ∈ lw_all := lw_g (lw_at lw_m1 13 rfl) rfl
theorem q1183 : (Jvm.Cond.selects "TwoSlipsModel" ({ cls := "java/lang/Object", name := "getClass", desc := "()Ljava/lang/Class;" } : Jvm.MethodName) ({ cls := "java/lang/Object", name := "getClass", desc := "()Ljava/lang/Class;" } : Jvm.MethodName)) ∈ lw_all := lw_g (lw_at lw_m5 118 rfl) rfl
theorem q1862 : (Jvm.Cond.instantiable "TwoSlipsModel" (32 : Nat)) ∈ lw_all := lw_g (lw_at lw_m8 77 rfl) rfl
theorem q1864 : (Jvm.Cond.instanceMethod ({ cls := "TwoSlipsModel", name := "<init>", desc := "()V" } : Jvm.MethodName)) ∈ lw_all := lw_g (lw_at lw_m8 79 rfl) rfl
theorem q1865 : (Jvm.Cond.code ({ cls := "TwoSlipsModel", name := "<init>", desc := "()V" } : Jvm.MethodName) prog_33_method_1_code (1 : Nat) (Option.none : Option Jvm.ClassFile.FieldType)) ∈ lw_all := lw_g (lw_at lw_m8 80 rfl) rfl
theorem q1866 : (Jvm.Cond.methodLink "TwoSlipsModel" (3 : Nat) ({ cls := "java/lang/Object", name := "<init>", desc := "()V" } : Jvm.MethodName)) ∈ lw_all := lw_g (lw_at lw_m8 81 rfl) rfl
theorem q1867 : (Jvm.Cond.methodLink "TwoSlipsModel" (67 : Nat) ({ cls := "TwoSlipsModel", name := "begins", desc := "([I)V" } : Jvm.MethodName)) ∈ lw_all := lw_g (lw_at lw_m8 82 rfl) rfl
theorem q1868 : (Jvm.Cond.static ({ cls := "TwoSlipsModel", name := "begins", desc := "([I)V" } : Jvm.MethodName)) ∈ lw_all := lw_g (lw_at lw_m8 83 rfl) rfl
theorem q1869 : (Jvm.Cond.code ({ cls := "TwoSlipsModel", name := "begins", desc := "([I)V" } : Jvm.MethodName) prog_33_method_6_code (2 : Nat) (Option.none : Option Jvm.ClassFile.FieldType)) ∈ lw_all := lw_g (lw_at lw_m8 84 rfl) rfl
theorem q1870 : (Jvm.Cond.fieldLink "TwoSlipsModel" (9 : Nat) "TwoSlipsModel" "known" "[I") ∈ lw_all := lw_g (lw_at lw_m8 85 rfl) rfl
theorem q1871 : (Jvm.Cond.fieldLink "TwoSlipsModel" (13 : Nat) "TwoSlipsModel" "fresh" "[I") ∈ lw_all := lw_g (lw_at lw_m8 86 rfl) rfl
theorem q1872 : (Jvm.Cond.fieldLink "TwoSlipsModel" (16 : Nat) "TwoSlipsModel" "saved" "[I") ∈ lw_all := lw_g (lw_at lw_m8 87 rfl) rfl
theorem q1873 : (Jvm.Cond.fieldLink "TwoSlipsModel" (19 : Nat) "TwoSlipsModel" "images" "[I") ∈ lw_all := lw_g (lw_at lw_m8 88 rfl) rfl
theorem q1874 : (Jvm.Cond.fieldLink "TwoSlipsModel" (22 : Nat) "TwoSlipsModel" "isImage" "[Z") ∈ lw_all := lw_g (lw_at lw_m8 89 rfl) rfl
theorem q1875 : (Jvm.Cond.fieldLink "TwoSlipsModel" (71 : Nat) "TwoSlipsModel" "thrown" "I") ∈ lw_all := lw_g (lw_at lw_m8 90 rfl) rfl
theorem q1876 : (Jvm.Cond.fieldLink "TwoSlipsModel" (26 : Nat) "TwoSlipsModel" "tape" "[I") ∈ lw_all := lw_g (lw_at lw_m8 91 rfl) rfl
theorem q1877 : (Jvm.Cond.fieldLink "TwoSlipsModel" (74 : Nat) "TwoSlipsModel" "taped" "I") ∈ lw_all := lw_g (lw_at lw_m8 92 rfl) rfl
theorem q1878 : (Jvm.Cond.fieldLink "TwoSlipsModel" (77 : Nat) "TwoSlipsModel" "size" "I") ∈ lw_all := lw_g (lw_at lw_m8 93 rfl) rfl
theorem q1879 : (Jvm.Cond.fieldLink "TwoSlipsModel" (80 : Nat) "TwoSlipsModel" "at" "I") ∈ lw_all := lw_g (lw_at lw_m8 94 rfl) rfl
theorem q1880 : (Jvm.Cond.fieldLink "TwoSlipsModel" (83 : Nat) "TwoSlipsModel" "begin" "I") ∈ lw_all := lw_g (lw_at lw_m8 95 rfl) rfl
theorem q1881 : (Jvm.Cond.fieldLink "TwoSlipsModel" (86 : Nat) "TwoSlipsModel" "token" "I") ∈ lw_all := lw_g (lw_at lw_m8 96 rfl) rfl
theorem q1882 : (Jvm.Cond.fieldLink "TwoSlipsModel" (100 : Nat) "TwoSlipsModel" "value" "I") ∈ lw_all := lw_g (lw_at lw_m8 97 rfl) rfl
theorem q1883 : (Jvm.Cond.fieldLink "TwoSlipsModel" (141 : Nat) "TwoSlipsModel" "open" "I") ∈ lw_all := lw_g (lw_at lw_m8 98 rfl) rfl
theorem q1884 : (Jvm.Cond.fieldLink "TwoSlipsModel" (103 : Nat) "TwoSlipsModel" "bad" "I") ∈ lw_all := lw_g (lw_at lw_m8 99 rfl) rfl
theorem q1885 : (Jvm.Cond.fieldLink "TwoSlipsModel" (106 : Nat) "TwoSlipsModel" "badPlace" "I") ∈ lw_all := lw_g (lw_at lw_m8 100 rfl) rfl
theorem q1886 : (Jvm.Cond.fieldLink "TwoSlipsModel" (243 : Nat) "TwoSlipsModel" "faultKind" "I") ∈ lw_all := lw_g (lw_at lw_m8 101 rfl) rfl
theorem q1887 : (Jvm.Cond.fieldLink "TwoSlipsModel" (29 : Nat) "TwoSlipsModel" "faultPlace" "I") ∈ lw_all := lw_g (lw_at lw_m8 102 rfl) rfl
theorem q1888 : (Jvm.Cond.fieldLink "TwoSlipsModel" (33 : Nat) "TwoSlipsModel" "xs" "[I") ∈ lw_all := lw_g (lw_at lw_m8 103 rfl) rfl
theorem q1889 : (Jvm.Cond.fieldLink "TwoSlipsModel" (36 : Nat) "TwoSlipsModel" "ys" "[I") ∈ lw_all := lw_g (lw_at lw_m8 104 rfl) rfl
theorem q1890 : (Jvm.Cond.fieldLink "TwoSlipsModel" (250 : Nat) "TwoSlipsModel" "pairs" "I") ∈ lw_all := lw_g (lw_at lw_m8 105 rfl) rfl
theorem q1891 : (Jvm.Cond.fieldLink "TwoSlipsModel" (39 : Nat) "TwoSlipsModel" "rows" "[J") ∈ lw_all := lw_g (lw_at lw_m8 106 rfl) rfl
theorem q1892 : (Jvm.Cond.fieldLink "TwoSlipsModel" (297 : Nat) "TwoSlipsModel" "top" "I") ∈ lw_all := lw_g (lw_at lw_m8 107 rfl) rfl
theorem q1893 : (Jvm.Cond.fieldLink "TwoSlipsModel" (43 : Nat) "TwoSlipsModel" "heaps" "[I") ∈ lw_all := lw_g (lw_at lw_m8 108 rfl) rfl
theorem q1894 : (Jvm.Cond.fieldLink "TwoSlipsModel" (46 : Nat) "TwoSlipsModel" "endsBehind" "[I") ∈ lw_all := lw_g (lw_at lw_m8 109 rfl) rfl
theorem q1895 : (Jvm.Cond.fieldLink "TwoSlipsModel" (49 : Nat) "TwoSlipsModel" "path" "[I") ∈ lw_all := lw_g (lw_at lw_m8 110 rfl) rfl
theorem q1896 : (Jvm.Cond.fieldLink "TwoSlipsModel" (52 : Nat) "TwoSlipsModel" "order" "[I") ∈ lw_all := lw_g (lw_at lw_m8 111 rfl) rfl
theorem q1897 : (Jvm.Cond.fieldLink "TwoSlipsModel" (55 : Nat) "TwoSlipsModel" "firstOrder" "[I") ∈ lw_all := lw_g (lw_at lw_m8 112 rfl) rfl
theorem q1898 : (Jvm.Cond.fieldLink "TwoSlipsModel" (395 : Nat) "TwoSlipsModel" "ordersMany" "I") ∈ lw_all := lw_g (lw_at lw_m8 113 rfl) rfl
theorem q1899 : (Jvm.Cond.fieldLink "TwoSlipsModel" (58 : Nat) "TwoSlipsModel" "tSort" "[I") ∈ lw_all := lw_g (lw_at lw_m8 114 rfl) rfl
theorem q1900 : (Jvm.Cond.fieldLink "TwoSlipsModel" (61 : Nat) "TwoSlipsModel" "tMany" "[I") ∈ lw_all := lw_g (lw_at lw_m8 115 rfl) rfl
theorem q1901 : (Jvm.Cond.fieldLink "TwoSlipsModel" (64 : Nat) "TwoSlipsModel" "numbers" "[J") ∈ lw_all := lw_g (lw_at lw_m8 116 rfl) rfl
theorem q1902 : (Jvm.Cond.laysFinal "TwoSlipsModel" "TwoSlipsModel" "known" "[I") ∈ lw_all := lw_g (lw_at lw_m8 117 rfl) rfl
theorem q1903 : (Jvm.Cond.soleField "TwoSlipsModel" "known") ∈ lw_all := lw_g (lw_at lw_m8 118 rfl) rfl
theorem q1904 : (Jvm.Cond.laysFinal "TwoSlipsModel" "TwoSlipsModel" "fresh" "[I") ∈ lw_all := lw_g (lw_at lw_m8 119 rfl) rfl
theorem q1905 : (Jvm.Cond.soleField "TwoSlipsModel" "fresh") ∈ lw_all := lw_g (lw_at lw_m8 120 rfl) rfl
theorem q1906 : (Jvm.Cond.laysFinal "TwoSlipsModel" "TwoSlipsModel" "saved" "[I") ∈ lw_all := lw_g (lw_at lw_m8 121 rfl) rfl
theorem q1907 : (Jvm.Cond.soleField "TwoSlipsModel" "saved") ∈ lw_all := lw_g (lw_at lw_m8 122 rfl) rfl
theorem q1908 : (Jvm.Cond.laysFinal "TwoSlipsModel" "TwoSlipsModel" "images" "[I") ∈ lw_all := lw_g (lw_at lw_m8 123 rfl) rfl
theorem q1909 : (Jvm.Cond.soleField "TwoSlipsModel" "images") ∈ lw_all := lw_g (lw_at lw_m8 124 rfl) rfl
theorem q1910 : (Jvm.Cond.laysFinal "TwoSlipsModel" "TwoSlipsModel" "isImage" "[Z") ∈ lw_all := lw_g (lw_at lw_m8 125 rfl) rfl
theorem q1911 : (Jvm.Cond.soleField "TwoSlipsModel" "isImage") ∈ lw_all := lw_g (lw_at lw_m8 126 rfl) rfl
theorem q1912 : (Jvm.Cond.lays "TwoSlipsModel" "TwoSlipsModel" "thrown" "I") ∈ lw_all := lw_g (lw_at lw_m8 127 rfl) rfl
theorem q1913 : (Jvm.Cond.soleField "TwoSlipsModel" "thrown") ∈ lw_all := lw_g (lw_at lw_m8 128 rfl) rfl
theorem q1914 : (Jvm.Cond.laysFinal "TwoSlipsModel" "TwoSlipsModel" "tape" "[I") ∈ lw_all := lw_g (lw_at lw_m8 129 rfl) rfl
theorem q1915 : (Jvm.Cond.soleField "TwoSlipsModel" "tape") ∈ lw_all := lw_g (lw_at lw_m8 130 rfl) rfl
theorem q1916 : (Jvm.Cond.lays "TwoSlipsModel" "TwoSlipsModel" "taped" "I") ∈ lw_all := lw_g (lw_at lw_m8 131 rfl) rfl
theorem q1917 : (Jvm.Cond.soleField "TwoSlipsModel" "taped") ∈ lw_all := lw_g (lw_at lw_m8 132 rfl) rfl
theorem q1918 : (Jvm.Cond.lays "TwoSlipsModel" "TwoSlipsModel" "size" "I") ∈ lw_all := lw_g (lw_at lw_m8 133 rfl) rfl
theorem q1919 : (Jvm.Cond.soleField "TwoSlipsModel" "size") ∈ lw_all := lw_g (lw_at lw_m8 134 rfl) rfl
theorem q1920 : (Jvm.Cond.lays "TwoSlipsModel" "TwoSlipsModel" "at" "I") ∈ lw_all := lw_g (lw_at lw_m8 135 rfl) rfl
theorem q1921 : (Jvm.Cond.soleField "TwoSlipsModel" "at") ∈ lw_all := lw_g (lw_at lw_m8 136 rfl) rfl
theorem q1922 : (Jvm.Cond.lays "TwoSlipsModel" "TwoSlipsModel" "begin" "I") ∈ lw_all := lw_g (lw_at lw_m8 137 rfl) rfl
theorem q1923 : (Jvm.Cond.soleField "TwoSlipsModel" "begin") ∈ lw_all := lw_g (lw_at lw_m8 138 rfl) rfl
theorem q1924 : (Jvm.Cond.lays "TwoSlipsModel" "TwoSlipsModel" "token" "I") ∈ lw_all := lw_g (lw_at lw_m8 139 rfl) rfl
theorem q1925 : (Jvm.Cond.soleField "TwoSlipsModel" "token") ∈ lw_all := lw_g (lw_at lw_m8 140 rfl) rfl
theorem q1926 : (Jvm.Cond.lays "TwoSlipsModel" "TwoSlipsModel" "value" "I") ∈ lw_all := lw_g (lw_at lw_m8 141 rfl) rfl
theorem q1927 : (Jvm.Cond.soleField "TwoSlipsModel" "value") ∈ lw_all := lw_g (lw_at lw_m8 142 rfl) rfl
theorem q1928 : (Jvm.Cond.lays "TwoSlipsModel" "TwoSlipsModel" "open" "I") ∈ lw_all := lw_g (lw_at lw_m8 143 rfl) rfl
theorem q1929 : (Jvm.Cond.soleField "TwoSlipsModel" "open") ∈ lw_all := lw_g (lw_at lw_m8 144 rfl) rfl
theorem q1930 : (Jvm.Cond.lays "TwoSlipsModel" "TwoSlipsModel" "bad" "I") ∈ lw_all := lw_g (lw_at lw_m8 145 rfl) rfl
theorem q1931 : (Jvm.Cond.soleField "TwoSlipsModel" "bad") ∈ lw_all := lw_g (lw_at lw_m8 146 rfl) rfl
theorem q1932 : (Jvm.Cond.lays "TwoSlipsModel" "TwoSlipsModel" "badPlace" "I") ∈ lw_all := lw_g (lw_at lw_m8 147 rfl) rfl
theorem q1933 : (Jvm.Cond.soleField "TwoSlipsModel" "badPlace") ∈ lw_all := lw_g (lw_at lw_m8 148 rfl) rfl
theorem q1934 : (Jvm.Cond.lays "TwoSlipsModel" "TwoSlipsModel" "faultKind" "I") ∈ lw_all := lw_g (lw_at lw_m8 149 rfl) rfl
theorem q1935 : (Jvm.Cond.soleField "TwoSlipsModel" "faultKind") ∈ lw_all := lw_g (lw_at lw_m8 150 rfl) rfl
theorem q1936 : (Jvm.Cond.lays "TwoSlipsModel" "TwoSlipsModel" "faultPlace" "I") ∈ lw_all := lw_g (lw_at lw_m8 151 rfl) rfl
theorem q1937 : (Jvm.Cond.soleField "TwoSlipsModel" "faultPlace") ∈ lw_all := lw_g (lw_at lw_m8 152 rfl) rfl
theorem q1938 : (Jvm.Cond.laysFinal "TwoSlipsModel" "TwoSlipsModel" "xs" "[I") ∈ lw_all := lw_g (lw_at lw_m8 153 rfl) rfl
theorem q1939 : (Jvm.Cond.soleField "TwoSlipsModel" "xs") ∈ lw_all := lw_g (lw_at lw_m8 154 rfl) rfl
theorem q1940 : (Jvm.Cond.laysFinal "TwoSlipsModel" "TwoSlipsModel" "ys" "[I") ∈ lw_all := lw_g (lw_at lw_m8 155 rfl) rfl
theorem q1941 : (Jvm.Cond.soleField "TwoSlipsModel" "ys") ∈ lw_all := lw_g (lw_at lw_m8 156 rfl) rfl
theorem q1942 : (Jvm.Cond.lays "TwoSlipsModel" "TwoSlipsModel" "pairs" "I") ∈ lw_all := lw_g (lw_at lw_m8 157 rfl) rfl
theorem q1943 : (Jvm.Cond.soleField "TwoSlipsModel" "pairs") ∈ lw_all := lw_g (lw_at lw_m8 158 rfl) rfl
theorem q1944 : (Jvm.Cond.laysFinal "TwoSlipsModel" "TwoSlipsModel" "rows" "[J") ∈ lw_all := lw_g (lw_at lw_m8 159 rfl) rfl
theorem q1945 : (Jvm.Cond.soleField "TwoSlipsModel" "rows") ∈ lw_all := lw_g (lw_at lw_m8 160 rfl) rfl
theorem q1946 : (Jvm.Cond.lays "TwoSlipsModel" "TwoSlipsModel" "top" "I") ∈ lw_all := lw_g (lw_at lw_m8 161 rfl) rfl
theorem q1947 : (Jvm.Cond.soleField "TwoSlipsModel" "top") ∈ lw_all := lw_g (lw_at lw_m8 162 rfl) rfl
theorem q1948 : (Jvm.Cond.laysFinal "TwoSlipsModel" "TwoSlipsModel" "heaps" "[I") ∈ lw_all := lw_g (lw_at lw_m8 163 rfl) rfl
theorem q1949 : (Jvm.Cond.soleField "TwoSlipsModel" "heaps") ∈ lw_all := lw_g (lw_at lw_m8 164 rfl) rfl
theorem q1950 : (Jvm.Cond.laysFinal "TwoSlipsModel" "TwoSlipsModel" "endsBehind" "[I") ∈ lw_all := lw_g (lw_at lw_m8 165 rfl) rfl
theorem q1951 : (Jvm.Cond.soleField "TwoSlipsModel" "endsBehind") ∈ lw_all := lw_g (lw_at lw_m8 166 rfl) rfl
theorem q1952 : (Jvm.Cond.laysFinal "TwoSlipsModel" "TwoSlipsModel" "path" "[I") ∈ lw_all := lw_g (lw_at lw_m8 167 rfl) rfl
theorem q1953 : (Jvm.Cond.soleField "TwoSlipsModel" "path") ∈ lw_all := lw_g (lw_at lw_m8 168 rfl) rfl
theorem q1954 : (Jvm.Cond.laysFinal "TwoSlipsModel" "TwoSlipsModel" "order" "[I") ∈ lw_all := lw_g (lw_at lw_m8 169 rfl) rfl
theorem q1955 : (Jvm.Cond.soleField "TwoSlipsModel" "order") ∈ lw_all := lw_g (lw_at lw_m8 170 rfl) rfl
theorem q1956 : (Jvm.Cond.laysFinal "TwoSlipsModel" "TwoSlipsModel" "firstOrder" "[I") ∈ lw_all := lw_g (lw_at lw_m8 171 rfl) rfl
theorem q1957 : (Jvm.Cond.soleField "TwoSlipsModel" "firstOrder") ∈ lw_all := lw_g (lw_at lw_m8 172 rfl) rfl
theorem q1958 : (Jvm.Cond.lays "TwoSlipsModel" "TwoSlipsModel" "ordersMany" "I") ∈ lw_all := lw_g (lw_at lw_m8 173 rfl) rfl
theorem q1959 : (Jvm.Cond.soleField "TwoSlipsModel" "ordersMany") ∈ lw_all := lw_g (lw_at lw_m8 174 rfl) rfl
theorem q1960 : (Jvm.Cond.laysFinal "TwoSlipsModel" "TwoSlipsModel" "tSort" "[I") ∈ lw_all := lw_g (lw_at lw_m8 175 rfl) rfl
theorem q1961 : (Jvm.Cond.soleField "TwoSlipsModel" "tSort") ∈ lw_all := lw_g (lw_at lw_m8 176 rfl) rfl
theorem q1962 : (Jvm.Cond.laysFinal "TwoSlipsModel" "TwoSlipsModel" "tMany" "[I") ∈ lw_all := lw_g (lw_at lw_m8 177 rfl) rfl
theorem q1963 : (Jvm.Cond.soleField "TwoSlipsModel" "tMany") ∈ lw_all := lw_g (lw_at lw_m8 178 rfl) rfl
theorem q1964 : (Jvm.Cond.laysFinal "TwoSlipsModel" "TwoSlipsModel" "numbers" "[J") ∈ lw_all := lw_g (lw_at lw_m8 179 rfl) rfl
theorem q1965 : (Jvm.Cond.soleField "TwoSlipsModel" "numbers") ∈ lw_all := lw_g (lw_at lw_m8 180 rfl) rfl
theorem q1966 : (Jvm.Cond.superclass "TwoSlipsModel" "java/lang/Object") ∈ lw_all := lw_g (lw_at lw_m8 181 rfl) rfl
theorem q1969 : (Jvm.Cond.instanceMethod ({ cls := "TwoSlipsModel", name := "thrown", desc := "()I" } : Jvm.MethodName)) ∈ lw_all := lw_g (lw_at lw_m8 184 rfl) rfl
theorem q1970 : (Jvm.Cond.selects "TwoSlipsModel" ({ cls := "TwoSlipsModel", name := "thrown", desc := "()I" } : Jvm.MethodName) ({ cls := "TwoSlipsModel", name := "thrown", desc := "()I" } : Jvm.MethodName)) ∈ lw_all := lw_g (lw_at lw_m8 185 rfl) rfl
theorem q1971 : (Jvm.Cond.code ({ cls := "TwoSlipsModel", name := "thrown", desc := "()I" } : Jvm.MethodName) prog_33_method_2_code (1 : Nat) (Option.some Jvm.ClassFile.FieldType.int)) ∈ lw_all := lw_g (lw_at lw_m8 186 rfl) rfl
theorem q1973 : (Jvm.Cond.instanceMethod ({ cls := "TwoSlipsModel", name := "feed", desc := "(IIIII)I" } : Jvm.MethodName)) ∈ lw_all := lw_g (lw_at lw_m8 188 rfl) rfl
theorem q1974 : (Jvm.Cond.selects "TwoSlipsModel" ({ cls := "TwoSlipsModel", name := "feed", desc := "(IIIII)I" } : Jvm.MethodName) ({ cls := "TwoSlipsModel", name := "feed", desc := "(IIIII)I" } : Jvm.MethodName)) ∈ lw_all := lw_g (lw_at lw_m8 189 rfl) rfl
theorem q1975 : (Jvm.Cond.code ({ cls := "TwoSlipsModel", name := "feed", desc := "(IIIII)I" } : Jvm.MethodName) prog_33_method_7_code (8 : Nat) (Option.some Jvm.ClassFile.FieldType.int)) ∈ lw_all := lw_g (lw_at lw_m8 190 rfl) rfl
theorem q1977 : (Jvm.Cond.instanceMethod ({ cls := "TwoSlipsModel", name := "talk", desc := "(I)I" } : Jvm.MethodName)) ∈ lw_all := lw_g (lw_at lw_m8 192 rfl) rfl
theorem q1978 : (Jvm.Cond.selects "TwoSlipsModel" ({ cls := "TwoSlipsModel", name := "talk", desc := "(I)I" } : Jvm.MethodName) ({ cls := "TwoSlipsModel", name := "talk", desc := "(I)I" } : Jvm.MethodName)) ∈ lw_all := lw_g (lw_at lw_m8 193 rfl) rfl
theorem q1979 : (Jvm.Cond.code ({ cls := "TwoSlipsModel", name := "talk", desc := "(I)I" } : Jvm.MethodName) prog_33_method_30_code (2 : Nat) (Option.some Jvm.ClassFile.FieldType.int)) ∈ lw_all := lw_g (lw_at lw_m8 194 rfl) rfl
theorem q1980 : (Jvm.Cond.methodLink "TwoSlipsModel" (133 : Nat) ({ cls := "TwoSlipsModel", name := "within", desc := "(JJJ)Z" } : Jvm.MethodName)) ∈ lw_all := lw_g (lw_at lw_m8 195 rfl) rfl
theorem q1981 : (Jvm.Cond.static ({ cls := "TwoSlipsModel", name := "within", desc := "(JJJ)Z" } : Jvm.MethodName)) ∈ lw_all := lw_g (lw_at lw_m8 196 rfl) rfl
theorem q1982 : (Jvm.Cond.code ({ cls := "TwoSlipsModel", name := "within", desc := "(JJJ)Z" } : Jvm.MethodName) prog_33_method_4_code (6 : Nat) (Option.some Jvm.ClassFile.FieldType.boolean)) ∈ lw_all := lw_g (lw_at lw_m8 197 rfl) rfl
theorem q1983 : (Jvm.Cond.methodLink "TwoSlipsModel" (237 : Nat) ({ cls := "TwoSlipsModel", name := "fails", desc := "(I)I" } : Jvm.MethodName)) ∈ lw_all := lw_g (lw_at lw_m8 198 rfl) rfl
theorem q1984 : (Jvm.Cond.privateMethod ({ cls := "TwoSlipsModel", name := "fails", desc := "(I)I" } : Jvm.MethodName)) ∈ lw_tbl := lw_at lw_m8 199 rfl
theorem q1985 : (Jvm.Cond.instanceMethod ({ cls := "TwoSlipsModel", name := "fails", desc := "(I)I" } : Jvm.MethodName)) ∈ lw_all := lw_g (lw_at lw_m8 200 rfl) rfl
theorem q1986 : (Jvm.Cond.code ({ cls := "TwoSlipsModel", name := "fails", desc := "(I)I" } : Jvm.MethodName) prog_33_method_3_code (2 : Nat) (Option.some Jvm.ClassFile.FieldType.int)) ∈ lw_all := lw_g (lw_at lw_m8 201 rfl) rfl
theorem q1987 : (Jvm.Cond.methodLink "TwoSlipsModel" (123 : Nat) ({ cls := "TwoSlipsModel", name := "reads", desc := "()V" } : Jvm.MethodName)) ∈ lw_all := lw_g (lw_at lw_m8 202 rfl) rfl
theorem q1988 : (Jvm.Cond.privateMethod ({ cls := "TwoSlipsModel", name := "reads", desc := "()V" } : Jvm.MethodName)) ∈ lw_tbl := lw_at lw_m8 203 rfl
theorem q1989 : (Jvm.Cond.instanceMethod ({ cls := "TwoSlipsModel", name := "reads", desc := "()V" } : Jvm.MethodName)) ∈ lw_all := lw_g (lw_at lw_m8 204 rfl) rfl
theorem q1990 : (Jvm.Cond.code ({ cls := "TwoSlipsModel", name := "reads", desc := "()V" } : Jvm.MethodName) prog_33_method_11_code (2 : Nat) (Option.none : Option Jvm.ClassFile.FieldType)) ∈ lw_all := lw_g (lw_at lw_m8 205 rfl) rfl
theorem q1991 : (Jvm.Cond.methodLink "TwoSlipsModel" (89 : Nat) ({ cls := "TwoSlipsModel", name := "isLetter", desc := "(I)Z" } : Jvm.MethodName)) ∈ lw_all := lw_g (lw_at lw_m8 206 rfl) rfl
theorem q1992 : (Jvm.Cond.static ({ cls := "TwoSlipsModel", name := "isLetter", desc := "(I)Z" } : Jvm.MethodName)) ∈ lw_all := lw_g (lw_at lw_m8 207 rfl) rfl
theorem q1993 : (Jvm.Cond.code ({ cls := "TwoSlipsModel", name := "isLetter", desc := "(I)Z" } : Jvm.MethodName) prog_33_method_9_code (1 : Nat) (Option.some Jvm.ClassFile.FieldType.boolean)) ∈ lw_all := lw_g (lw_at lw_m8 208 rfl) rfl
theorem q1994 : (Jvm.Cond.methodLink "TwoSlipsModel" (93 : Nat) ({ cls := "TwoSlipsModel", name := "see", desc := "(I)I" } : Jvm.MethodName)) ∈ lw_all := lw_g (lw_at lw_m8 209 rfl) rfl
theorem q1995 : (Jvm.Cond.privateMethod ({ cls := "TwoSlipsModel", name := "see", desc := "(I)I" } : Jvm.MethodName)) ∈ lw_tbl := lw_at lw_m8 210 rfl
theorem q1996 : (Jvm.Cond.instanceMethod ({ cls := "TwoSlipsModel", name := "see", desc := "(I)I" } : Jvm.MethodName)) ∈ lw_all := lw_g (lw_at lw_m8 211 rfl) rfl
theorem q1997 : (Jvm.Cond.code ({ cls := "TwoSlipsModel", name := "see", desc := "(I)I" } : Jvm.MethodName) prog_33_method_8_code (2 : Nat) (Option.some Jvm.ClassFile.FieldType.int)) ∈ lw_all := lw_g (lw_at lw_m8 212 rfl) rfl
theorem q1998 : (Jvm.Cond.methodLink "TwoSlipsModel" (97 : Nat) ({ cls := "TwoSlipsModel", name := "isDigit", desc := "(I)Z" } : Jvm.MethodName)) ∈ lw_all := lw_g (lw_at lw_m8 213 rfl) rfl
theorem q1999 : (Jvm.Cond.static ({ cls := "TwoSlipsModel", name := "isDigit", desc := "(I)Z" } : Jvm.MethodName)) ∈ lw_all := lw_g (lw_at lw_m8 214 rfl) rfl
theorem q2000 : (Jvm.Cond.code ({ cls := "TwoSlipsModel", name := "isDigit", desc := "(I)Z" } : Jvm.MethodName) prog_33_method_10_code (1 : Nat) (Option.some Jvm.ClassFile.FieldType.boolean)) ∈ lw_all := lw_g (lw_at lw_m8 215 rfl) rfl
theorem q2001 : (Jvm.Cond.methodLink "TwoSlipsModel" (240 : Nat) ({ cls := "TwoSlipsModel", name := "readLine", desc := "()V" } : Jvm.MethodName)) ∈ lw_all := lw_g (lw_at lw_m8 216 rfl) rfl
theorem q2002 : (Jvm.Cond.privateMethod ({ cls := "TwoSlipsModel", name := "readLine", desc := "()V" } : Jvm.MethodName)) ∈ lw_tbl := lw_at lw_m8 217 rfl
theorem q2003 : (Jvm.Cond.instanceMethod ({ cls := "TwoSlipsModel", name := "readLine", desc := "()V" } : Jvm.MethodName)) ∈ lw_all := lw_g (lw_at lw_m8 218 rfl) rfl
theorem q2004 : (Jvm.Cond.code ({ cls := "TwoSlipsModel", name := "readLine", desc := "()V" } : Jvm.MethodName) prog_33_method_29_code (2 : Nat) (Option.none : Option Jvm.ClassFile.FieldType)) ∈ lw_all := lw_g (lw_at lw_m8 219 rfl) rfl
theorem q2005 : (Jvm.Cond.stringRef "TwoSlipsModel" (220 : Nat) "numbers") ∈ lw_tbl := lw_at lw_m8 220 rfl
theorem q2006 : (Jvm.Cond.methodLink "TwoSlipsModel" (167 : Nat) ({ cls := "TwoSlipsModel", name := "took", desc := "(Ljava/lang/String;)Z" } : Jvm.MethodName)) ∈ lw_all := lw_g (lw_at lw_m8 221 rfl) rfl
theorem q2007 : (Jvm.Cond.privateMethod ({ cls := "TwoSlipsModel", name := "took", desc := "(Ljava/lang/String;)Z" } : Jvm.MethodName)) ∈ lw_tbl := lw_at lw_m8 222 rfl
theorem q2008 : (Jvm.Cond.instanceMethod ({ cls := "TwoSlipsModel", name := "took", desc := "(Ljava/lang/String;)Z" } : Jvm.MethodName)) ∈ lw_all := lw_g (lw_at lw_m8 223 rfl) rfl
theorem q2009 : (Jvm.Cond.code ({ cls := "TwoSlipsModel", name := "took", desc := "(Ljava/lang/String;)Z" } : Jvm.MethodName) prog_33_method_14_code (3 : Nat) (Option.some Jvm.ClassFile.FieldType.boolean)) ∈ lw_all := lw_g (lw_at lw_m8 224 rfl) rfl
theorem q2010 : (Jvm.Cond.methodLink "TwoSlipsModel" (119 : Nat) ({ cls := "TwoSlipsModel", name := "isWord", desc := "(Ljava/lang/String;)Z" } : Jvm.MethodName)) ∈ lw_all := lw_g (lw_at lw_m8 225 rfl) rfl
theorem q2011 : (Jvm.Cond.privateMethod ({ cls := "TwoSlipsModel", name := "isWord", desc := "(Ljava/lang/String;)Z" } : Jvm.MethodName)) ∈ lw_tbl := lw_at lw_m8 226 rfl
theorem q2012 : (Jvm.Cond.instanceMethod ({ cls := "TwoSlipsModel", name := "isWord", desc := "(Ljava/lang/String;)Z" } : Jvm.MethodName)) ∈ lw_all := lw_g (lw_at lw_m8 227 rfl) rfl
theorem q2013 : (Jvm.Cond.code ({ cls := "TwoSlipsModel", name := "isWord", desc := "(Ljava/lang/String;)Z" } : Jvm.MethodName) prog_33_method_13_code (4 : Nat) (Option.some Jvm.ClassFile.FieldType.boolean)) ∈ lw_all := lw_g (lw_at lw_m8 228 rfl) rfl
theorem q2014 : (Jvm.Cond.methodLink "TwoSlipsModel" (109 : Nat) ({ cls := "java/lang/String", name := "length", desc := "()I" } : Jvm.MethodName)) ∈ lw_all := lw_g (lw_at lw_m8 229 rfl) rfl
theorem q2015 : (Jvm.Cond.methodLink "TwoSlipsModel" (115 : Nat) ({ cls := "java/lang/String", name := "charAt", desc := "(I)C" } : Jvm.MethodName)) ∈ lw_all := lw_g (lw_at lw_m8 230 rfl) rfl
theorem q2016 : (Jvm.Cond.methodLink "TwoSlipsModel" (137 : Nat) ({ cls := "TwoSlipsModel", name := "number", desc := "(II)I" } : Jvm.MethodName)) ∈ lw_all := lw_g (lw_at lw_m8 231 rfl) rfl
theorem q2017 : (Jvm.Cond.privateMethod ({ cls := "TwoSlipsModel", name := "number", desc := "(II)I" } : Jvm.MethodName)) ∈ lw_tbl := lw_at lw_m8 232 rfl
theorem q2018 : (Jvm.Cond.instanceMethod ({ cls := "TwoSlipsModel", name := "number", desc := "(II)I" } : Jvm.MethodName)) ∈ lw_all := lw_g (lw_at lw_m8 233 rfl) rfl
theorem q2019 : (Jvm.Cond.code ({ cls := "TwoSlipsModel", name := "number", desc := "(II)I" } : Jvm.MethodName) prog_33_method_17_code (4 : Nat) (Option.some Jvm.ClassFile.FieldType.int)) ∈ lw_all := lw_g (lw_at lw_m8 234 rfl) rfl
theorem q2020 : (Jvm.Cond.methodLink "TwoSlipsModel" (129 : Nat) ({ cls := "TwoSlipsModel", name := "blames", desc := "(I)V" } : Jvm.MethodName)) ∈ lw_all := lw_g (lw_at lw_m8 235 rfl) rfl
theorem q2021 : (Jvm.Cond.privateMethod ({ cls := "TwoSlipsModel", name := "blames", desc := "(I)V" } : Jvm.MethodName)) ∈ lw_tbl := lw_at lw_m8 236 rfl
theorem q2022 : (Jvm.Cond.instanceMethod ({ cls := "TwoSlipsModel", name := "blames", desc := "(I)V" } : Jvm.MethodName)) ∈ lw_all := lw_g (lw_at lw_m8 237 rfl) rfl
theorem q2023 : (Jvm.Cond.code ({ cls := "TwoSlipsModel", name := "blames", desc := "(I)V" } : Jvm.MethodName) prog_33_method_12_code (2 : Nat) (Option.none : Option Jvm.ClassFile.FieldType)) ∈ lw_all := lw_g (lw_at lw_m8 238 rfl) rfl
theorem q2024 : (Jvm.Cond.stringRef "TwoSlipsModel" (221 : Nat) "to") ∈ lw_tbl := lw_at lw_m8 239 rfl
theorem q2025 : (Jvm.Cond.stringRef "TwoSlipsModel" (223 : Nat) "most") ∈ lw_tbl := lw_at lw_m9 0 rfl
theorem q2026 : (Jvm.Cond.stringRef "TwoSlipsModel" (225 : Nat) "unlike") ∈ lw_tbl := lw_at lw_m9 1 rfl
theorem q2027 : (Jvm.Cond.stringRef "TwoSlipsModel" (227 : Nat) "speaker") ∈ lw_tbl := lw_at lw_m9 2 rfl
theorem q2028 : (Jvm.Cond.methodLink "TwoSlipsModel" (229 : Nat) ({ cls := "TwoSlipsModel", name := "readSpeaker", desc := "()V" } : Jvm.MethodName)) ∈ lw_all := lw_g (lw_at lw_m9 3 rfl) rfl
theorem q2029 : (Jvm.Cond.privateMethod ({ cls := "TwoSlipsModel", name := "readSpeaker", desc := "()V" } : Jvm.MethodName)) ∈ lw_tbl := lw_at lw_m9 4 rfl
theorem q2030 : (Jvm.Cond.instanceMethod ({ cls := "TwoSlipsModel", name := "readSpeaker", desc := "()V" } : Jvm.MethodName)) ∈ lw_all := lw_g (lw_at lw_m9 5 rfl) rfl
theorem q2031 : (Jvm.Cond.code ({ cls := "TwoSlipsModel", name := "readSpeaker", desc := "()V" } : Jvm.MethodName) prog_33_method_27_code (3 : Nat) (Option.none : Option Jvm.ClassFile.FieldType)) ∈ lw_all := lw_g (lw_at lw_m9 6 rfl) rfl
theorem q2032 : (Jvm.Cond.methodLink "TwoSlipsModel" (213 : Nat) ({ cls := "TwoSlipsModel", name := "sightTold", desc := "()I" } : Jvm.MethodName)) ∈ lw_all := lw_g (lw_at lw_m9 7 rfl) rfl
theorem q2033 : (Jvm.Cond.privateMethod ({ cls := "TwoSlipsModel", name := "sightTold", desc := "()I" } : Jvm.MethodName)) ∈ lw_tbl := lw_at lw_m9 8 rfl
theorem q2034 : (Jvm.Cond.instanceMethod ({ cls := "TwoSlipsModel", name := "sightTold", desc := "()I" } : Jvm.MethodName)) ∈ lw_all := lw_g (lw_at lw_m9 9 rfl) rfl
theorem q2035 : (Jvm.Cond.code ({ cls := "TwoSlipsModel", name := "sightTold", desc := "()I" } : Jvm.MethodName) prog_33_method_26_code (1 : Nat) (Option.some Jvm.ClassFile.FieldType.int)) ∈ lw_all := lw_g (lw_at lw_m9 10 rfl) rfl
theorem q2036 : (Jvm.Cond.stringRef "TwoSlipsModel" (195 : Nat) "sum") ∈ lw_tbl := lw_at lw_m9 11 rfl
theorem q2037 : (Jvm.Cond.stringRef "TwoSlipsModel" (197 : Nat) "product") ∈ lw_tbl := lw_at lw_m9 12 rfl
theorem q2038 : (Jvm.Cond.stringRef "TwoSlipsModel" (199 : Nat) "greater") ∈ lw_tbl := lw_at lw_m9 13 rfl
theorem q2039 : (Jvm.Cond.stringRef "TwoSlipsModel" (201 : Nat) "less") ∈ lw_tbl := lw_at lw_m9 14 rfl
theorem q2040 : (Jvm.Cond.stringRef "TwoSlipsModel" (203 : Nat) "difference") ∈ lw_tbl := lw_at lw_m9 15 rfl
theorem q2041 : (Jvm.Cond.stringRef "TwoSlipsModel" (205 : Nat) "squares") ∈ lw_tbl := lw_at lw_m9 16 rfl
theorem q2042 : (Jvm.Cond.stringRef "TwoSlipsModel" (207 : Nat) "odd") ∈ lw_tbl := lw_at lw_m9 17 rfl
theorem q2043 : (Jvm.Cond.stringRef "TwoSlipsModel" (209 : Nat) "digit") ∈ lw_tbl := lw_at lw_m9 18 rfl
theorem q2044 : (Jvm.Cond.stringRef "TwoSlipsModel" (211 : Nat) "nothing") ∈ lw_tbl := lw_at lw_m9 19 rfl
theorem q2045 : (Jvm.Cond.stringRef "TwoSlipsModel" (216 : Nat) "liar") ∈ lw_tbl := lw_at lw_m9 20 rfl
theorem q2046 : (Jvm.Cond.stringRef "TwoSlipsModel" (218 : Nat) "deaf") ∈ lw_tbl := lw_at lw_m9 21 rfl
theorem q2047 : (Jvm.Cond.stringRef "TwoSlipsModel" (232 : Nat) "say") ∈ lw_tbl := lw_at lw_m9 22 rfl
theorem q2048 : (Jvm.Cond.methodLink "TwoSlipsModel" (234 : Nat) ({ cls := "TwoSlipsModel", name := "readTurn", desc := "()V" } : Jvm.MethodName)) ∈ lw_all := lw_g (lw_at lw_m9 23 rfl) rfl
theorem q2049 : (Jvm.Cond.privateMethod ({ cls := "TwoSlipsModel", name := "readTurn", desc := "()V" } : Jvm.MethodName)) ∈ lw_tbl := lw_at lw_m9 24 rfl
theorem q2050 : (Jvm.Cond.instanceMethod ({ cls := "TwoSlipsModel", name := "readTurn", desc := "()V" } : Jvm.MethodName)) ∈ lw_all := lw_g (lw_at lw_m9 25 rfl) rfl
theorem q2051 : (Jvm.Cond.code ({ cls := "TwoSlipsModel", name := "readTurn", desc := "()V" } : Jvm.MethodName) prog_33_method_28_code (3 : Nat) (Option.none : Option Jvm.ClassFile.FieldType)) ∈ lw_all := lw_g (lw_at lw_m9 26 rfl) rfl
theorem q2052 : (Jvm.Cond.methodLink "TwoSlipsModel" (170 : Nat) ({ cls := "TwoSlipsModel", name := "speakerTold", desc := "()I" } : Jvm.MethodName)) ∈ lw_all := lw_g (lw_at lw_m9 27 rfl) rfl
theorem q2053 : (Jvm.Cond.privateMethod ({ cls := "TwoSlipsModel", name := "speakerTold", desc := "()I" } : Jvm.MethodName)) ∈ lw_tbl := lw_at lw_m9 28 rfl
theorem q2054 : (Jvm.Cond.instanceMethod ({ cls := "TwoSlipsModel", name := "speakerTold", desc := "()I" } : Jvm.MethodName)) ∈ lw_all := lw_g (lw_at lw_m9 29 rfl) rfl
theorem q2055 : (Jvm.Cond.code ({ cls := "TwoSlipsModel", name := "speakerTold", desc := "()I" } : Jvm.MethodName) prog_33_method_20_code (1 : Nat) (Option.some Jvm.ClassFile.FieldType.int)) ∈ lw_all := lw_g (lw_at lw_m9 30 rfl) rfl
theorem q2056 : (Jvm.Cond.methodLink "TwoSlipsModel" (147 : Nat) ({ cls := "TwoSlipsModel", name := "readSaying", desc := "()I" } : Jvm.MethodName)) ∈ lw_all := lw_g (lw_at lw_m9 31 rfl) rfl
theorem q2057 : (Jvm.Cond.privateMethod ({ cls := "TwoSlipsModel", name := "readSaying", desc := "()I" } : Jvm.MethodName)) ∈ lw_tbl := lw_at lw_m9 32 rfl
theorem q2058 : (Jvm.Cond.instanceMethod ({ cls := "TwoSlipsModel", name := "readSaying", desc := "()I" } : Jvm.MethodName)) ∈ lw_all := lw_g (lw_at lw_m9 33 rfl) rfl
theorem q2059 : (Jvm.Cond.code ({ cls := "TwoSlipsModel", name := "readSaying", desc := "()I" } : Jvm.MethodName) prog_33_method_25_code (1 : Nat) (Option.some Jvm.ClassFile.FieldType.int)) ∈ lw_all := lw_g (lw_at lw_m9 34 rfl) rfl
theorem q2060 : (Jvm.Cond.methodLink "TwoSlipsModel" (183 : Nat) ({ cls := "TwoSlipsModel", name := "readJoined", desc := "(Z)I" } : Jvm.MethodName)) ∈ lw_all := lw_g (lw_at lw_m9 35 rfl) rfl
theorem q2061 : (Jvm.Cond.privateMethod ({ cls := "TwoSlipsModel", name := "readJoined", desc := "(Z)I" } : Jvm.MethodName)) ∈ lw_tbl := lw_at lw_m9 36 rfl
theorem q2062 : (Jvm.Cond.instanceMethod ({ cls := "TwoSlipsModel", name := "readJoined", desc := "(Z)I" } : Jvm.MethodName)) ∈ lw_all := lw_g (lw_at lw_m9 37 rfl) rfl
theorem q2063 : (Jvm.Cond.code ({ cls := "TwoSlipsModel", name := "readJoined", desc := "(Z)I" } : Jvm.MethodName) prog_33_method_24_code (6 : Nat) (Option.some Jvm.ClassFile.FieldType.int)) ∈ lw_all := lw_g (lw_at lw_m9 38 rfl) rfl
theorem q2064 : (Jvm.Cond.methodLink "TwoSlipsModel" (155 : Nat) ({ cls := "TwoSlipsModel", name := "readFact", desc := "()I" } : Jvm.MethodName)) ∈ lw_all := lw_g (lw_at lw_m9 39 rfl) rfl
theorem q2065 : (Jvm.Cond.privateMethod ({ cls := "TwoSlipsModel", name := "readFact", desc := "()I" } : Jvm.MethodName)) ∈ lw_tbl := lw_at lw_m9 40 rfl
theorem q2066 : (Jvm.Cond.instanceMethod ({ cls := "TwoSlipsModel", name := "readFact", desc := "()I" } : Jvm.MethodName)) ∈ lw_all := lw_g (lw_at lw_m9 41 rfl) rfl
theorem q2067 : (Jvm.Cond.code ({ cls := "TwoSlipsModel", name := "readFact", desc := "()I" } : Jvm.MethodName) prog_33_method_23_code (2 : Nat) (Option.some Jvm.ClassFile.FieldType.int)) ∈ lw_all := lw_g (lw_at lw_m9 42 rfl) rfl
theorem q2068 : (Jvm.Cond.stringRef "TwoSlipsModel" (153 : Nat) "not") ∈ lw_tbl := lw_at lw_m9 43 rfl
theorem q2069 : (Jvm.Cond.methodLink "TwoSlipsModel" (144 : Nat) ({ cls := "TwoSlipsModel", name := "opens", desc := "()V" } : Jvm.MethodName)) ∈ lw_all := lw_g (lw_at lw_m9 44 rfl) rfl
theorem q2070 : (Jvm.Cond.privateMethod ({ cls := "TwoSlipsModel", name := "opens", desc := "()V" } : Jvm.MethodName)) ∈ lw_tbl := lw_at lw_m9 45 rfl
theorem q2071 : (Jvm.Cond.instanceMethod ({ cls := "TwoSlipsModel", name := "opens", desc := "()V" } : Jvm.MethodName)) ∈ lw_all := lw_g (lw_at lw_m9 46 rfl) rfl
theorem q2072 : (Jvm.Cond.code ({ cls := "TwoSlipsModel", name := "opens", desc := "()V" } : Jvm.MethodName) prog_33_method_21_code (1 : Nat) (Option.none : Option Jvm.ClassFile.FieldType)) ∈ lw_all := lw_g (lw_at lw_m9 47 rfl) rfl
theorem q2073 : (Jvm.Cond.methodLink "TwoSlipsModel" (158 : Nat) ({ cls := "TwoSlipsModel", name := "mark", desc := "(III)I" } : Jvm.MethodName)) ∈ lw_all := lw_g (lw_at lw_m9 48 rfl) rfl
theorem q2074 : (Jvm.Cond.privateMethod ({ cls := "TwoSlipsModel", name := "mark", desc := "(III)I" } : Jvm.MethodName)) ∈ lw_tbl := lw_at lw_m9 49 rfl
theorem q2075 : (Jvm.Cond.instanceMethod ({ cls := "TwoSlipsModel", name := "mark", desc := "(III)I" } : Jvm.MethodName)) ∈ lw_all := lw_g (lw_at lw_m9 50 rfl) rfl
theorem q2076 : (Jvm.Cond.code ({ cls := "TwoSlipsModel", name := "mark", desc := "(III)I" } : Jvm.MethodName) prog_33_method_18_code (5 : Nat) (Option.some Jvm.ClassFile.FieldType.int)) ∈ lw_all := lw_g (lw_at lw_m9 51 rfl) rfl
theorem q2077 : (Jvm.Cond.methodLink "TwoSlipsModel" (126 : Nat) ({ cls := "TwoSlipsModel", name := "isSign", desc := "(I)Z" } : Jvm.MethodName)) ∈ lw_all := lw_g (lw_at lw_m9 52 rfl) rfl
theorem q2078 : (Jvm.Cond.privateMethod ({ cls := "TwoSlipsModel", name := "isSign", desc := "(I)Z" } : Jvm.MethodName)) ∈ lw_tbl := lw_at lw_m9 53 rfl
theorem q2079 : (Jvm.Cond.instanceMethod ({ cls := "TwoSlipsModel", name := "isSign", desc := "(I)Z" } : Jvm.MethodName)) ∈ lw_all := lw_g (lw_at lw_m9 54 rfl) rfl
theorem q2080 : (Jvm.Cond.code ({ cls := "TwoSlipsModel", name := "isSign", desc := "(I)Z" } : Jvm.MethodName) prog_33_method_15_code (2 : Nat) (Option.some Jvm.ClassFile.FieldType.boolean)) ∈ lw_all := lw_g (lw_at lw_m9 55 rfl) rfl
theorem q2081 : (Jvm.Cond.methodLink "TwoSlipsModel" (162 : Nat) ({ cls := "TwoSlipsModel", name := "readWithin", desc := "()I" } : Jvm.MethodName)) ∈ lw_all := lw_g (lw_at lw_m9 56 rfl) rfl
theorem q2082 : (Jvm.Cond.privateMethod ({ cls := "TwoSlipsModel", name := "readWithin", desc := "()I" } : Jvm.MethodName)) ∈ lw_tbl := lw_at lw_m9 57 rfl
theorem q2083 : (Jvm.Cond.instanceMethod ({ cls := "TwoSlipsModel", name := "readWithin", desc := "()I" } : Jvm.MethodName)) ∈ lw_all := lw_g (lw_at lw_m9 58 rfl) rfl
theorem q2084 : (Jvm.Cond.code ({ cls := "TwoSlipsModel", name := "readWithin", desc := "()I" } : Jvm.MethodName) prog_33_method_22_code (2 : Nat) (Option.some Jvm.ClassFile.FieldType.int)) ∈ lw_all := lw_g (lw_at lw_m9 59 rfl) rfl
theorem q2085 : (Jvm.Cond.methodLink "TwoSlipsModel" (150 : Nat) ({ cls := "TwoSlipsModel", name := "sign", desc := "(I)V" } : Jvm.MethodName)) ∈ lw_all := lw_g (lw_at lw_m9 60 rfl) rfl
theorem q2086 : (Jvm.Cond.privateMethod ({ cls := "TwoSlipsModel", name := "sign", desc := "(I)V" } : Jvm.MethodName)) ∈ lw_tbl := lw_at lw_m9 61 rfl
theorem q2087 : (Jvm.Cond.instanceMethod ({ cls := "TwoSlipsModel", name := "sign", desc := "(I)V" } : Jvm.MethodName)) ∈ lw_all := lw_g (lw_at lw_m9 62 rfl) rfl
theorem q2088 : (Jvm.Cond.code ({ cls := "TwoSlipsModel", name := "sign", desc := "(I)V" } : Jvm.MethodName) prog_33_method_16_code (2 : Nat) (Option.none : Option Jvm.ClassFile.FieldType)) ∈ lw_all := lw_g (lw_at lw_m9 63 rfl) rfl
theorem q2089 : (Jvm.Cond.stringRef "TwoSlipsModel" (165 : Nat) "knows") ∈ lw_tbl := lw_at lw_m9 64 rfl
theorem q2090 : (Jvm.Cond.stringRef "TwoSlipsModel" (173 : Nat) "sees") ∈ lw_tbl := lw_at lw_m9 65 rfl
theorem q2091 : (Jvm.Cond.stringRef "TwoSlipsModel" (175 : Nat) "was") ∈ lw_tbl := lw_at lw_m9 66 rfl
theorem q2092 : (Jvm.Cond.stringRef "TwoSlipsModel" (177 : Nat) "even") ∈ lw_tbl := lw_at lw_m9 67 rfl
theorem q2093 : (Jvm.Cond.stringRef "TwoSlipsModel" (179 : Nat) "same") ∈ lw_tbl := lw_at lw_m9 68 rfl
theorem q2094 : (Jvm.Cond.stringRef "TwoSlipsModel" (181 : Nat) "above") ∈ lw_tbl := lw_at lw_m9 69 rfl
theorem q2095 : (Jvm.Cond.stringRef "TwoSlipsModel" (187 : Nat) "or") ∈ lw_tbl := lw_at lw_m9 70 rfl
theorem q2096 : (Jvm.Cond.stringRef "TwoSlipsModel" (189 : Nat) "and") ∈ lw_tbl := lw_at lw_m9 71 rfl
theorem q2097 : (Jvm.Cond.methodLink "TwoSlipsModel" (191 : Nat) ({ cls := "TwoSlipsModel", name := "beside", desc := "(II)V" } : Jvm.MethodName)) ∈ lw_all := lw_g (lw_at lw_m9 72 rfl) rfl
theorem q2098 : (Jvm.Cond.privateMethod ({ cls := "TwoSlipsModel", name := "beside", desc := "(II)V" } : Jvm.MethodName)) ∈ lw_tbl := lw_at lw_m9 73 rfl
theorem q2099 : (Jvm.Cond.instanceMethod ({ cls := "TwoSlipsModel", name := "beside", desc := "(II)V" } : Jvm.MethodName)) ∈ lw_all := lw_g (lw_at lw_m9 74 rfl) rfl
theorem q2100 : (Jvm.Cond.code ({ cls := "TwoSlipsModel", name := "beside", desc := "(II)V" } : Jvm.MethodName) prog_33_method_19_code (3 : Nat) (Option.none : Option Jvm.ClassFile.FieldType)) ∈ lw_all := lw_g (lw_at lw_m9 75 rfl) rfl
theorem q2101 : (Jvm.Cond.methodLink "TwoSlipsModel" (246 : Nat) ({ cls := "TwoSlipsModel", name := "copies", desc := "([I[I)V" } : Jvm.MethodName)) ∈ lw_all := lw_g (lw_at lw_m9 76 rfl) rfl
theorem q2102 : (Jvm.Cond.static ({ cls := "TwoSlipsModel", name := "copies", desc := "([I[I)V" } : Jvm.MethodName)) ∈ lw_all := lw_g (lw_at lw_m9 77 rfl) rfl
theorem q2103 : (Jvm.Cond.code ({ cls := "TwoSlipsModel", name := "copies", desc := "([I[I)V" } : Jvm.MethodName) prog_33_method_5_code (3 : Nat) (Option.none : Option Jvm.ClassFile.FieldType)) ∈ lw_all := lw_g (lw_at lw_m9 78 rfl) rfl
theorem q2105 : (Jvm.Cond.instanceMethod ({ cls := "TwoSlipsModel", name := "fault", desc := "(I)I" } : Jvm.MethodName)) ∈ lw_all := lw_g (lw_at lw_m9 80 rfl) rfl
theorem q2106 : (Jvm.Cond.selects "TwoSlipsModel" ({ cls := "TwoSlipsModel", name := "fault", desc := "(I)I" } : Jvm.MethodName) ({ cls := "TwoSlipsModel", name := "fault", desc := "(I)I" } : Jvm.MethodName)) ∈ lw_all := lw_g (lw_at lw_m9 81 rfl) rfl
theorem q2107 : (Jvm.Cond.code ({ cls := "TwoSlipsModel", name := "fault", desc := "(I)I" } : Jvm.MethodName) prog_33_method_31_code (2 : Nat) (Option.some Jvm.ClassFile.FieldType.int)) ∈ lw_all := lw_g (lw_at lw_m9 82 rfl) rfl
theorem q2109 : (Jvm.Cond.instanceMethod ({ cls := "TwoSlipsModel", name := "world", desc := "(II)I" } : Jvm.MethodName)) ∈ lw_all := lw_g (lw_at lw_m9 84 rfl) rfl
theorem q2110 : (Jvm.Cond.selects "TwoSlipsModel" ({ cls := "TwoSlipsModel", name := "world", desc := "(II)I" } : Jvm.MethodName) ({ cls := "TwoSlipsModel", name := "world", desc := "(II)I" } : Jvm.MethodName)) ∈ lw_all := lw_g (lw_at lw_m9 85 rfl) rfl
theorem q2111 : (Jvm.Cond.code ({ cls := "TwoSlipsModel", name := "world", desc := "(II)I" } : Jvm.MethodName) prog_33_method_38_code (3 : Nat) (Option.some Jvm.ClassFile.FieldType.int)) ∈ lw_all := lw_g (lw_at lw_m9 86 rfl) rfl
theorem q2112 : (Jvm.Cond.methodLink "TwoSlipsModel" (256 : Nat) ({ cls := "TwoSlipsModel", name := "isWorld", desc := "(I)Z" } : Jvm.MethodName)) ∈ lw_all := lw_g (lw_at lw_m9 87 rfl) rfl
theorem q2113 : (Jvm.Cond.privateMethod ({ cls := "TwoSlipsModel", name := "isWorld", desc := "(I)Z" } : Jvm.MethodName)) ∈ lw_tbl := lw_at lw_m9 88 rfl
theorem q2114 : (Jvm.Cond.instanceMethod ({ cls := "TwoSlipsModel", name := "isWorld", desc := "(I)Z" } : Jvm.MethodName)) ∈ lw_all := lw_g (lw_at lw_m9 89 rfl) rfl
theorem q2115 : (Jvm.Cond.code ({ cls := "TwoSlipsModel", name := "isWorld", desc := "(I)Z" } : Jvm.MethodName) prog_33_method_33_code (2 : Nat) (Option.some Jvm.ClassFile.FieldType.boolean)) ∈ lw_all := lw_g (lw_at lw_m9 90 rfl) rfl
theorem q2116 : (Jvm.Cond.methodLink "TwoSlipsModel" (253 : Nat) ({ cls := "TwoSlipsModel", name := "layPairs", desc := "()V" } : Jvm.MethodName)) ∈ lw_all := lw_g (lw_at lw_m9 91 rfl) rfl
theorem q2117 : (Jvm.Cond.privateMethod ({ cls := "TwoSlipsModel", name := "layPairs", desc := "()V" } : Jvm.MethodName)) ∈ lw_tbl := lw_at lw_m9 92 rfl
theorem q2118 : (Jvm.Cond.instanceMethod ({ cls := "TwoSlipsModel", name := "layPairs", desc := "()V" } : Jvm.MethodName)) ∈ lw_all := lw_g (lw_at lw_m9 93 rfl) rfl
theorem q2119 : (Jvm.Cond.code ({ cls := "TwoSlipsModel", name := "layPairs", desc := "()V" } : Jvm.MethodName) prog_33_method_32_code (3 : Nat) (Option.none : Option Jvm.ClassFile.FieldType)) ∈ lw_all := lw_g (lw_at lw_m9 94 rfl) rfl
theorem q2121 : (Jvm.Cond.instanceMethod ({ cls := "TwoSlipsModel", name := "pair", desc := "(II)I" } : Jvm.MethodName)) ∈ lw_all := lw_g (lw_at lw_m9 96 rfl) rfl
theorem q2122 : (Jvm.Cond.selects "TwoSlipsModel" ({ cls := "TwoSlipsModel", name := "pair", desc := "(II)I" } : Jvm.MethodName) ({ cls := "TwoSlipsModel", name := "pair", desc := "(II)I" } : Jvm.MethodName)) ∈ lw_all := lw_g (lw_at lw_m9 97 rfl) rfl
theorem q2123 : (Jvm.Cond.code ({ cls := "TwoSlipsModel", name := "pair", desc := "(II)I" } : Jvm.MethodName) prog_33_method_39_code (4 : Nat) (Option.some Jvm.ClassFile.FieldType.int)) ∈ lw_all := lw_g (lw_at lw_m9 98 rfl) rfl
theorem q2124 : (Jvm.Cond.methodLink "TwoSlipsModel" (259 : Nat) ({ cls := "java/lang/Math", name := "min", desc := "(II)I" } : Jvm.MethodName)) ∈ lw_all := lw_g (lw_at lw_m9 99 rfl) rfl
theorem q2125 : (Jvm.Cond.methodLink "TwoSlipsModel" (264 : Nat) ({ cls := "java/lang/Math", name := "max", desc := "(II)I" } : Jvm.MethodName)) ∈ lw_all := lw_g (lw_at lw_m9 100 rfl) rfl
theorem q2127 : (Jvm.Cond.instanceMethod ({ cls := "TwoSlipsModel", name := "told", desc := "(II)I" } : Jvm.MethodName)) ∈ lw_all := lw_g (lw_at lw_m9 102 rfl) rfl
theorem q2128 : (Jvm.Cond.selects "TwoSlipsModel" ({ cls := "TwoSlipsModel", name := "told", desc := "(II)I" } : Jvm.MethodName) ({ cls := "TwoSlipsModel", name := "told", desc := "(II)I" } : Jvm.MethodName)) ∈ lw_all := lw_g (lw_at lw_m9 103 rfl) rfl
theorem q2129 : (Jvm.Cond.code ({ cls := "TwoSlipsModel", name := "told", desc := "(II)I" } : Jvm.MethodName) prog_33_method_41_code (3 : Nat) (Option.some Jvm.ClassFile.FieldType.int)) ∈ lw_all := lw_g (lw_at lw_m9 104 rfl) rfl
theorem q2130 : (Jvm.Cond.methodLink "TwoSlipsModel" (270 : Nat) ({ cls := "TwoSlipsModel", name := "isSpeaker", desc := "(I)Z" } : Jvm.MethodName)) ∈ lw_all := lw_g (lw_at lw_m9 105 rfl) rfl
theorem q2131 : (Jvm.Cond.privateMethod ({ cls := "TwoSlipsModel", name := "isSpeaker", desc := "(I)Z" } : Jvm.MethodName)) ∈ lw_tbl := lw_at lw_m9 106 rfl
theorem q2132 : (Jvm.Cond.instanceMethod ({ cls := "TwoSlipsModel", name := "isSpeaker", desc := "(I)Z" } : Jvm.MethodName)) ∈ lw_all := lw_g (lw_at lw_m9 107 rfl) rfl
theorem q2133 : (Jvm.Cond.code ({ cls := "TwoSlipsModel", name := "isSpeaker", desc := "(I)Z" } : Jvm.MethodName) prog_33_method_34_code (2 : Nat) (Option.some Jvm.ClassFile.FieldType.boolean)) ∈ lw_all := lw_g (lw_at lw_m9 108 rfl) rfl
theorem q2134 : (Jvm.Cond.methodLink "TwoSlipsModel" (273 : Nat) ({ cls := "TwoSlipsModel", name := "slip", desc := "(II)I" } : Jvm.MethodName)) ∈ lw_all := lw_g (lw_at lw_m9 109 rfl) rfl
theorem q2135 : (Jvm.Cond.privateMethod ({ cls := "TwoSlipsModel", name := "slip", desc := "(II)I" } : Jvm.MethodName)) ∈ lw_tbl := lw_at lw_m9 110 rfl
theorem q2136 : (Jvm.Cond.instanceMethod ({ cls := "TwoSlipsModel", name := "slip", desc := "(II)I" } : Jvm.MethodName)) ∈ lw_all := lw_g (lw_at lw_m9 111 rfl) rfl
theorem q2137 : (Jvm.Cond.code ({ cls := "TwoSlipsModel", name := "slip", desc := "(II)I" } : Jvm.MethodName) prog_33_method_40_code (5 : Nat) (Option.some Jvm.ClassFile.FieldType.int)) ∈ lw_all := lw_g (lw_at lw_m9 112 rfl) rfl
theorem q2138 : (Jvm.Cond.methodLink "TwoSlipsModel" (267 : Nat) ({ cls := "TwoSlipsModel", name := "of", desc := "(II)I" } : Jvm.MethodName)) ∈ lw_all := lw_g (lw_at lw_m9 113 rfl) rfl
theorem q2139 : (Jvm.Cond.privateMethod ({ cls := "TwoSlipsModel", name := "of", desc := "(II)I" } : Jvm.MethodName)) ∈ lw_tbl := lw_at lw_m9 114 rfl
theorem q2140 : (Jvm.Cond.instanceMethod ({ cls := "TwoSlipsModel", name := "of", desc := "(II)I" } : Jvm.MethodName)) ∈ lw_all := lw_g (lw_at lw_m9 115 rfl) rfl
theorem q2141 : (Jvm.Cond.code ({ cls := "TwoSlipsModel", name := "of", desc := "(II)I" } : Jvm.MethodName) prog_33_method_36_code (3 : Nat) (Option.some Jvm.ClassFile.FieldType.int)) ∈ lw_all := lw_g (lw_at lw_m9 116 rfl) rfl
theorem q2143 : (Jvm.Cond.instanceMethod ({ cls := "TwoSlipsModel", name := "speaker", desc := "(II)I" } : Jvm.MethodName)) ∈ lw_all := lw_g (lw_at lw_m9 118 rfl) rfl
theorem q2144 : (Jvm.Cond.selects "TwoSlipsModel" ({ cls := "TwoSlipsModel", name := "speaker", desc := "(II)I" } : Jvm.MethodName) ({ cls := "TwoSlipsModel", name := "speaker", desc := "(II)I" } : Jvm.MethodName)) ∈ lw_all := lw_g (lw_at lw_m9 119 rfl) rfl
theorem q2145 : (Jvm.Cond.code ({ cls := "TwoSlipsModel", name := "speaker", desc := "(II)I" } : Jvm.MethodName) prog_33_method_43_code (3 : Nat) (Option.some Jvm.ClassFile.FieldType.int)) ∈ lw_all := lw_g (lw_at lw_m9 120 rfl) rfl
theorem q2146 : (Jvm.Cond.constantLong "TwoSlipsModel" (279 : Nat) (3 : Int64)) ∈ lw_all := lw_g (lw_at lw_m9 121 rfl) rfl
theorem q2147 : (Jvm.Cond.methodLink "TwoSlipsModel" (281 : Nat) ({ cls := "TwoSlipsModel", name := "turnsOf", desc := "(I)I" } : Jvm.MethodName)) ∈ lw_all := lw_g (lw_at lw_m9 122 rfl) rfl
theorem q2148 : (Jvm.Cond.privateMethod ({ cls := "TwoSlipsModel", name := "turnsOf", desc := "(I)I" } : Jvm.MethodName)) ∈ lw_tbl := lw_at lw_m9 123 rfl
theorem q2149 : (Jvm.Cond.instanceMethod ({ cls := "TwoSlipsModel", name := "turnsOf", desc := "(I)I" } : Jvm.MethodName)) ∈ lw_all := lw_g (lw_at lw_m9 124 rfl) rfl
theorem q2150 : (Jvm.Cond.code ({ cls := "TwoSlipsModel", name := "turnsOf", desc := "(I)I" } : Jvm.MethodName) prog_33_method_42_code (4 : Nat) (Option.some Jvm.ClassFile.FieldType.int)) ∈ lw_all := lw_g (lw_at lw_m9 125 rfl) rfl
theorem q2151 : (Jvm.Cond.methodLink "TwoSlipsModel" (276 : Nat) ({ cls := "TwoSlipsModel", name := "who", desc := "(I)I" } : Jvm.MethodName)) ∈ lw_all := lw_g (lw_at lw_m9 126 rfl) rfl
theorem q2152 : (Jvm.Cond.privateMethod ({ cls := "TwoSlipsModel", name := "who", desc := "(I)I" } : Jvm.MethodName)) ∈ lw_tbl := lw_at lw_m9 127 rfl
theorem q2153 : (Jvm.Cond.instanceMethod ({ cls := "TwoSlipsModel", name := "who", desc := "(I)I" } : Jvm.MethodName)) ∈ lw_all := lw_g (lw_at lw_m9 128 rfl) rfl
theorem q2154 : (Jvm.Cond.code ({ cls := "TwoSlipsModel", name := "who", desc := "(I)I" } : Jvm.MethodName) prog_33_method_37_code (2 : Nat) (Option.some Jvm.ClassFile.FieldType.int)) ∈ lw_all := lw_g (lw_at lw_m9 129 rfl) rfl
theorem q2156 : (Jvm.Cond.instanceMethod ({ cls := "TwoSlipsModel", name := "turn", desc := "(I)I" } : Jvm.MethodName)) ∈ lw_all := lw_g (lw_at lw_m9 131 rfl) rfl
theorem q2157 : (Jvm.Cond.selects "TwoSlipsModel" ({ cls := "TwoSlipsModel", name := "turn", desc := "(I)I" } : Jvm.MethodName) ({ cls := "TwoSlipsModel", name := "turn", desc := "(I)I" } : Jvm.MethodName)) ∈ lw_all := lw_g (lw_at lw_m9 132 rfl) rfl
theorem q2158 : (Jvm.Cond.code ({ cls := "TwoSlipsModel", name := "turn", desc := "(I)I" } : Jvm.MethodName) prog_33_method_44_code (2 : Nat) (Option.some Jvm.ClassFile.FieldType.int)) ∈ lw_all := lw_g (lw_at lw_m9 133 rfl) rfl
theorem q2159 : (Jvm.Cond.methodLink "TwoSlipsModel" (284 : Nat) ({ cls := "TwoSlipsModel", name := "isTurn", desc := "(I)Z" } : Jvm.MethodName)) ∈ lw_all := lw_g (lw_at lw_m9 134 rfl) rfl
theorem q2160 : (Jvm.Cond.privateMethod ({ cls := "TwoSlipsModel", name := "isTurn", desc := "(I)Z" } : Jvm.MethodName)) ∈ lw_tbl := lw_at lw_m9 135 rfl
theorem q2161 : (Jvm.Cond.instanceMethod ({ cls := "TwoSlipsModel", name := "isTurn", desc := "(I)Z" } : Jvm.MethodName)) ∈ lw_all := lw_g (lw_at lw_m9 136 rfl) rfl
theorem q2162 : (Jvm.Cond.code ({ cls := "TwoSlipsModel", name := "isTurn", desc := "(I)Z" } : Jvm.MethodName) prog_33_method_35_code (2 : Nat) (Option.some Jvm.ClassFile.FieldType.boolean)) ∈ lw_all := lw_g (lw_at lw_m9 137 rfl) rfl
theorem q2164 : (Jvm.Cond.instanceMethod ({ cls := "TwoSlipsModel", name := "left", desc := "(I)I" } : Jvm.MethodName)) ∈ lw_all := lw_g (lw_at lw_m9 139 rfl) rfl
theorem q2165 : (Jvm.Cond.selects "TwoSlipsModel" ({ cls := "TwoSlipsModel", name := "left", desc := "(I)I" } : Jvm.MethodName) ({ cls := "TwoSlipsModel", name := "left", desc := "(I)I" } : Jvm.MethodName)) ∈ lw_all := lw_g (lw_at lw_m9 140 rfl) rfl
theorem q2166 : (Jvm.Cond.code ({ cls := "TwoSlipsModel", name := "left", desc := "(I)I" } : Jvm.MethodName) prog_33_method_62_code (2 : Nat) (Option.some Jvm.ClassFile.FieldType.int)) ∈ lw_all := lw_g (lw_at lw_m9 141 rfl) rfl
theorem q2167 : (Jvm.Cond.methodLink "TwoSlipsModel" (342 : Nat) ({ cls := "TwoSlipsModel", name := "isBehind", desc := "(I)Z" } : Jvm.MethodName)) ∈ lw_all := lw_g (lw_at lw_m9 142 rfl) rfl
theorem q2168 : (Jvm.Cond.privateMethod ({ cls := "TwoSlipsModel", name := "isBehind", desc := "(I)Z" } : Jvm.MethodName)) ∈ lw_tbl := lw_at lw_m9 143 rfl
theorem q2169 : (Jvm.Cond.instanceMethod ({ cls := "TwoSlipsModel", name := "isBehind", desc := "(I)Z" } : Jvm.MethodName)) ∈ lw_all := lw_g (lw_at lw_m9 144 rfl) rfl
theorem q2170 : (Jvm.Cond.code ({ cls := "TwoSlipsModel", name := "isBehind", desc := "(I)Z" } : Jvm.MethodName) prog_33_method_61_code (2 : Nat) (Option.some Jvm.ClassFile.FieldType.boolean)) ∈ lw_all := lw_g (lw_at lw_m9 145 rfl) rfl
theorem q2171 : (Jvm.Cond.methodLink "TwoSlipsModel" (330 : Nat) ({ cls := "TwoSlipsModel", name := "lays", desc := "()V" } : Jvm.MethodName)) ∈ lw_all := lw_g (lw_at lw_m9 146 rfl) rfl
theorem q2172 : (Jvm.Cond.privateMethod ({ cls := "TwoSlipsModel", name := "lays", desc := "()V" } : Jvm.MethodName)) ∈ lw_tbl := lw_at lw_m9 147 rfl
theorem q2173 : (Jvm.Cond.instanceMethod ({ cls := "TwoSlipsModel", name := "lays", desc := "()V" } : Jvm.MethodName)) ∈ lw_all := lw_g (lw_at lw_m9 148 rfl) rfl
theorem q2174 : (Jvm.Cond.code ({ cls := "TwoSlipsModel", name := "lays", desc := "()V" } : Jvm.MethodName) prog_33_method_58_code (4 : Nat) (Option.none : Option Jvm.ClassFile.FieldType)) ∈ lw_all := lw_g (lw_at lw_m9 149 rfl) rfl
theorem q2175 : (Jvm.Cond.methodLink "TwoSlipsModel" (323 : Nat) ({ cls := "TwoSlipsModel", name := "fills", desc := "(IZ)V" } : Jvm.MethodName)) ∈ lw_all := lw_g (lw_at lw_m9 150 rfl) rfl
theorem q2176 : (Jvm.Cond.privateMethod ({ cls := "TwoSlipsModel", name := "fills", desc := "(IZ)V" } : Jvm.MethodName)) ∈ lw_tbl := lw_at lw_m9 151 rfl
theorem q2177 : (Jvm.Cond.instanceMethod ({ cls := "TwoSlipsModel", name := "fills", desc := "(IZ)V" } : Jvm.MethodName)) ∈ lw_all := lw_g (lw_at lw_m9 152 rfl) rfl
theorem q2178 : (Jvm.Cond.code ({ cls := "TwoSlipsModel", name := "fills", desc := "(IZ)V" } : Jvm.MethodName) prog_33_method_47_code (4 : Nat) (Option.none : Option Jvm.ClassFile.FieldType)) ∈ lw_all := lw_g (lw_at lw_m9 153 rfl) rfl
theorem q2179 : (Jvm.Cond.methodLink "TwoSlipsModel" (289 : Nat) ({ cls := "TwoSlipsModel", name := "puts", desc := "(IIZ)V" } : Jvm.MethodName)) ∈ lw_all := lw_g (lw_at lw_m9 154 rfl) rfl
theorem q2180 : (Jvm.Cond.privateMethod ({ cls := "TwoSlipsModel", name := "puts", desc := "(IIZ)V" } : Jvm.MethodName)) ∈ lw_tbl := lw_at lw_m9 155 rfl
theorem q2181 : (Jvm.Cond.instanceMethod ({ cls := "TwoSlipsModel", name := "puts", desc := "(IIZ)V" } : Jvm.MethodName)) ∈ lw_all := lw_g (lw_at lw_m9 156 rfl) rfl
theorem q2182 : (Jvm.Cond.code ({ cls := "TwoSlipsModel", name := "puts", desc := "(IIZ)V" } : Jvm.MethodName) prog_33_method_46_code (7 : Nat) (Option.none : Option Jvm.ClassFile.FieldType)) ∈ lw_all := lw_g (lw_at lw_m9 157 rfl) rfl
theorem q2183 : (Jvm.Cond.constantLong "TwoSlipsModel" (287 : Nat) (-1 : Int64)) ∈ lw_all := lw_g (lw_at lw_m9 158 rfl) rfl
theorem q2184 : (Jvm.Cond.methodLink "TwoSlipsModel" (327 : Nat) ({ cls := "TwoSlipsModel", name := "mays", desc := "(I)I" } : Jvm.MethodName)) ∈ lw_all := lw_g (lw_at lw_m9 159 rfl) rfl
theorem q2185 : (Jvm.Cond.privateMethod ({ cls := "TwoSlipsModel", name := "mays", desc := "(I)I" } : Jvm.MethodName)) ∈ lw_tbl := lw_at lw_m9 160 rfl
theorem q2186 : (Jvm.Cond.instanceMethod ({ cls := "TwoSlipsModel", name := "mays", desc := "(I)I" } : Jvm.MethodName)) ∈ lw_all := lw_g (lw_at lw_m9 161 rfl) rfl
theorem q2187 : (Jvm.Cond.code ({ cls := "TwoSlipsModel", name := "mays", desc := "(I)I" } : Jvm.MethodName) prog_33_method_57_code (6 : Nat) (Option.some Jvm.ClassFile.FieldType.int)) ∈ lw_all := lw_g (lw_at lw_m9 162 rfl) rfl
theorem q2188 : (Jvm.Cond.methodLink "TwoSlipsModel" (307 : Nat) ({ cls := "TwoSlipsModel", name := "soIn", desc := "(II)I" } : Jvm.MethodName)) ∈ lw_all := lw_g (lw_at lw_m9 163 rfl) rfl
theorem q2189 : (Jvm.Cond.privateMethod ({ cls := "TwoSlipsModel", name := "soIn", desc := "(II)I" } : Jvm.MethodName)) ∈ lw_tbl := lw_at lw_m9 164 rfl
theorem q2190 : (Jvm.Cond.instanceMethod ({ cls := "TwoSlipsModel", name := "soIn", desc := "(II)I" } : Jvm.MethodName)) ∈ lw_all := lw_g (lw_at lw_m9 165 rfl) rfl
theorem q2191 : (Jvm.Cond.code ({ cls := "TwoSlipsModel", name := "soIn", desc := "(II)I" } : Jvm.MethodName) prog_33_method_55_code (9 : Nat) (Option.some Jvm.ClassFile.FieldType.int)) ∈ lw_all := lw_g (lw_at lw_m9 166 rfl) rfl
theorem q2192 : (Jvm.Cond.methodLink "TwoSlipsModel" (304 : Nat) ({ cls := "TwoSlipsModel", name := "markOf", desc := "(II)I" } : Jvm.MethodName)) ∈ lw_all := lw_g (lw_at lw_m9 167 rfl) rfl
theorem q2193 : (Jvm.Cond.privateMethod ({ cls := "TwoSlipsModel", name := "markOf", desc := "(II)I" } : Jvm.MethodName)) ∈ lw_tbl := lw_at lw_m9 168 rfl
theorem q2194 : (Jvm.Cond.instanceMethod ({ cls := "TwoSlipsModel", name := "markOf", desc := "(II)I" } : Jvm.MethodName)) ∈ lw_all := lw_g (lw_at lw_m9 169 rfl) rfl
theorem q2195 : (Jvm.Cond.code ({ cls := "TwoSlipsModel", name := "markOf", desc := "(II)I" } : Jvm.MethodName) prog_33_method_54_code (3 : Nat) (Option.some Jvm.ClassFile.FieldType.int)) ∈ lw_all := lw_g (lw_at lw_m9 170 rfl) rfl
theorem q2196 : (Jvm.Cond.methodLink "TwoSlipsModel" (310 : Nat) ({ cls := "TwoSlipsModel", name := "pushes", desc := "()I" } : Jvm.MethodName)) ∈ lw_all := lw_g (lw_at lw_m9 171 rfl) rfl
theorem q2197 : (Jvm.Cond.privateMethod ({ cls := "TwoSlipsModel", name := "pushes", desc := "()I" } : Jvm.MethodName)) ∈ lw_tbl := lw_at lw_m9 172 rfl
theorem q2198 : (Jvm.Cond.instanceMethod ({ cls := "TwoSlipsModel", name := "pushes", desc := "()I" } : Jvm.MethodName)) ∈ lw_all := lw_g (lw_at lw_m9 173 rfl) rfl
theorem q2199 : (Jvm.Cond.code ({ cls := "TwoSlipsModel", name := "pushes", desc := "()I" } : Jvm.MethodName) prog_33_method_50_code (1 : Nat) (Option.some Jvm.ClassFile.FieldType.int)) ∈ lw_all := lw_g (lw_at lw_m9 174 rfl) rfl
theorem q2200 : (Jvm.Cond.methodLink "TwoSlipsModel" (313 : Nat) ({ cls := "TwoSlipsModel", name := "joins", desc := "(IIIZ)V" } : Jvm.MethodName)) ∈ lw_all := lw_g (lw_at lw_m9 175 rfl) rfl
theorem q2201 : (Jvm.Cond.privateMethod ({ cls := "TwoSlipsModel", name := "joins", desc := "(IIIZ)V" } : Jvm.MethodName)) ∈ lw_tbl := lw_at lw_m9 176 rfl
theorem q2202 : (Jvm.Cond.instanceMethod ({ cls := "TwoSlipsModel", name := "joins", desc := "(IIIZ)V" } : Jvm.MethodName)) ∈ lw_all := lw_g (lw_at lw_m9 177 rfl) rfl
theorem q2203 : (Jvm.Cond.code ({ cls := "TwoSlipsModel", name := "joins", desc := "(IIIZ)V" } : Jvm.MethodName) prog_33_method_56_code (8 : Nat) (Option.none : Option Jvm.ClassFile.FieldType)) ∈ lw_all := lw_g (lw_at lw_m9 178 rfl) rfl
theorem q2204 : (Jvm.Cond.methodLink "TwoSlipsModel" (293 : Nat) ({ cls := "TwoSlipsModel", name := "has", desc := "(II)Z" } : Jvm.MethodName)) ∈ lw_all := lw_g (lw_at lw_m9 179 rfl) rfl
theorem q2205 : (Jvm.Cond.privateMethod ({ cls := "TwoSlipsModel", name := "has", desc := "(II)Z" } : Jvm.MethodName)) ∈ lw_tbl := lw_at lw_m9 180 rfl
theorem q2206 : (Jvm.Cond.instanceMethod ({ cls := "TwoSlipsModel", name := "has", desc := "(II)Z" } : Jvm.MethodName)) ∈ lw_all := lw_g (lw_at lw_m9 181 rfl) rfl
theorem q2207 : (Jvm.Cond.code ({ cls := "TwoSlipsModel", name := "has", desc := "(II)Z" } : Jvm.MethodName) prog_33_method_45_code (3 : Nat) (Option.some Jvm.ClassFile.FieldType.boolean)) ∈ lw_all := lw_g (lw_at lw_m9 182 rfl) rfl
theorem q2208 : (Jvm.Cond.methodLink "TwoSlipsModel" (317 : Nat) ({ cls := "TwoSlipsModel", name := "laysKnowing", desc := "(III)V" } : Jvm.MethodName)) ∈ lw_all := lw_g (lw_at lw_m9 183 rfl) rfl
theorem q2209 : (Jvm.Cond.privateMethod ({ cls := "TwoSlipsModel", name := "laysKnowing", desc := "(III)V" } : Jvm.MethodName)) ∈ lw_tbl := lw_at lw_m9 184 rfl
theorem q2210 : (Jvm.Cond.instanceMethod ({ cls := "TwoSlipsModel", name := "laysKnowing", desc := "(III)V" } : Jvm.MethodName)) ∈ lw_all := lw_g (lw_at lw_m9 185 rfl) rfl
theorem q2211 : (Jvm.Cond.code ({ cls := "TwoSlipsModel", name := "laysKnowing", desc := "(III)V" } : Jvm.MethodName) prog_33_method_52_code (5 : Nat) (Option.none : Option Jvm.ClassFile.FieldType)) ∈ lw_all := lw_g (lw_at lw_m9 186 rfl) rfl
theorem q2212 : (Jvm.Cond.methodLink "TwoSlipsModel" (300 : Nat) ({ cls := "TwoSlipsModel", name := "heapUp", desc := "(III)V" } : Jvm.MethodName)) ∈ lw_all := lw_g (lw_at lw_m9 187 rfl) rfl
theorem q2213 : (Jvm.Cond.privateMethod ({ cls := "TwoSlipsModel", name := "heapUp", desc := "(III)V" } : Jvm.MethodName)) ∈ lw_tbl := lw_at lw_m9 188 rfl
theorem q2214 : (Jvm.Cond.instanceMethod ({ cls := "TwoSlipsModel", name := "heapUp", desc := "(III)V" } : Jvm.MethodName)) ∈ lw_all := lw_g (lw_at lw_m9 189 rfl) rfl
theorem q2215 : (Jvm.Cond.code ({ cls := "TwoSlipsModel", name := "heapUp", desc := "(III)V" } : Jvm.MethodName) prog_33_method_51_code (5 : Nat) (Option.none : Option Jvm.ClassFile.FieldType)) ∈ lw_all := lw_g (lw_at lw_m9 190 rfl) rfl
theorem q2216 : (Jvm.Cond.methodLink "TwoSlipsModel" (320 : Nat) ({ cls := "TwoSlipsModel", name := "laysSeeing", desc := "(III)V" } : Jvm.MethodName)) ∈ lw_all := lw_g (lw_at lw_m9 191 rfl) rfl
theorem q2217 : (Jvm.Cond.privateMethod ({ cls := "TwoSlipsModel", name := "laysSeeing", desc := "(III)V" } : Jvm.MethodName)) ∈ lw_tbl := lw_at lw_m9 192 rfl
theorem q2218 : (Jvm.Cond.instanceMethod ({ cls := "TwoSlipsModel", name := "laysSeeing", desc := "(III)V" } : Jvm.MethodName)) ∈ lw_all := lw_g (lw_at lw_m9 193 rfl) rfl
theorem q2219 : (Jvm.Cond.code ({ cls := "TwoSlipsModel", name := "laysSeeing", desc := "(III)V" } : Jvm.MethodName) prog_33_method_53_code (5 : Nat) (Option.none : Option Jvm.ClassFile.FieldType)) ∈ lw_all := lw_g (lw_at lw_m9 194 rfl) rfl
theorem q2220 : (Jvm.Cond.methodLink "TwoSlipsModel" (333 : Nat) ({ cls := "TwoSlipsModel", name := "manyOf", desc := "(I)I" } : Jvm.MethodName)) ∈ lw_all := lw_g (lw_at lw_m9 195 rfl) rfl
theorem q2221 : (Jvm.Cond.privateMethod ({ cls := "TwoSlipsModel", name := "manyOf", desc := "(I)I" } : Jvm.MethodName)) ∈ lw_tbl := lw_at lw_m9 196 rfl
theorem q2222 : (Jvm.Cond.instanceMethod ({ cls := "TwoSlipsModel", name := "manyOf", desc := "(I)I" } : Jvm.MethodName)) ∈ lw_all := lw_g (lw_at lw_m9 197 rfl) rfl
theorem q2223 : (Jvm.Cond.code ({ cls := "TwoSlipsModel", name := "manyOf", desc := "(I)I" } : Jvm.MethodName) prog_33_method_48_code (4 : Nat) (Option.some Jvm.ClassFile.FieldType.int)) ∈ lw_all := lw_g (lw_at lw_m9 198 rfl) rfl
theorem q2225 : (Jvm.Cond.instanceMethod ({ cls := "TwoSlipsModel", name := "leftAt", desc := "(II)I" } : Jvm.MethodName)) ∈ lw_all := lw_g (lw_at lw_m9 200 rfl) rfl
theorem q2226 : (Jvm.Cond.selects "TwoSlipsModel" ({ cls := "TwoSlipsModel", name := "leftAt", desc := "(II)I" } : Jvm.MethodName) ({ cls := "TwoSlipsModel", name := "leftAt", desc := "(II)I" } : Jvm.MethodName)) ∈ lw_all := lw_g (lw_at lw_m9 201 rfl) rfl
theorem q2227 : (Jvm.Cond.code ({ cls := "TwoSlipsModel", name := "leftAt", desc := "(II)I" } : Jvm.MethodName) prog_33_method_63_code (5 : Nat) (Option.some Jvm.ClassFile.FieldType.int)) ∈ lw_all := lw_g (lw_at lw_m9 202 rfl) rfl
theorem q2229 : (Jvm.Cond.instanceMethod ({ cls := "TwoSlipsModel", name := "isLeft", desc := "(II)Z" } : Jvm.MethodName)) ∈ lw_all := lw_g (lw_at lw_m9 204 rfl) rfl
theorem q2230 : (Jvm.Cond.selects "TwoSlipsModel" ({ cls := "TwoSlipsModel", name := "isLeft", desc := "(II)Z" } : Jvm.MethodName) ({ cls := "TwoSlipsModel", name := "isLeft", desc := "(II)Z" } : Jvm.MethodName)) ∈ lw_all := lw_g (lw_at lw_m9 205 rfl) rfl
theorem q2231 : (Jvm.Cond.code ({ cls := "TwoSlipsModel", name := "isLeft", desc := "(II)Z" } : Jvm.MethodName) prog_33_method_64_code (3 : Nat) (Option.some Jvm.ClassFile.FieldType.boolean)) ∈ lw_all := lw_g (lw_at lw_m9 206 rfl) rfl
theorem q2233 : (Jvm.Cond.instanceMethod ({ cls := "TwoSlipsModel", name := "only", desc := "()I" } : Jvm.MethodName)) ∈ lw_all := lw_g (lw_at lw_m9 208 rfl) rfl
theorem q2234 : (Jvm.Cond.selects "TwoSlipsModel" ({ cls := "TwoSlipsModel", name := "only", desc := "()I" } : Jvm.MethodName) ({ cls := "TwoSlipsModel", name := "only", desc := "()I" } : Jvm.MethodName)) ∈ lw_all := lw_g (lw_at lw_m9 209 rfl) rfl
theorem q2235 : (Jvm.Cond.code ({ cls := "TwoSlipsModel", name := "only", desc := "()I" } : Jvm.MethodName) prog_33_method_65_code (1 : Nat) (Option.some Jvm.ClassFile.FieldType.int)) ∈ lw_all := lw_g (lw_at lw_m9 210 rfl) rfl
theorem q2236 : (Jvm.Cond.methodLink "TwoSlipsModel" (345 : Nat) ({ cls := "TwoSlipsModel", name := "onlyNow", desc := "()I" } : Jvm.MethodName)) ∈ lw_all := lw_g (lw_at lw_m9 211 rfl) rfl
theorem q2237 : (Jvm.Cond.privateMethod ({ cls := "TwoSlipsModel", name := "onlyNow", desc := "()I" } : Jvm.MethodName)) ∈ lw_tbl := lw_at lw_m9 212 rfl
theorem q2238 : (Jvm.Cond.instanceMethod ({ cls := "TwoSlipsModel", name := "onlyNow", desc := "()I" } : Jvm.MethodName)) ∈ lw_all := lw_g (lw_at lw_m9 213 rfl) rfl
theorem q2239 : (Jvm.Cond.code ({ cls := "TwoSlipsModel", name := "onlyNow", desc := "()I" } : Jvm.MethodName) prog_33_method_60_code (1 : Nat) (Option.some Jvm.ClassFile.FieldType.int)) ∈ lw_all := lw_g (lw_at lw_m9 214 rfl) rfl
theorem q2240 : (Jvm.Cond.methodLink "TwoSlipsModel" (336 : Nat) ({ cls := "TwoSlipsModel", name := "leftNow", desc := "()I" } : Jvm.MethodName)) ∈ lw_all := lw_g (lw_at lw_m9 215 rfl) rfl
theorem q2241 : (Jvm.Cond.privateMethod ({ cls := "TwoSlipsModel", name := "leftNow", desc := "()I" } : Jvm.MethodName)) ∈ lw_tbl := lw_at lw_m9 216 rfl
theorem q2242 : (Jvm.Cond.instanceMethod ({ cls := "TwoSlipsModel", name := "leftNow", desc := "()I" } : Jvm.MethodName)) ∈ lw_all := lw_g (lw_at lw_m9 217 rfl) rfl
theorem q2243 : (Jvm.Cond.code ({ cls := "TwoSlipsModel", name := "leftNow", desc := "()I" } : Jvm.MethodName) prog_33_method_59_code (1 : Nat) (Option.some Jvm.ClassFile.FieldType.int)) ∈ lw_all := lw_g (lw_at lw_m9 218 rfl) rfl
theorem q2244 : (Jvm.Cond.methodLink "TwoSlipsModel" (339 : Nat) ({ cls := "TwoSlipsModel", name := "first", desc := "(I)I" } : Jvm.MethodName)) ∈ lw_all := lw_g (lw_at lw_m9 219 rfl) rfl
theorem q2245 : (Jvm.Cond.privateMethod ({ cls := "TwoSlipsModel", name := "first", desc := "(I)I" } : Jvm.MethodName)) ∈ lw_tbl := lw_at lw_m9 220 rfl
theorem q2246 : (Jvm.Cond.instanceMethod ({ cls := "TwoSlipsModel", name := "first", desc := "(I)I" } : Jvm.MethodName)) ∈ lw_all := lw_g (lw_at lw_m9 221 rfl) rfl
theorem q2247 : (Jvm.Cond.code ({ cls := "TwoSlipsModel", name := "first", desc := "(I)I" } : Jvm.MethodName) prog_33_method_49_code (3 : Nat) (Option.some Jvm.ClassFile.FieldType.int)) ∈ lw_all := lw_g (lw_at lw_m9 222 rfl) rfl
theorem q2249 : (Jvm.Cond.instanceMethod ({ cls := "TwoSlipsModel", name := "so", desc := "(II)Z" } : Jvm.MethodName)) ∈ lw_all := lw_g (lw_at lw_m9 224 rfl) rfl
theorem q2250 : (Jvm.Cond.selects "TwoSlipsModel" ({ cls := "TwoSlipsModel", name := "so", desc := "(II)Z" } : Jvm.MethodName) ({ cls := "TwoSlipsModel", name := "so", desc := "(II)Z" } : Jvm.MethodName)) ∈ lw_all := lw_g (lw_at lw_m9 225 rfl) rfl
theorem q2251 : (Jvm.Cond.code ({ cls := "TwoSlipsModel", name := "so", desc := "(II)Z" } : Jvm.MethodName) prog_33_method_66_code (3 : Nat) (Option.some Jvm.ClassFile.FieldType.boolean)) ∈ lw_all := lw_g (lw_at lw_m9 226 rfl) rfl
theorem q2253 : (Jvm.Cond.instanceMethod ({ cls := "TwoSlipsModel", name := "may", desc := "(II)Z" } : Jvm.MethodName)) ∈ lw_all := lw_g (lw_at lw_m9 228 rfl) rfl
theorem q2254 : (Jvm.Cond.selects "TwoSlipsModel" ({ cls := "TwoSlipsModel", name := "may", desc := "(II)Z" } : Jvm.MethodName) ({ cls := "TwoSlipsModel", name := "may", desc := "(II)Z" } : Jvm.MethodName)) ∈ lw_all := lw_g (lw_at lw_m9 229 rfl) rfl
theorem q2255 : (Jvm.Cond.code ({ cls := "TwoSlipsModel", name := "may", desc := "(II)Z" } : Jvm.MethodName) prog_33_method_67_code (3 : Nat) (Option.some Jvm.ClassFile.FieldType.boolean)) ∈ lw_all := lw_g (lw_at lw_m9 230 rfl) rfl
theorem q2257 : (Jvm.Cond.instanceMethod ({ cls := "TwoSlipsModel", name := "judge", desc := "(I)I" } : Jvm.MethodName)) ∈ lw_all := lw_g (lw_at lw_m9 232 rfl) rfl
theorem q2258 : (Jvm.Cond.selects "TwoSlipsModel" ({ cls := "TwoSlipsModel", name := "judge", desc := "(I)I" } : Jvm.MethodName) ({ cls := "TwoSlipsModel", name := "judge", desc := "(I)I" } : Jvm.MethodName)) ∈ lw_all := lw_g (lw_at lw_m9 233 rfl) rfl
theorem q2259 : (Jvm.Cond.code ({ cls := "TwoSlipsModel", name := "judge", desc := "(I)I" } : Jvm.MethodName) prog_33_method_68_code (3 : Nat) (Option.some Jvm.ClassFile.FieldType.int)) ∈ lw_all := lw_g (lw_at lw_m9 234 rfl) rfl
theorem q2261 : (Jvm.Cond.instanceMethod ({ cls := "TwoSlipsModel", name := "knows", desc := "(III)Z" } : Jvm.MethodName)) ∈ lw_all := lw_g (lw_at lw_m9 236 rfl) rfl
theorem q2262 : (Jvm.Cond.selects "TwoSlipsModel" ({ cls := "TwoSlipsModel", name := "knows", desc := "(III)Z" } : Jvm.MethodName) ({ cls := "TwoSlipsModel", name := "knows", desc := "(III)Z" } : Jvm.MethodName)) ∈ lw_all := lw_g (lw_at lw_m9 237 rfl) rfl
theorem q2263 : (Jvm.Cond.code ({ cls := "TwoSlipsModel", name := "knows", desc := "(III)Z" } : Jvm.MethodName) prog_33_method_70_code (5 : Nat) (Option.some Jvm.ClassFile.FieldType.boolean)) ∈ lw_all := lw_g (lw_at lw_m9 238 rfl) rfl
theorem q2264 : (Jvm.Cond.methodLink "TwoSlipsModel" (348 : Nat) ({ cls := "TwoSlipsModel", name := "askFault", desc := "(III)I" } : Jvm.MethodName)) ∈ lw_all := lw_g (lw_at lw_m9 239 rfl) rfl
theorem q2265 : (Jvm.Cond.privateMethod ({ cls := "TwoSlipsModel", name := "askFault", desc := "(III)I" } : Jvm.MethodName)) ∈ lw_tbl := lw_at lw_m10 0 rfl
theorem q2266 : (Jvm.Cond.instanceMethod ({ cls := "TwoSlipsModel", name := "askFault", desc := "(III)I" } : Jvm.MethodName)) ∈ lw_all := lw_g (lw_at lw_m10 1 rfl) rfl
theorem q2267 : (Jvm.Cond.code ({ cls := "TwoSlipsModel", name := "askFault", desc := "(III)I" } : Jvm.MethodName) prog_33_method_69_code (4 : Nat) (Option.some Jvm.ClassFile.FieldType.int)) ∈ lw_all := lw_g (lw_at lw_m10 2 rfl) rfl
theorem q2269 : (Jvm.Cond.instanceMethod ({ cls := "TwoSlipsModel", name := "knowing", desc := "(II)I" } : Jvm.MethodName)) ∈ lw_all := lw_g (lw_at lw_m10 4 rfl) rfl
theorem q2270 : (Jvm.Cond.selects "TwoSlipsModel" ({ cls := "TwoSlipsModel", name := "knowing", desc := "(II)I" } : Jvm.MethodName) ({ cls := "TwoSlipsModel", name := "knowing", desc := "(II)I" } : Jvm.MethodName)) ∈ lw_all := lw_g (lw_at lw_m10 5 rfl) rfl
theorem q2271 : (Jvm.Cond.code ({ cls := "TwoSlipsModel", name := "knowing", desc := "(II)I" } : Jvm.MethodName) prog_33_method_71_code (6 : Nat) (Option.some Jvm.ClassFile.FieldType.int)) ∈ lw_all := lw_g (lw_at lw_m10 6 rfl) rfl
theorem q2273 : (Jvm.Cond.instanceMethod ({ cls := "TwoSlipsModel", name := "heap", desc := "(III)I" } : Jvm.MethodName)) ∈ lw_all := lw_g (lw_at lw_m10 8 rfl) rfl
theorem q2274 : (Jvm.Cond.selects "TwoSlipsModel" ({ cls := "TwoSlipsModel", name := "heap", desc := "(III)I" } : Jvm.MethodName) ({ cls := "TwoSlipsModel", name := "heap", desc := "(III)I" } : Jvm.MethodName)) ∈ lw_all := lw_g (lw_at lw_m10 9 rfl) rfl
theorem q2275 : (Jvm.Cond.code ({ cls := "TwoSlipsModel", name := "heap", desc := "(III)I" } : Jvm.MethodName) prog_33_method_72_code (4 : Nat) (Option.some Jvm.ClassFile.FieldType.int)) ∈ lw_all := lw_g (lw_at lw_m10 10 rfl) rfl
theorem q2277 : (Jvm.Cond.instanceMethod ({ cls := "TwoSlipsModel", name := "strikes", desc := "(I)I" } : Jvm.MethodName)) ∈ lw_all := lw_g (lw_at lw_m10 12 rfl) rfl
theorem q2278 : (Jvm.Cond.selects "TwoSlipsModel" ({ cls := "TwoSlipsModel", name := "strikes", desc := "(I)I" } : Jvm.MethodName) ({ cls := "TwoSlipsModel", name := "strikes", desc := "(I)I" } : Jvm.MethodName)) ∈ lw_all := lw_g (lw_at lw_m10 13 rfl) rfl
theorem q2279 : (Jvm.Cond.code ({ cls := "TwoSlipsModel", name := "strikes", desc := "(I)I" } : Jvm.MethodName) prog_33_method_73_code (6 : Nat) (Option.some Jvm.ClassFile.FieldType.int)) ∈ lw_all := lw_g (lw_at lw_m10 14 rfl) rfl
theorem q2281 : (Jvm.Cond.instanceMethod ({ cls := "TwoSlipsModel", name := "ends", desc := "(II)I" } : Jvm.MethodName)) ∈ lw_all := lw_g (lw_at lw_m10 16 rfl) rfl
theorem q2282 : (Jvm.Cond.selects "TwoSlipsModel" ({ cls := "TwoSlipsModel", name := "ends", desc := "(II)I" } : Jvm.MethodName) ({ cls := "TwoSlipsModel", name := "ends", desc := "(II)I" } : Jvm.MethodName)) ∈ lw_all := lw_g (lw_at lw_m10 17 rfl) rfl
theorem q2283 : (Jvm.Cond.code ({ cls := "TwoSlipsModel", name := "ends", desc := "(II)I" } : Jvm.MethodName) prog_33_method_75_code (3 : Nat) (Option.some Jvm.ClassFile.FieldType.int)) ∈ lw_all := lw_g (lw_at lw_m10 18 rfl) rfl
theorem q2284 : (Jvm.Cond.constantLong "TwoSlipsModel" (351 : Nat) (60 : Int64)) ∈ lw_all := lw_g (lw_at lw_m10 19 rfl) rfl
theorem q2285 : (Jvm.Cond.methodLink "TwoSlipsModel" (353 : Nat) ({ cls := "TwoSlipsModel", name := "leftWith", desc := "(II)I" } : Jvm.MethodName)) ∈ lw_all := lw_g (lw_at lw_m10 20 rfl) rfl
theorem q2286 : (Jvm.Cond.privateMethod ({ cls := "TwoSlipsModel", name := "leftWith", desc := "(II)I" } : Jvm.MethodName)) ∈ lw_tbl := lw_at lw_m10 21 rfl
theorem q2287 : (Jvm.Cond.instanceMethod ({ cls := "TwoSlipsModel", name := "leftWith", desc := "(II)I" } : Jvm.MethodName)) ∈ lw_all := lw_g (lw_at lw_m10 22 rfl) rfl
theorem q2288 : (Jvm.Cond.code ({ cls := "TwoSlipsModel", name := "leftWith", desc := "(II)I" } : Jvm.MethodName) prog_33_method_74_code (6 : Nat) (Option.some Jvm.ClassFile.FieldType.int)) ∈ lw_all := lw_g (lw_at lw_m10 23 rfl) rfl
theorem q2290 : (Jvm.Cond.instanceMethod ({ cls := "TwoSlipsModel", name := "upTo", desc := "(I)I" } : Jvm.MethodName)) ∈ lw_all := lw_g (lw_at lw_m10 25 rfl) rfl
theorem q2291 : (Jvm.Cond.selects "TwoSlipsModel" ({ cls := "TwoSlipsModel", name := "upTo", desc := "(I)I" } : Jvm.MethodName) ({ cls := "TwoSlipsModel", name := "upTo", desc := "(I)I" } : Jvm.MethodName)) ∈ lw_all := lw_g (lw_at lw_m10 26 rfl) rfl
theorem q2292 : (Jvm.Cond.code ({ cls := "TwoSlipsModel", name := "upTo", desc := "(I)I" } : Jvm.MethodName) prog_33_method_76_code (4 : Nat) (Option.some Jvm.ClassFile.FieldType.int)) ∈ lw_all := lw_g (lw_at lw_m10 27 rfl) rfl
theorem q2294 : (Jvm.Cond.instanceMethod ({ cls := "TwoSlipsModel", name := "rest", desc := "(II)I" } : Jvm.MethodName)) ∈ lw_all := lw_g (lw_at lw_m10 29 rfl) rfl
theorem q2295 : (Jvm.Cond.selects "TwoSlipsModel" ({ cls := "TwoSlipsModel", name := "rest", desc := "(II)I" } : Jvm.MethodName) ({ cls := "TwoSlipsModel", name := "rest", desc := "(II)I" } : Jvm.MethodName)) ∈ lw_all := lw_g (lw_at lw_m10 30 rfl) rfl
theorem q2296 : (Jvm.Cond.code ({ cls := "TwoSlipsModel", name := "rest", desc := "(II)I" } : Jvm.MethodName) prog_33_method_80_code (3 : Nat) (Option.some Jvm.ClassFile.FieldType.int)) ∈ lw_all := lw_g (lw_at lw_m10 31 rfl) rfl
theorem q2297 : (Jvm.Cond.methodLink "TwoSlipsModel" (360 : Nat) ({ cls := "TwoSlipsModel", name := "twoFault", desc := "(II)I" } : Jvm.MethodName)) ∈ lw_all := lw_g (lw_at lw_m10 32 rfl) rfl
theorem q2298 : (Jvm.Cond.privateMethod ({ cls := "TwoSlipsModel", name := "twoFault", desc := "(II)I" } : Jvm.MethodName)) ∈ lw_tbl := lw_at lw_m10 33 rfl
theorem q2299 : (Jvm.Cond.instanceMethod ({ cls := "TwoSlipsModel", name := "twoFault", desc := "(II)I" } : Jvm.MethodName)) ∈ lw_all := lw_g (lw_at lw_m10 34 rfl) rfl
theorem q2300 : (Jvm.Cond.code ({ cls := "TwoSlipsModel", name := "twoFault", desc := "(II)I" } : Jvm.MethodName) prog_33_method_78_code (3 : Nat) (Option.some Jvm.ClassFile.FieldType.int)) ∈ lw_all := lw_g (lw_at lw_m10 35 rfl) rfl
theorem q2301 : (Jvm.Cond.methodLink "TwoSlipsModel" (363 : Nat) ({ cls := "TwoSlipsModel", name := "mutes", desc := "(II)I" } : Jvm.MethodName)) ∈ lw_all := lw_g (lw_at lw_m10 36 rfl) rfl
theorem q2302 : (Jvm.Cond.privateMethod ({ cls := "TwoSlipsModel", name := "mutes", desc := "(II)I" } : Jvm.MethodName)) ∈ lw_tbl := lw_at lw_m10 37 rfl
theorem q2303 : (Jvm.Cond.instanceMethod ({ cls := "TwoSlipsModel", name := "mutes", desc := "(II)I" } : Jvm.MethodName)) ∈ lw_all := lw_g (lw_at lw_m10 38 rfl) rfl
theorem q2304 : (Jvm.Cond.code ({ cls := "TwoSlipsModel", name := "mutes", desc := "(II)I" } : Jvm.MethodName) prog_33_method_79_code (10 : Nat) (Option.some Jvm.ClassFile.FieldType.int)) ∈ lw_all := lw_g (lw_at lw_m10 39 rfl) rfl
theorem q2305 : (Jvm.Cond.methodLink "TwoSlipsModel" (356 : Nat) ({ cls := "TwoSlipsModel", name := "laysAnswers", desc := "(IIZI)V" } : Jvm.MethodName)) ∈ lw_all := lw_g (lw_at lw_m10 40 rfl) rfl
theorem q2306 : (Jvm.Cond.privateMethod ({ cls := "TwoSlipsModel", name := "laysAnswers", desc := "(IIZI)V" } : Jvm.MethodName)) ∈ lw_tbl := lw_at lw_m10 41 rfl
theorem q2307 : (Jvm.Cond.instanceMethod ({ cls := "TwoSlipsModel", name := "laysAnswers", desc := "(IIZI)V" } : Jvm.MethodName)) ∈ lw_all := lw_g (lw_at lw_m10 42 rfl) rfl
theorem q2308 : (Jvm.Cond.code ({ cls := "TwoSlipsModel", name := "laysAnswers", desc := "(IIZI)V" } : Jvm.MethodName) prog_33_method_77_code (6 : Nat) (Option.none : Option Jvm.ClassFile.FieldType)) ∈ lw_all := lw_g (lw_at lw_m10 43 rfl) rfl
theorem q2310 : (Jvm.Cond.instanceMethod ({ cls := "TwoSlipsModel", name := "when", desc := "(III)I" } : Jvm.MethodName)) ∈ lw_all := lw_g (lw_at lw_m10 45 rfl) rfl
theorem q2311 : (Jvm.Cond.selects "TwoSlipsModel" ({ cls := "TwoSlipsModel", name := "when", desc := "(III)I" } : Jvm.MethodName) ({ cls := "TwoSlipsModel", name := "when", desc := "(III)I" } : Jvm.MethodName)) ∈ lw_all := lw_g (lw_at lw_m10 46 rfl) rfl
theorem q2312 : (Jvm.Cond.code ({ cls := "TwoSlipsModel", name := "when", desc := "(III)I" } : Jvm.MethodName) prog_33_method_81_code (4 : Nat) (Option.some Jvm.ClassFile.FieldType.int)) ∈ lw_all := lw_g (lw_at lw_m10 47 rfl) rfl
theorem q2314 : (Jvm.Cond.instanceMethod ({ cls := "TwoSlipsModel", name := "longest", desc := "(III)I" } : Jvm.MethodName)) ∈ lw_all := lw_g (lw_at lw_m10 49 rfl) rfl
theorem q2315 : (Jvm.Cond.selects "TwoSlipsModel" ({ cls := "TwoSlipsModel", name := "longest", desc := "(III)I" } : Jvm.MethodName) ({ cls := "TwoSlipsModel", name := "longest", desc := "(III)I" } : Jvm.MethodName)) ∈ lw_all := lw_g (lw_at lw_m10 50 rfl) rfl
theorem q2316 : (Jvm.Cond.code ({ cls := "TwoSlipsModel", name := "longest", desc := "(III)I" } : Jvm.MethodName) prog_33_method_82_code (6 : Nat) (Option.some Jvm.ClassFile.FieldType.int)) ∈ lw_all := lw_g (lw_at lw_m10 51 rfl) rfl
theorem q2318 : (Jvm.Cond.instanceMethod ({ cls := "TwoSlipsModel", name := "soonest", desc := "(IIII)I" } : Jvm.MethodName)) ∈ lw_all := lw_g (lw_at lw_m10 53 rfl) rfl
theorem q2319 : (Jvm.Cond.selects "TwoSlipsModel" ({ cls := "TwoSlipsModel", name := "soonest", desc := "(IIII)I" } : Jvm.MethodName) ({ cls := "TwoSlipsModel", name := "soonest", desc := "(IIII)I" } : Jvm.MethodName)) ∈ lw_all := lw_g (lw_at lw_m10 54 rfl) rfl
theorem q2320 : (Jvm.Cond.code ({ cls := "TwoSlipsModel", name := "soonest", desc := "(IIII)I" } : Jvm.MethodName) prog_33_method_88_code (6 : Nat) (Option.some Jvm.ClassFile.FieldType.int)) ∈ lw_all := lw_g (lw_at lw_m10 55 rfl) rfl
theorem q2321 : (Jvm.Cond.methodLink "TwoSlipsModel" (380 : Nat) ({ cls := "TwoSlipsModel", name := "areSpeakers", desc := "(I)Z" } : Jvm.MethodName)) ∈ lw_all := lw_g (lw_at lw_m10 56 rfl) rfl
theorem q2322 : (Jvm.Cond.privateMethod ({ cls := "TwoSlipsModel", name := "areSpeakers", desc := "(I)Z" } : Jvm.MethodName)) ∈ lw_tbl := lw_at lw_m10 57 rfl
theorem q2323 : (Jvm.Cond.instanceMethod ({ cls := "TwoSlipsModel", name := "areSpeakers", desc := "(I)Z" } : Jvm.MethodName)) ∈ lw_all := lw_g (lw_at lw_m10 58 rfl) rfl
theorem q2324 : (Jvm.Cond.code ({ cls := "TwoSlipsModel", name := "areSpeakers", desc := "(I)Z" } : Jvm.MethodName) prog_33_method_87_code (2 : Nat) (Option.some Jvm.ClassFile.FieldType.boolean)) ∈ lw_all := lw_g (lw_at lw_m10 59 rfl) rfl
theorem q2325 : (Jvm.Cond.methodLink "TwoSlipsModel" (376 : Nat) ({ cls := "TwoSlipsModel", name := "soon", desc := "(IIIII)Z" } : Jvm.MethodName)) ∈ lw_all := lw_g (lw_at lw_m10 60 rfl) rfl
theorem q2326 : (Jvm.Cond.privateMethod ({ cls := "TwoSlipsModel", name := "soon", desc := "(IIIII)Z" } : Jvm.MethodName)) ∈ lw_tbl := lw_at lw_m10 61 rfl
theorem q2327 : (Jvm.Cond.instanceMethod ({ cls := "TwoSlipsModel", name := "soon", desc := "(IIIII)Z" } : Jvm.MethodName)) ∈ lw_all := lw_g (lw_at lw_m10 62 rfl) rfl
theorem q2328 : (Jvm.Cond.code ({ cls := "TwoSlipsModel", name := "soon", desc := "(IIIII)Z" } : Jvm.MethodName) prog_33_method_86_code (7 : Nat) (Option.some Jvm.ClassFile.FieldType.boolean)) ∈ lw_all := lw_g (lw_at lw_m10 63 rfl) rfl
theorem q2329 : (Jvm.Cond.methodLink "TwoSlipsModel" (370 : Nat) ({ cls := "TwoSlipsModel", name := "none", desc := "(III)Z" } : Jvm.MethodName)) ∈ lw_all := lw_g (lw_at lw_m10 64 rfl) rfl
theorem q2330 : (Jvm.Cond.privateMethod ({ cls := "TwoSlipsModel", name := "none", desc := "(III)Z" } : Jvm.MethodName)) ∈ lw_tbl := lw_at lw_m10 65 rfl
theorem q2331 : (Jvm.Cond.instanceMethod ({ cls := "TwoSlipsModel", name := "none", desc := "(III)Z" } : Jvm.MethodName)) ∈ lw_all := lw_g (lw_at lw_m10 66 rfl) rfl
theorem q2332 : (Jvm.Cond.code ({ cls := "TwoSlipsModel", name := "none", desc := "(III)Z" } : Jvm.MethodName) prog_33_method_84_code (5 : Nat) (Option.some Jvm.ClassFile.FieldType.boolean)) ∈ lw_all := lw_g (lw_at lw_m10 67 rfl) rfl
theorem q2333 : (Jvm.Cond.methodLink "TwoSlipsModel" (366 : Nat) ({ cls := "TwoSlipsModel", name := "knowsAt", desc := "(III)Z" } : Jvm.MethodName)) ∈ lw_all := lw_g (lw_at lw_m10 68 rfl) rfl
theorem q2334 : (Jvm.Cond.privateMethod ({ cls := "TwoSlipsModel", name := "knowsAt", desc := "(III)Z" } : Jvm.MethodName)) ∈ lw_tbl := lw_at lw_m10 69 rfl
theorem q2335 : (Jvm.Cond.instanceMethod ({ cls := "TwoSlipsModel", name := "knowsAt", desc := "(III)Z" } : Jvm.MethodName)) ∈ lw_all := lw_g (lw_at lw_m10 70 rfl) rfl
theorem q2336 : (Jvm.Cond.code ({ cls := "TwoSlipsModel", name := "knowsAt", desc := "(III)Z" } : Jvm.MethodName) prog_33_method_83_code (4 : Nat) (Option.some Jvm.ClassFile.FieldType.boolean)) ∈ lw_all := lw_g (lw_at lw_m10 71 rfl) rfl
theorem q2337 : (Jvm.Cond.methodLink "TwoSlipsModel" (373 : Nat) ({ cls := "TwoSlipsModel", name := "all", desc := "(III)Z" } : Jvm.MethodName)) ∈ lw_all := lw_g (lw_at lw_m10 72 rfl) rfl
theorem q2338 : (Jvm.Cond.privateMethod ({ cls := "TwoSlipsModel", name := "all", desc := "(III)Z" } : Jvm.MethodName)) ∈ lw_tbl := lw_at lw_m10 73 rfl
theorem q2339 : (Jvm.Cond.instanceMethod ({ cls := "TwoSlipsModel", name := "all", desc := "(III)Z" } : Jvm.MethodName)) ∈ lw_all := lw_g (lw_at lw_m10 74 rfl) rfl
theorem q2340 : (Jvm.Cond.code ({ cls := "TwoSlipsModel", name := "all", desc := "(III)Z" } : Jvm.MethodName) prog_33_method_85_code (5 : Nat) (Option.some Jvm.ClassFile.FieldType.boolean)) ∈ lw_all := lw_g (lw_at lw_m10 75 rfl) rfl
theorem q2342 : (Jvm.Cond.instanceMethod ({ cls := "TwoSlipsModel", name := "shortest", desc := "(II)I" } : Jvm.MethodName)) ∈ lw_all := lw_g (lw_at lw_m10 77 rfl) rfl
theorem q2343 : (Jvm.Cond.selects "TwoSlipsModel" ({ cls := "TwoSlipsModel", name := "shortest", desc := "(II)I" } : Jvm.MethodName) ({ cls := "TwoSlipsModel", name := "shortest", desc := "(II)I" } : Jvm.MethodName)) ∈ lw_all := lw_g (lw_at lw_m10 78 rfl) rfl
theorem q2344 : (Jvm.Cond.code ({ cls := "TwoSlipsModel", name := "shortest", desc := "(II)I" } : Jvm.MethodName) prog_33_method_90_code (4 : Nat) (Option.some Jvm.ClassFile.FieldType.int)) ∈ lw_all := lw_g (lw_at lw_m10 79 rfl) rfl
theorem q2345 : (Jvm.Cond.constantLong "TwoSlipsModel" (386 : Nat) (4 : Int64)) ∈ lw_all := lw_g (lw_at lw_m10 80 rfl) rfl
theorem q2346 : (Jvm.Cond.constantLong "TwoSlipsModel" (388 : Nat) (10 : Int64)) ∈ lw_all := lw_g (lw_at lw_m10 81 rfl) rfl
theorem q2347 : (Jvm.Cond.constantLong "TwoSlipsModel" (390 : Nat) (13 : Int64)) ∈ lw_all := lw_g (lw_at lw_m10 82 rfl) rfl
theorem q2348 : (Jvm.Cond.methodLink "TwoSlipsModel" (383 : Nat) ({ cls := "TwoSlipsModel", name := "shortBy", desc := "(II)Z" } : Jvm.MethodName)) ∈ lw_all := lw_g (lw_at lw_m10 83 rfl) rfl
theorem q2349 : (Jvm.Cond.privateMethod ({ cls := "TwoSlipsModel", name := "shortBy", desc := "(II)Z" } : Jvm.MethodName)) ∈ lw_tbl := lw_at lw_m10 84 rfl
theorem q2350 : (Jvm.Cond.instanceMethod ({ cls := "TwoSlipsModel", name := "shortBy", desc := "(II)Z" } : Jvm.MethodName)) ∈ lw_all := lw_g (lw_at lw_m10 85 rfl) rfl
theorem q2351 : (Jvm.Cond.code ({ cls := "TwoSlipsModel", name := "shortBy", desc := "(II)Z" } : Jvm.MethodName) prog_33_method_89_code (5 : Nat) (Option.some Jvm.ClassFile.FieldType.boolean)) ∈ lw_all := lw_g (lw_at lw_m10 86 rfl) rfl
theorem q2353 : (Jvm.Cond.instanceMethod ({ cls := "TwoSlipsModel", name := "liar", desc := "(I)I" } : Jvm.MethodName)) ∈ lw_all := lw_g (lw_at lw_m10 88 rfl) rfl
theorem q2354 : (Jvm.Cond.selects "TwoSlipsModel" ({ cls := "TwoSlipsModel", name := "liar", desc := "(I)I" } : Jvm.MethodName) ({ cls := "TwoSlipsModel", name := "liar", desc := "(I)I" } : Jvm.MethodName)) ∈ lw_all := lw_g (lw_at lw_m10 89 rfl) rfl
theorem q2355 : (Jvm.Cond.code ({ cls := "TwoSlipsModel", name := "liar", desc := "(I)I" } : Jvm.MethodName) prog_33_method_92_code (2 : Nat) (Option.some Jvm.ClassFile.FieldType.int)) ∈ lw_all := lw_g (lw_at lw_m10 90 rfl) rfl
theorem q2356 : (Jvm.Cond.methodLink "TwoSlipsModel" (392 : Nat) ({ cls := "TwoSlipsModel", name := "leftBy", desc := "(I)I" } : Jvm.MethodName)) ∈ lw_all := lw_g (lw_at lw_m10 91 rfl) rfl
theorem q2357 : (Jvm.Cond.privateMethod ({ cls := "TwoSlipsModel", name := "leftBy", desc := "(I)I" } : Jvm.MethodName)) ∈ lw_tbl := lw_at lw_m10 92 rfl
theorem q2358 : (Jvm.Cond.instanceMethod ({ cls := "TwoSlipsModel", name := "leftBy", desc := "(I)I" } : Jvm.MethodName)) ∈ lw_all := lw_g (lw_at lw_m10 93 rfl) rfl
theorem q2359 : (Jvm.Cond.code ({ cls := "TwoSlipsModel", name := "leftBy", desc := "(I)I" } : Jvm.MethodName) prog_33_method_91_code (3 : Nat) (Option.some Jvm.ClassFile.FieldType.int)) ∈ lw_all := lw_g (lw_at lw_m10 94 rfl) rfl
theorem q2361 : (Jvm.Cond.instanceMethod ({ cls := "TwoSlipsModel", name := "which", desc := "()I" } : Jvm.MethodName)) ∈ lw_all := lw_g (lw_at lw_m10 96 rfl) rfl
theorem q2362 : (Jvm.Cond.selects "TwoSlipsModel" ({ cls := "TwoSlipsModel", name := "which", desc := "()I" } : Jvm.MethodName) ({ cls := "TwoSlipsModel", name := "which", desc := "()I" } : Jvm.MethodName)) ∈ lw_all := lw_g (lw_at lw_m10 97 rfl) rfl
theorem q2363 : (Jvm.Cond.code ({ cls := "TwoSlipsModel", name := "which", desc := "()I" } : Jvm.MethodName) prog_33_method_93_code (3 : Nat) (Option.some Jvm.ClassFile.FieldType.int)) ∈ lw_all := lw_g (lw_at lw_m10 98 rfl) rfl
theorem q2365 : (Jvm.Cond.instanceMethod ({ cls := "TwoSlipsModel", name := "orders", desc := "(II)I" } : Jvm.MethodName)) ∈ lw_all := lw_g (lw_at lw_m10 100 rfl) rfl
theorem q2366 : (Jvm.Cond.selects "TwoSlipsModel" ({ cls := "TwoSlipsModel", name := "orders", desc := "(II)I" } : Jvm.MethodName) ({ cls := "TwoSlipsModel", name := "orders", desc := "(II)I" } : Jvm.MethodName)) ∈ lw_all := lw_g (lw_at lw_m10 101 rfl) rfl
theorem q2367 : (Jvm.Cond.code ({ cls := "TwoSlipsModel", name := "orders", desc := "(II)I" } : Jvm.MethodName) prog_33_method_95_code (3 : Nat) (Option.some Jvm.ClassFile.FieldType.int)) ∈ lw_all := lw_g (lw_at lw_m10 102 rfl) rfl
theorem q2368 : (Jvm.Cond.methodLink "TwoSlipsModel" (398 : Nat) ({ cls := "TwoSlipsModel", name := "triesOrders", desc := "(III)V" } : Jvm.MethodName)) ∈ lw_all := lw_g (lw_at lw_m10 103 rfl) rfl
theorem q2369 : (Jvm.Cond.privateMethod ({ cls := "TwoSlipsModel", name := "triesOrders", desc := "(III)V" } : Jvm.MethodName)) ∈ lw_tbl := lw_at lw_m10 104 rfl
theorem q2370 : (Jvm.Cond.instanceMethod ({ cls := "TwoSlipsModel", name := "triesOrders", desc := "(III)V" } : Jvm.MethodName)) ∈ lw_all := lw_g (lw_at lw_m10 105 rfl) rfl
theorem q2371 : (Jvm.Cond.code ({ cls := "TwoSlipsModel", name := "triesOrders", desc := "(III)V" } : Jvm.MethodName) prog_33_method_94_code (6 : Nat) (Option.none : Option Jvm.ClassFile.FieldType)) ∈ lw_all := lw_g (lw_at lw_m10 106 rfl) rfl
theorem q2373 : (Jvm.Cond.instanceMethod ({ cls := "TwoSlipsModel", name := "mended", desc := "(I)I" } : Jvm.MethodName)) ∈ lw_all := lw_g (lw_at lw_m10 108 rfl) rfl
theorem q2374 : (Jvm.Cond.selects "TwoSlipsModel" ({ cls := "TwoSlipsModel", name := "mended", desc := "(I)I" } : Jvm.MethodName) ({ cls := "TwoSlipsModel", name := "mended", desc := "(I)I" } : Jvm.MethodName)) ∈ lw_all := lw_g (lw_at lw_m10 109 rfl) rfl
theorem q2375 : (Jvm.Cond.code ({ cls := "TwoSlipsModel", name := "mended", desc := "(I)I" } : Jvm.MethodName) prog_33_method_96_code (6 : Nat) (Option.some Jvm.ClassFile.FieldType.int)) ∈ lw_all := lw_g (lw_at lw_m10 110 rfl) rfl
theorem q2376 : (Jvm.Cond.constantLong "TwoSlipsModel" (401 : Nat) (2 : Int64)) ∈ lw_all := lw_g (lw_at lw_m10 111 rfl) rfl
theorem q2378 : (Jvm.Cond.instanceMethod ({ cls := "TwoSlipsModel", name := "answers", desc := "(II)I" } : Jvm.MethodName)) ∈ lw_all := lw_g (lw_at lw_m10 113 rfl) rfl
theorem q2379 : (Jvm.Cond.selects "TwoSlipsModel" ({ cls := "TwoSlipsModel", name := "answers", desc := "(II)I" } : Jvm.MethodName) ({ cls := "TwoSlipsModel", name := "answers", desc := "(II)I" } : Jvm.MethodName)) ∈ lw_all := lw_g (lw_at lw_m10 114 rfl) rfl
theorem q2380 : (Jvm.Cond.code ({ cls := "TwoSlipsModel", name := "answers", desc := "(II)I" } : Jvm.MethodName) prog_33_method_98_code (8 : Nat) (Option.some Jvm.ClassFile.FieldType.int)) ∈ lw_all := lw_g (lw_at lw_m10 115 rfl) rfl
theorem q2381 : (Jvm.Cond.methodLink "TwoSlipsModel" (406 : Nat) ({ cls := "TwoSlipsModel", name := "trayFault", desc := "(I)I" } : Jvm.MethodName)) ∈ lw_all := lw_g (lw_at lw_m10 116 rfl) rfl
theorem q2382 : (Jvm.Cond.privateMethod ({ cls := "TwoSlipsModel", name := "trayFault", desc := "(I)I" } : Jvm.MethodName)) ∈ lw_tbl := lw_at lw_m10 117 rfl
theorem q2383 : (Jvm.Cond.instanceMethod ({ cls := "TwoSlipsModel", name := "trayFault", desc := "(I)I" } : Jvm.MethodName)) ∈ lw_all := lw_g (lw_at lw_m10 118 rfl) rfl
theorem q2384 : (Jvm.Cond.code ({ cls := "TwoSlipsModel", name := "trayFault", desc := "(I)I" } : Jvm.MethodName) prog_33_method_97_code (2 : Nat) (Option.some Jvm.ClassFile.FieldType.int)) ∈ lw_all := lw_g (lw_at lw_m10 119 rfl) rfl
theorem q2385 : (Jvm.Cond.methodLink "TwoSlipsModel" (403 : Nat) ({ cls := "TwoSlipsModel", name := "isTray", desc := "(I)Z" } : Jvm.MethodName)) ∈ lw_all := lw_g (lw_at lw_m10 120 rfl) rfl
theorem q2386 : (Jvm.Cond.static ({ cls := "TwoSlipsModel", name := "isTray", desc := "(I)Z" } : Jvm.MethodName)) ∈ lw_all := lw_g (lw_at lw_m10 121 rfl) rfl
theorem q2387 : (Jvm.Cond.code ({ cls := "TwoSlipsModel", name := "isTray", desc := "(I)Z" } : Jvm.MethodName) prog_33_method_99_code (1 : Nat) (Option.some Jvm.ClassFile.FieldType.boolean)) ∈ lw_all := lw_g (lw_at lw_m10 122 rfl) rfl
theorem q2389 : (Jvm.Cond.instanceMethod ({ cls := "TwoSlipsModel", name := "tray", desc := "(III)V" } : Jvm.MethodName)) ∈ lw_all := lw_g (lw_at lw_m10 124 rfl) rfl
theorem q2390 : (Jvm.Cond.selects "TwoSlipsModel" ({ cls := "TwoSlipsModel", name := "tray", desc := "(III)V" } : Jvm.MethodName) ({ cls := "TwoSlipsModel", name := "tray", desc := "(III)V" } : Jvm.MethodName)) ∈ lw_all := lw_g (lw_at lw_m10 125 rfl) rfl
theorem q2391 : (Jvm.Cond.code ({ cls := "TwoSlipsModel", name := "tray", desc := "(III)V" } : Jvm.MethodName) prog_33_method_100_code (5 : Nat) (Option.none : Option Jvm.ClassFile.FieldType)) ∈ lw_all := lw_g (lw_at lw_m10 126 rfl) rfl
theorem q2392 : (Jvm.Cond.constantLong "TwoSlipsModel" (409 : Nat) (40 : Int64)) ∈ lw_all := lw_g (lw_at lw_m10 127 rfl) rfl
theorem q2394 : (Jvm.Cond.instanceMethod ({ cls := "TwoSlipsModel", name := "write", desc := "(IIJ)J" } : Jvm.MethodName)) ∈ lw_all := lw_g (lw_at lw_m10 129 rfl) rfl
theorem q2395 : (Jvm.Cond.selects "TwoSlipsModel" ({ cls := "TwoSlipsModel", name := "write", desc := "(IIJ)J" } : Jvm.MethodName) ({ cls := "TwoSlipsModel", name := "write", desc := "(IIJ)J" } : Jvm.MethodName)) ∈ lw_all := lw_g (lw_at lw_m10 130 rfl) rfl
theorem q2396 : (Jvm.Cond.code ({ cls := "TwoSlipsModel", name := "write", desc := "(IIJ)J" } : Jvm.MethodName) prog_33_method_102_code (5 : Nat) (Option.some Jvm.ClassFile.FieldType.long)) ∈ lw_all := lw_g (lw_at lw_m10 131 rfl) rfl
theorem q2397 : (Jvm.Cond.methodLink "TwoSlipsModel" (411 : Nat) ({ cls := "TwoSlipsModel", name := "cut", desc := "(IIJ)J" } : Jvm.MethodName)) ∈ lw_all := lw_g (lw_at lw_m10 132 rfl) rfl
theorem q2398 : (Jvm.Cond.privateMethod ({ cls := "TwoSlipsModel", name := "cut", desc := "(IIJ)J" } : Jvm.MethodName)) ∈ lw_tbl := lw_at lw_m10 133 rfl
theorem q2399 : (Jvm.Cond.instanceMethod ({ cls := "TwoSlipsModel", name := "cut", desc := "(IIJ)J" } : Jvm.MethodName)) ∈ lw_all := lw_g (lw_at lw_m10 134 rfl) rfl
theorem q2400 : (Jvm.Cond.code ({ cls := "TwoSlipsModel", name := "cut", desc := "(IIJ)J" } : Jvm.MethodName) prog_33_method_101_code (6 : Nat) (Option.some Jvm.ClassFile.FieldType.long)) ∈ lw_all := lw_g (lw_at lw_m10 135 rfl) rfl
theorem q2402 : (Jvm.Cond.instanceMethod ({ cls := "TwoSlipsModel", name := "pour", desc := "(I)I" } : Jvm.MethodName)) ∈ lw_all := lw_g (lw_at lw_m10 137 rfl) rfl
theorem q2403 : (Jvm.Cond.selects "TwoSlipsModel" ({ cls := "TwoSlipsModel", name := "pour", desc := "(I)I" } : Jvm.MethodName) ({ cls := "TwoSlipsModel", name := "pour", desc := "(I)I" } : Jvm.MethodName)) ∈ lw_all := lw_g (lw_at lw_m10 138 rfl) rfl
theorem q2404 : (Jvm.Cond.code ({ cls := "TwoSlipsModel", name := "pour", desc := "(I)I" } : Jvm.MethodName) prog_33_method_103_code (4 : Nat) (Option.some Jvm.ClassFile.FieldType.int)) ∈ lw_all := lw_g (lw_at lw_m10 139 rfl) rfl
theorem q2406 : (Jvm.Cond.instanceMethod ({ cls := "TwoSlipsModel", name := "image", desc := "(I)V" } : Jvm.MethodName)) ∈ lw_all := lw_g (lw_at lw_m10 141 rfl) rfl
theorem q2407 : (Jvm.Cond.selects "TwoSlipsModel" ({ cls := "TwoSlipsModel", name := "image", desc := "(I)V" } : Jvm.MethodName) ({ cls := "TwoSlipsModel", name := "image", desc := "(I)V" } : Jvm.MethodName)) ∈ lw_all := lw_g (lw_at lw_m10 142 rfl) rfl
theorem q2408 : (Jvm.Cond.code ({ cls := "TwoSlipsModel", name := "image", desc := "(I)V" } : Jvm.MethodName) prog_33_method_104_code (3 : Nat) (Option.none : Option Jvm.ClassFile.FieldType)) ∈ lw_all := lw_g (lw_at lw_m10 143 rfl) rfl
theorem q2410 : (Jvm.Cond.instanceMethod ({ cls := "TwoSlipsModel", name := "restore", desc := "(I)V" } : Jvm.MethodName)) ∈ lw_all := lw_g (lw_at lw_m10 145 rfl) rfl
theorem q2411 : (Jvm.Cond.selects "TwoSlipsModel" ({ cls := "TwoSlipsModel", name := "restore", desc := "(I)V" } : Jvm.MethodName) ({ cls := "TwoSlipsModel", name := "restore", desc := "(I)V" } : Jvm.MethodName)) ∈ lw_all := lw_g (lw_at lw_m10 146 rfl) rfl
theorem q2412 : (Jvm.Cond.code ({ cls := "TwoSlipsModel", name := "restore", desc := "(I)V" } : Jvm.MethodName) prog_33_method_105_code (3 : Nat) (Option.none : Option Jvm.ClassFile.FieldType)) ∈ lw_all := lw_g (lw_at lw_m10 147 rfl) rfl
theorem q2414 : (Jvm.Cond.instanceMethod ({ cls := "TwoSlipsModel", name := "count", desc := "(I)I" } : Jvm.MethodName)) ∈ lw_all := lw_g (lw_at lw_m10 149 rfl) rfl
theorem q2415 : (Jvm.Cond.selects "TwoSlipsModel" ({ cls := "TwoSlipsModel", name := "count", desc := "(I)I" } : Jvm.MethodName) ({ cls := "TwoSlipsModel", name := "count", desc := "(I)I" } : Jvm.MethodName)) ∈ lw_all := lw_g (lw_at lw_m10 150 rfl) rfl
theorem q2416 : (Jvm.Cond.code ({ cls := "TwoSlipsModel", name := "count", desc := "(I)I" } : Jvm.MethodName) prog_33_method_106_code (2 : Nat) (Option.some Jvm.ClassFile.FieldType.int)) ∈ lw_all := lw_g (lw_at lw_m10 151 rfl) rfl
theorem q2434 : (Jvm.Cond.castable "TwoSlipsModel" "java/lang/Object") ∈ lw_tbl := lw_at lw_m10 169 rfl
theorem in_X10 : ∀ w ∈ wsX100, w ∈ lw_all := lw_in wsX100 [1902, 1904, 1906, 1908, 1910, 1912, 1914, 1916, 1918, 1920, 1922, 1924, 1926, 1928, 1930, 1932, 1934, 1936, 1938, 1940, 1942, 1944, 1946, 1948, 1950, 1952, 1954, 1956, 1958, 1960, 1962, 1964] (by decide +kernel) (by decide +kernel)
