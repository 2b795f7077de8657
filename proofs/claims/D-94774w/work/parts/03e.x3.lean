/-! TwoSlips$Reader -/
set_option maxRecDepth 100000
def RX11 : String := "TwoSlips$Reader"
def TX11 : u_T := fun k => match k with
  | 0 => ("TwoSlips$Reader", "tape", "[B", true)
  | 1 => ("TwoSlips$Reader", "size", "I", true)
  | 2 => ("TwoSlips$Reader", "made", "LTwoSlips$Talk;", true)
  | 3 => ("TwoSlips$Reader", "at", "I", false)
  | 4 => ("TwoSlips$Reader", "behind", "I", false)
  | 5 => ("TwoSlips$Reader", "kind", "I", false)
  | 6 => ("TwoSlips$Reader", "number", "I", false)
  | _ => ("TwoSlips$Reader", "open", "I", false)
def tyX11 : Nat → FieldType := fun k => match k with
  | 0 => .array .byte
  | 1 => .int
  | 2 => .object "TwoSlips$Talk"
  | 3 => .int
  | 4 => .int
  | 5 => .int
  | 6 => .int
  | _ => .int
abbrev wsX110 : List Cond := u_ws RX11 TX11 8
theorem nmX11 : ∀ a, a < 8 → ∀ b, b < 8 → a ≠ b → (TX11 a).2.1 ≠ (TX11 b).2.1 := by decide +kernel
theorem tyX11_ok : ∀ k, k < 8 → parseFieldDescriptor (TX11 k).2.2.1 = some (tyX11 k) := by decide +kernel
abbrev cX11_init : ByteArray := prog_16_method_1_code
def yX11_init : MethodName := ⟨RX11, "<init>", "([BI)V"⟩
def dkwX11_init_1 : List UInt8 := [181, 0, 22, 42, 182, 0, 26, 177]
abbrev dktX11_init_1 : List UInt8 := dkwX11_init_1 ++ []
def dkwX11_init_0 : List UInt8 := [42, 183, 0, 3, 42, 187, 0, 9, 89, 183, 0, 11, 181, 0, 12, 42, 43, 181, 0, 18, 42, 28]
abbrev dktX11_init_0 : List UInt8 := dkwX11_init_0 ++ dktX11_init_1
theorem dksX11_init_0 : cX11_init.data.toList.drop 0 = dktX11_init_0 := by decide +kernel
theorem dksX11_init_1 : cX11_init.data.toList.drop 22 = dktX11_init_1 := dk_seg dksX11_init_0 22 rfl rfl
theorem dX11_init_0 : decode cX11_init 0 = .ok (.aload_n 0, 1) := dk_42 (dk_at dksX11_init_0 0 rfl rfl)
theorem dX11_init_1 : decode cX11_init 1 = .ok (.invokespecial 3, 3) := dk_183 0 3 (dk_at dksX11_init_0 1 rfl rfl)
theorem dX11_init_4 : decode cX11_init 4 = .ok (.aload_n 0, 1) := dk_42 (dk_at dksX11_init_0 4 rfl rfl)
theorem dX11_init_5 : decode cX11_init 5 = .ok (.new 9, 3) := dk_187 0 9 (dk_at dksX11_init_0 5 rfl rfl)
theorem dX11_init_8 : decode cX11_init 8 = .ok (.dup, 1) := dk_89 (dk_at dksX11_init_0 8 rfl rfl)
theorem dX11_init_9 : decode cX11_init 9 = .ok (.invokespecial 11, 3) := dk_183 0 11 (dk_at dksX11_init_0 9 rfl rfl)
theorem dX11_init_12 : decode cX11_init 12 = .ok (.putfield 12, 3) := dk_181 0 12 (dk_at dksX11_init_0 12 rfl rfl)
theorem dX11_init_15 : decode cX11_init 15 = .ok (.aload_n 0, 1) := dk_42 (dk_at dksX11_init_0 15 rfl rfl)
theorem dX11_init_16 : decode cX11_init 16 = .ok (.aload_n 1, 1) := dk_43 (dk_at dksX11_init_0 16 rfl rfl)
theorem dX11_init_17 : decode cX11_init 17 = .ok (.putfield 18, 3) := dk_181 0 18 (dk_at dksX11_init_0 17 rfl rfl)
theorem dX11_init_20 : decode cX11_init 20 = .ok (.aload_n 0, 1) := dk_42 (dk_at dksX11_init_0 20 rfl rfl)
theorem dX11_init_21 : decode cX11_init 21 = .ok (.iload_n 2, 1) := dk_28 (dk_at dksX11_init_0 21 rfl rfl)
theorem dX11_init_22 : decode cX11_init 22 = .ok (.putfield 22, 3) := dk_181 0 22 (dk_at dksX11_init_1 0 rfl rfl)
theorem dX11_init_25 : decode cX11_init 25 = .ok (.aload_n 0, 1) := dk_42 (dk_at dksX11_init_1 3 rfl rfl)
theorem dX11_init_26 : decode cX11_init 26 = .ok (.invokevirtual 26, 3) := dk_182 0 26 (dk_at dksX11_init_1 4 rfl rfl)
theorem dX11_init_29 : decode cX11_init 29 = .ok (.return_, 1) := dk_177 (dk_at dksX11_init_1 7 rfl rfl)
abbrev cX11_next : ByteArray := prog_16_method_4_code
def yX11_next : MethodName := ⟨RX11, "next", "()V"⟩
def dkwX11_next_10 : List UInt8 := [181, 0, 29, 42, 42, 180, 0, 18, 42, 180, 0, 32, 51, 184, 0, 48, 181, 0, 35, 177]
abbrev dktX11_next_10 : List UInt8 := dkwX11_next_10 ++ []
def dkwX11_next_9 : List UInt8 := [164, 0, 8, 16, 6, 167, 0, 4, 5, 181, 0, 35, 167, 0, 29, 42, 42, 180, 0, 32, 4, 96]
abbrev dktX11_next_9 : List UInt8 := dkwX11_next_9 ++ dktX11_next_10
def dkwX11_next_8 : List UInt8 := [42, 89, 180, 0, 29, 4, 96, 181, 0, 29, 167, 255, 198, 42, 42, 180, 0, 29, 42, 180, 0, 32, 100, 6]
abbrev dktX11_next_8 : List UInt8 := dkwX11_next_8 ++ dktX11_next_9
def dkwX11_next_7 : List UInt8 := [42, 16, 10, 42, 180, 0, 45, 104, 42, 180, 0, 18, 42, 180, 0, 29, 51, 96, 16, 48, 100, 181, 0, 45]
abbrev dktX11_next_7 : List UInt8 := dkwX11_next_7 ++ dktX11_next_8
def dkwX11_next_6 : List UInt8 := [42, 42, 180, 0, 29, 182, 0, 42, 153, 0, 53, 42, 180, 0, 29, 42, 180, 0, 32, 100, 6, 162, 0, 27]
abbrev dktX11_next_6 : List UInt8 := dkwX11_next_6 ++ dktX11_next_7
def dkwX11_next_5 : List UInt8 := [4, 96, 181, 0, 29, 167, 255, 235, 42, 42, 180, 0, 32, 182, 0, 42, 153, 0, 95, 42, 3, 181, 0, 45]
abbrev dktX11_next_5 : List UInt8 := dkwX11_next_5 ++ dktX11_next_6
def dkwX11_next_4 : List UInt8 := [153, 0, 32, 42, 4, 181, 0, 35, 42, 42, 180, 0, 29, 182, 0, 38, 153, 0, 145, 42, 89, 180, 0, 29]
abbrev dktX11_next_4 : List UInt8 := dkwX11_next_4 ++ dktX11_next_5
def dkwX11_next_3 : List UInt8 := [42, 180, 0, 22, 160, 0, 11, 42, 3, 181, 0, 35, 167, 0, 172, 42, 42, 180, 0, 32, 182, 0, 38]
abbrev dktX11_next_3 : List UInt8 := dkwX11_next_3 ++ dktX11_next_4
def dkwX11_next_2 : List UInt8 := [89, 180, 0, 32, 4, 96, 181, 0, 32, 167, 255, 207, 42, 42, 180, 0, 32, 181, 0, 29, 42, 180, 0, 32]
abbrev dktX11_next_2 : List UInt8 := dkwX11_next_2 ++ dktX11_next_3
def dkwX11_next_1 : List UInt8 := [180, 0, 32, 51, 16, 10, 159, 0, 17, 42, 180, 0, 18, 42, 180, 0, 32, 51, 16, 32, 160, 0, 16, 42]
abbrev dktX11_next_1 : List UInt8 := dkwX11_next_1 ++ dktX11_next_2
def dkwX11_next_0 : List UInt8 := [42, 42, 180, 0, 29, 181, 0, 32, 42, 180, 0, 32, 42, 180, 0, 22, 162, 0, 44, 42, 180, 0, 18, 42]
abbrev dktX11_next_0 : List UInt8 := dkwX11_next_0 ++ dktX11_next_1
theorem dksX11_next_0 : cX11_next.data.toList.drop 0 = dktX11_next_0 := by decide +kernel
theorem dksX11_next_1 : cX11_next.data.toList.drop 24 = dktX11_next_1 := dk_seg dksX11_next_0 24 rfl rfl
theorem dksX11_next_2 : cX11_next.data.toList.drop 48 = dktX11_next_2 := dk_seg dksX11_next_1 24 rfl rfl
theorem dksX11_next_3 : cX11_next.data.toList.drop 72 = dktX11_next_3 := dk_seg dksX11_next_2 24 rfl rfl
theorem dksX11_next_4 : cX11_next.data.toList.drop 95 = dktX11_next_4 := dk_seg dksX11_next_3 23 rfl rfl
theorem dksX11_next_5 : cX11_next.data.toList.drop 119 = dktX11_next_5 := dk_seg dksX11_next_4 24 rfl rfl
theorem dksX11_next_6 : cX11_next.data.toList.drop 143 = dktX11_next_6 := dk_seg dksX11_next_5 24 rfl rfl
theorem dksX11_next_7 : cX11_next.data.toList.drop 167 = dktX11_next_7 := dk_seg dksX11_next_6 24 rfl rfl
theorem dksX11_next_8 : cX11_next.data.toList.drop 191 = dktX11_next_8 := dk_seg dksX11_next_7 24 rfl rfl
theorem dksX11_next_9 : cX11_next.data.toList.drop 215 = dktX11_next_9 := dk_seg dksX11_next_8 24 rfl rfl
theorem dksX11_next_10 : cX11_next.data.toList.drop 237 = dktX11_next_10 := dk_seg dksX11_next_9 22 rfl rfl
theorem dX11_next_0 : decode cX11_next 0 = .ok (.aload_n 0, 1) := dk_42 (dk_at dksX11_next_0 0 rfl rfl)
theorem dX11_next_1 : decode cX11_next 1 = .ok (.aload_n 0, 1) := dk_42 (dk_at dksX11_next_0 1 rfl rfl)
theorem dX11_next_2 : decode cX11_next 2 = .ok (.getfield 29, 3) := dk_180 0 29 (dk_at dksX11_next_0 2 rfl rfl)
theorem dX11_next_5 : decode cX11_next 5 = .ok (.putfield 32, 3) := dk_181 0 32 (dk_at dksX11_next_0 5 rfl rfl)
theorem dX11_next_8 : decode cX11_next 8 = .ok (.aload_n 0, 1) := dk_42 (dk_at dksX11_next_0 8 rfl rfl)
theorem dX11_next_9 : decode cX11_next 9 = .ok (.getfield 32, 3) := dk_180 0 32 (dk_at dksX11_next_0 9 rfl rfl)
theorem dX11_next_12 : decode cX11_next 12 = .ok (.aload_n 0, 1) := dk_42 (dk_at dksX11_next_0 12 rfl rfl)
theorem dX11_next_13 : decode cX11_next 13 = .ok (.getfield 22, 3) := dk_180 0 22 (dk_at dksX11_next_0 13 rfl rfl)
theorem dX11_next_16 : decode cX11_next 16 = .ok (.if_icmp .ge 44, 3) := dk_162 0 44 (dk_at dksX11_next_0 16 rfl rfl)
theorem dX11_next_19 : decode cX11_next 19 = .ok (.aload_n 0, 1) := dk_42 (dk_at dksX11_next_0 19 rfl rfl)
theorem dX11_next_20 : decode cX11_next 20 = .ok (.getfield 18, 3) := dk_180 0 18 (dk_at dksX11_next_0 20 rfl rfl)
theorem dX11_next_23 : decode cX11_next 23 = .ok (.aload_n 0, 1) := dk_42 (dk_at dksX11_next_0 23 rfl rfl)
theorem dX11_next_24 : decode cX11_next 24 = .ok (.getfield 32, 3) := dk_180 0 32 (dk_at dksX11_next_1 0 rfl rfl)
theorem dX11_next_27 : decode cX11_next 27 = .ok (.baload, 1) := dk_51 (dk_at dksX11_next_1 3 rfl rfl)
theorem dX11_next_28 : decode cX11_next 28 = .ok (.bipush 10, 2) := dk_16 10 (dk_at dksX11_next_1 4 rfl rfl)
theorem dX11_next_30 : decode cX11_next 30 = .ok (.if_icmp .eq 17, 3) := dk_159 0 17 (dk_at dksX11_next_1 6 rfl rfl)
theorem dX11_next_33 : decode cX11_next 33 = .ok (.aload_n 0, 1) := dk_42 (dk_at dksX11_next_1 9 rfl rfl)
theorem dX11_next_34 : decode cX11_next 34 = .ok (.getfield 18, 3) := dk_180 0 18 (dk_at dksX11_next_1 10 rfl rfl)
theorem dX11_next_37 : decode cX11_next 37 = .ok (.aload_n 0, 1) := dk_42 (dk_at dksX11_next_1 13 rfl rfl)
theorem dX11_next_38 : decode cX11_next 38 = .ok (.getfield 32, 3) := dk_180 0 32 (dk_at dksX11_next_1 14 rfl rfl)
theorem dX11_next_41 : decode cX11_next 41 = .ok (.baload, 1) := dk_51 (dk_at dksX11_next_1 17 rfl rfl)
theorem dX11_next_42 : decode cX11_next 42 = .ok (.bipush 32, 2) := dk_16 32 (dk_at dksX11_next_1 18 rfl rfl)
theorem dX11_next_44 : decode cX11_next 44 = .ok (.if_icmp .ne 16, 3) := dk_160 0 16 (dk_at dksX11_next_1 20 rfl rfl)
theorem dX11_next_47 : decode cX11_next 47 = .ok (.aload_n 0, 1) := dk_42 (dk_at dksX11_next_1 23 rfl rfl)
theorem dX11_next_48 : decode cX11_next 48 = .ok (.dup, 1) := dk_89 (dk_at dksX11_next_2 0 rfl rfl)
theorem dX11_next_49 : decode cX11_next 49 = .ok (.getfield 32, 3) := dk_180 0 32 (dk_at dksX11_next_2 1 rfl rfl)
theorem dX11_next_52 : decode cX11_next 52 = .ok (.iconst 1, 1) := dk_4 (dk_at dksX11_next_2 4 rfl rfl)
theorem dX11_next_53 : decode cX11_next 53 = .ok (.iadd, 1) := dk_96 (dk_at dksX11_next_2 5 rfl rfl)
theorem dX11_next_54 : decode cX11_next 54 = .ok (.putfield 32, 3) := dk_181 0 32 (dk_at dksX11_next_2 6 rfl rfl)
theorem dX11_next_57 : decode cX11_next 57 = .ok (.goto (-49), 3) := dk_167 255 207 (dk_at dksX11_next_2 9 rfl rfl)
theorem dX11_next_60 : decode cX11_next 60 = .ok (.aload_n 0, 1) := dk_42 (dk_at dksX11_next_2 12 rfl rfl)
theorem dX11_next_61 : decode cX11_next 61 = .ok (.aload_n 0, 1) := dk_42 (dk_at dksX11_next_2 13 rfl rfl)
theorem dX11_next_62 : decode cX11_next 62 = .ok (.getfield 32, 3) := dk_180 0 32 (dk_at dksX11_next_2 14 rfl rfl)
theorem dX11_next_65 : decode cX11_next 65 = .ok (.putfield 29, 3) := dk_181 0 29 (dk_at dksX11_next_2 17 rfl rfl)
theorem dX11_next_68 : decode cX11_next 68 = .ok (.aload_n 0, 1) := dk_42 (dk_at dksX11_next_2 20 rfl rfl)
theorem dX11_next_69 : decode cX11_next 69 = .ok (.getfield 32, 3) := dk_180 0 32 (dk_at dksX11_next_2 21 rfl rfl)
theorem dX11_next_72 : decode cX11_next 72 = .ok (.aload_n 0, 1) := dk_42 (dk_at dksX11_next_3 0 rfl rfl)
theorem dX11_next_73 : decode cX11_next 73 = .ok (.getfield 22, 3) := dk_180 0 22 (dk_at dksX11_next_3 1 rfl rfl)
theorem dX11_next_76 : decode cX11_next 76 = .ok (.if_icmp .ne 11, 3) := dk_160 0 11 (dk_at dksX11_next_3 4 rfl rfl)
theorem dX11_next_79 : decode cX11_next 79 = .ok (.aload_n 0, 1) := dk_42 (dk_at dksX11_next_3 7 rfl rfl)
theorem dX11_next_80 : decode cX11_next 80 = .ok (.iconst 0, 1) := dk_3 (dk_at dksX11_next_3 8 rfl rfl)
theorem dX11_next_81 : decode cX11_next 81 = .ok (.putfield 35, 3) := dk_181 0 35 (dk_at dksX11_next_3 9 rfl rfl)
theorem dX11_next_84 : decode cX11_next 84 = .ok (.goto 172, 3) := dk_167 0 172 (dk_at dksX11_next_3 12 rfl rfl)
theorem dX11_next_87 : decode cX11_next 87 = .ok (.aload_n 0, 1) := dk_42 (dk_at dksX11_next_3 15 rfl rfl)
theorem dX11_next_88 : decode cX11_next 88 = .ok (.aload_n 0, 1) := dk_42 (dk_at dksX11_next_3 16 rfl rfl)
theorem dX11_next_89 : decode cX11_next 89 = .ok (.getfield 32, 3) := dk_180 0 32 (dk_at dksX11_next_3 17 rfl rfl)
theorem dX11_next_92 : decode cX11_next 92 = .ok (.invokevirtual 38, 3) := dk_182 0 38 (dk_at dksX11_next_3 20 rfl rfl)
theorem dX11_next_95 : decode cX11_next 95 = .ok (.ifCond .eq 32, 3) := dk_153 0 32 (dk_at dksX11_next_4 0 rfl rfl)
theorem dX11_next_98 : decode cX11_next 98 = .ok (.aload_n 0, 1) := dk_42 (dk_at dksX11_next_4 3 rfl rfl)
theorem dX11_next_99 : decode cX11_next 99 = .ok (.iconst 1, 1) := dk_4 (dk_at dksX11_next_4 4 rfl rfl)
theorem dX11_next_100 : decode cX11_next 100 = .ok (.putfield 35, 3) := dk_181 0 35 (dk_at dksX11_next_4 5 rfl rfl)
theorem dX11_next_103 : decode cX11_next 103 = .ok (.aload_n 0, 1) := dk_42 (dk_at dksX11_next_4 8 rfl rfl)
theorem dX11_next_104 : decode cX11_next 104 = .ok (.aload_n 0, 1) := dk_42 (dk_at dksX11_next_4 9 rfl rfl)
theorem dX11_next_105 : decode cX11_next 105 = .ok (.getfield 29, 3) := dk_180 0 29 (dk_at dksX11_next_4 10 rfl rfl)
theorem dX11_next_108 : decode cX11_next 108 = .ok (.invokevirtual 38, 3) := dk_182 0 38 (dk_at dksX11_next_4 13 rfl rfl)
theorem dX11_next_111 : decode cX11_next 111 = .ok (.ifCond .eq 145, 3) := dk_153 0 145 (dk_at dksX11_next_4 16 rfl rfl)
theorem dX11_next_114 : decode cX11_next 114 = .ok (.aload_n 0, 1) := dk_42 (dk_at dksX11_next_4 19 rfl rfl)
theorem dX11_next_115 : decode cX11_next 115 = .ok (.dup, 1) := dk_89 (dk_at dksX11_next_4 20 rfl rfl)
theorem dX11_next_116 : decode cX11_next 116 = .ok (.getfield 29, 3) := dk_180 0 29 (dk_at dksX11_next_4 21 rfl rfl)
theorem dX11_next_119 : decode cX11_next 119 = .ok (.iconst 1, 1) := dk_4 (dk_at dksX11_next_5 0 rfl rfl)
theorem dX11_next_120 : decode cX11_next 120 = .ok (.iadd, 1) := dk_96 (dk_at dksX11_next_5 1 rfl rfl)
theorem dX11_next_121 : decode cX11_next 121 = .ok (.putfield 29, 3) := dk_181 0 29 (dk_at dksX11_next_5 2 rfl rfl)
theorem dX11_next_124 : decode cX11_next 124 = .ok (.goto (-21), 3) := dk_167 255 235 (dk_at dksX11_next_5 5 rfl rfl)
theorem dX11_next_127 : decode cX11_next 127 = .ok (.aload_n 0, 1) := dk_42 (dk_at dksX11_next_5 8 rfl rfl)
theorem dX11_next_128 : decode cX11_next 128 = .ok (.aload_n 0, 1) := dk_42 (dk_at dksX11_next_5 9 rfl rfl)
theorem dX11_next_129 : decode cX11_next 129 = .ok (.getfield 32, 3) := dk_180 0 32 (dk_at dksX11_next_5 10 rfl rfl)
theorem dX11_next_132 : decode cX11_next 132 = .ok (.invokevirtual 42, 3) := dk_182 0 42 (dk_at dksX11_next_5 13 rfl rfl)
theorem dX11_next_135 : decode cX11_next 135 = .ok (.ifCond .eq 95, 3) := dk_153 0 95 (dk_at dksX11_next_5 16 rfl rfl)
theorem dX11_next_138 : decode cX11_next 138 = .ok (.aload_n 0, 1) := dk_42 (dk_at dksX11_next_5 19 rfl rfl)
theorem dX11_next_139 : decode cX11_next 139 = .ok (.iconst 0, 1) := dk_3 (dk_at dksX11_next_5 20 rfl rfl)
theorem dX11_next_140 : decode cX11_next 140 = .ok (.putfield 45, 3) := dk_181 0 45 (dk_at dksX11_next_5 21 rfl rfl)
theorem dX11_next_143 : decode cX11_next 143 = .ok (.aload_n 0, 1) := dk_42 (dk_at dksX11_next_6 0 rfl rfl)
theorem dX11_next_144 : decode cX11_next 144 = .ok (.aload_n 0, 1) := dk_42 (dk_at dksX11_next_6 1 rfl rfl)
theorem dX11_next_145 : decode cX11_next 145 = .ok (.getfield 29, 3) := dk_180 0 29 (dk_at dksX11_next_6 2 rfl rfl)
theorem dX11_next_148 : decode cX11_next 148 = .ok (.invokevirtual 42, 3) := dk_182 0 42 (dk_at dksX11_next_6 5 rfl rfl)
theorem dX11_next_151 : decode cX11_next 151 = .ok (.ifCond .eq 53, 3) := dk_153 0 53 (dk_at dksX11_next_6 8 rfl rfl)
theorem dX11_next_154 : decode cX11_next 154 = .ok (.aload_n 0, 1) := dk_42 (dk_at dksX11_next_6 11 rfl rfl)
theorem dX11_next_155 : decode cX11_next 155 = .ok (.getfield 29, 3) := dk_180 0 29 (dk_at dksX11_next_6 12 rfl rfl)
theorem dX11_next_158 : decode cX11_next 158 = .ok (.aload_n 0, 1) := dk_42 (dk_at dksX11_next_6 15 rfl rfl)
theorem dX11_next_159 : decode cX11_next 159 = .ok (.getfield 32, 3) := dk_180 0 32 (dk_at dksX11_next_6 16 rfl rfl)
theorem dX11_next_162 : decode cX11_next 162 = .ok (.isub, 1) := dk_100 (dk_at dksX11_next_6 19 rfl rfl)
theorem dX11_next_163 : decode cX11_next 163 = .ok (.iconst 3, 1) := dk_6 (dk_at dksX11_next_6 20 rfl rfl)
theorem dX11_next_164 : decode cX11_next 164 = .ok (.if_icmp .ge 27, 3) := dk_162 0 27 (dk_at dksX11_next_6 21 rfl rfl)
theorem dX11_next_167 : decode cX11_next 167 = .ok (.aload_n 0, 1) := dk_42 (dk_at dksX11_next_7 0 rfl rfl)
theorem dX11_next_168 : decode cX11_next 168 = .ok (.bipush 10, 2) := dk_16 10 (dk_at dksX11_next_7 1 rfl rfl)
theorem dX11_next_170 : decode cX11_next 170 = .ok (.aload_n 0, 1) := dk_42 (dk_at dksX11_next_7 3 rfl rfl)
theorem dX11_next_171 : decode cX11_next 171 = .ok (.getfield 45, 3) := dk_180 0 45 (dk_at dksX11_next_7 4 rfl rfl)
theorem dX11_next_174 : decode cX11_next 174 = .ok (.imul, 1) := dk_104 (dk_at dksX11_next_7 7 rfl rfl)
theorem dX11_next_175 : decode cX11_next 175 = .ok (.aload_n 0, 1) := dk_42 (dk_at dksX11_next_7 8 rfl rfl)
theorem dX11_next_176 : decode cX11_next 176 = .ok (.getfield 18, 3) := dk_180 0 18 (dk_at dksX11_next_7 9 rfl rfl)
theorem dX11_next_179 : decode cX11_next 179 = .ok (.aload_n 0, 1) := dk_42 (dk_at dksX11_next_7 12 rfl rfl)
theorem dX11_next_180 : decode cX11_next 180 = .ok (.getfield 29, 3) := dk_180 0 29 (dk_at dksX11_next_7 13 rfl rfl)
theorem dX11_next_183 : decode cX11_next 183 = .ok (.baload, 1) := dk_51 (dk_at dksX11_next_7 16 rfl rfl)
theorem dX11_next_184 : decode cX11_next 184 = .ok (.iadd, 1) := dk_96 (dk_at dksX11_next_7 17 rfl rfl)
theorem dX11_next_185 : decode cX11_next 185 = .ok (.bipush 48, 2) := dk_16 48 (dk_at dksX11_next_7 18 rfl rfl)
theorem dX11_next_187 : decode cX11_next 187 = .ok (.isub, 1) := dk_100 (dk_at dksX11_next_7 20 rfl rfl)
theorem dX11_next_188 : decode cX11_next 188 = .ok (.putfield 45, 3) := dk_181 0 45 (dk_at dksX11_next_7 21 rfl rfl)
theorem dX11_next_191 : decode cX11_next 191 = .ok (.aload_n 0, 1) := dk_42 (dk_at dksX11_next_8 0 rfl rfl)
theorem dX11_next_192 : decode cX11_next 192 = .ok (.dup, 1) := dk_89 (dk_at dksX11_next_8 1 rfl rfl)
theorem dX11_next_193 : decode cX11_next 193 = .ok (.getfield 29, 3) := dk_180 0 29 (dk_at dksX11_next_8 2 rfl rfl)
theorem dX11_next_196 : decode cX11_next 196 = .ok (.iconst 1, 1) := dk_4 (dk_at dksX11_next_8 5 rfl rfl)
theorem dX11_next_197 : decode cX11_next 197 = .ok (.iadd, 1) := dk_96 (dk_at dksX11_next_8 6 rfl rfl)
theorem dX11_next_198 : decode cX11_next 198 = .ok (.putfield 29, 3) := dk_181 0 29 (dk_at dksX11_next_8 7 rfl rfl)
theorem dX11_next_201 : decode cX11_next 201 = .ok (.goto (-58), 3) := dk_167 255 198 (dk_at dksX11_next_8 10 rfl rfl)
theorem dX11_next_204 : decode cX11_next 204 = .ok (.aload_n 0, 1) := dk_42 (dk_at dksX11_next_8 13 rfl rfl)
theorem dX11_next_205 : decode cX11_next 205 = .ok (.aload_n 0, 1) := dk_42 (dk_at dksX11_next_8 14 rfl rfl)
theorem dX11_next_206 : decode cX11_next 206 = .ok (.getfield 29, 3) := dk_180 0 29 (dk_at dksX11_next_8 15 rfl rfl)
theorem dX11_next_209 : decode cX11_next 209 = .ok (.aload_n 0, 1) := dk_42 (dk_at dksX11_next_8 18 rfl rfl)
theorem dX11_next_210 : decode cX11_next 210 = .ok (.getfield 32, 3) := dk_180 0 32 (dk_at dksX11_next_8 19 rfl rfl)
theorem dX11_next_213 : decode cX11_next 213 = .ok (.isub, 1) := dk_100 (dk_at dksX11_next_8 22 rfl rfl)
theorem dX11_next_214 : decode cX11_next 214 = .ok (.iconst 3, 1) := dk_6 (dk_at dksX11_next_8 23 rfl rfl)
theorem dX11_next_215 : decode cX11_next 215 = .ok (.if_icmp .le 8, 3) := dk_164 0 8 (dk_at dksX11_next_9 0 rfl rfl)
theorem dX11_next_218 : decode cX11_next 218 = .ok (.bipush 6, 2) := dk_16 6 (dk_at dksX11_next_9 3 rfl rfl)
theorem dX11_next_220 : decode cX11_next 220 = .ok (.goto 4, 3) := dk_167 0 4 (dk_at dksX11_next_9 5 rfl rfl)
theorem dX11_next_223 : decode cX11_next 223 = .ok (.iconst 2, 1) := dk_5 (dk_at dksX11_next_9 8 rfl rfl)
theorem dX11_next_224 : decode cX11_next 224 = .ok (.putfield 35, 3) := dk_181 0 35 (dk_at dksX11_next_9 9 rfl rfl)
theorem dX11_next_227 : decode cX11_next 227 = .ok (.goto 29, 3) := dk_167 0 29 (dk_at dksX11_next_9 12 rfl rfl)
theorem dX11_next_230 : decode cX11_next 230 = .ok (.aload_n 0, 1) := dk_42 (dk_at dksX11_next_9 15 rfl rfl)
theorem dX11_next_231 : decode cX11_next 231 = .ok (.aload_n 0, 1) := dk_42 (dk_at dksX11_next_9 16 rfl rfl)
theorem dX11_next_232 : decode cX11_next 232 = .ok (.getfield 32, 3) := dk_180 0 32 (dk_at dksX11_next_9 17 rfl rfl)
theorem dX11_next_235 : decode cX11_next 235 = .ok (.iconst 1, 1) := dk_4 (dk_at dksX11_next_9 20 rfl rfl)
theorem dX11_next_236 : decode cX11_next 236 = .ok (.iadd, 1) := dk_96 (dk_at dksX11_next_9 21 rfl rfl)
theorem dX11_next_237 : decode cX11_next 237 = .ok (.putfield 29, 3) := dk_181 0 29 (dk_at dksX11_next_10 0 rfl rfl)
theorem dX11_next_240 : decode cX11_next 240 = .ok (.aload_n 0, 1) := dk_42 (dk_at dksX11_next_10 3 rfl rfl)
theorem dX11_next_241 : decode cX11_next 241 = .ok (.aload_n 0, 1) := dk_42 (dk_at dksX11_next_10 4 rfl rfl)
theorem dX11_next_242 : decode cX11_next 242 = .ok (.getfield 18, 3) := dk_180 0 18 (dk_at dksX11_next_10 5 rfl rfl)
theorem dX11_next_245 : decode cX11_next 245 = .ok (.aload_n 0, 1) := dk_42 (dk_at dksX11_next_10 8 rfl rfl)
theorem dX11_next_246 : decode cX11_next 246 = .ok (.getfield 32, 3) := dk_180 0 32 (dk_at dksX11_next_10 9 rfl rfl)
theorem dX11_next_249 : decode cX11_next 249 = .ok (.baload, 1) := dk_51 (dk_at dksX11_next_10 12 rfl rfl)
theorem dX11_next_250 : decode cX11_next 250 = .ok (.invokestatic 48, 3) := dk_184 0 48 (dk_at dksX11_next_10 13 rfl rfl)
theorem dX11_next_253 : decode cX11_next 253 = .ok (.putfield 35, 3) := dk_181 0 35 (dk_at dksX11_next_10 16 rfl rfl)
theorem dX11_next_256 : decode cX11_next 256 = .ok (.return_, 1) := dk_177 (dk_at dksX11_next_10 19 rfl rfl)
abbrev cX11_isSmall : ByteArray := prog_16_method_2_code
def yX11_isSmall : MethodName := ⟨RX11, "isSmall", "(I)Z"⟩
def dkwX11_isSmall_1 : List UInt8 := [51, 16, 122, 163, 0, 7, 4, 167, 0, 4, 3, 172]
abbrev dktX11_isSmall_1 : List UInt8 := dkwX11_isSmall_1 ++ []
def dkwX11_isSmall_0 : List UInt8 := [27, 42, 180, 0, 22, 162, 0, 29, 42, 180, 0, 18, 27, 51, 16, 97, 161, 0, 18, 42, 180, 0, 18, 27]
abbrev dktX11_isSmall_0 : List UInt8 := dkwX11_isSmall_0 ++ dktX11_isSmall_1
theorem dksX11_isSmall_0 : cX11_isSmall.data.toList.drop 0 = dktX11_isSmall_0 := by decide +kernel
theorem dksX11_isSmall_1 : cX11_isSmall.data.toList.drop 24 = dktX11_isSmall_1 := dk_seg dksX11_isSmall_0 24 rfl rfl
theorem dX11_isSmall_0 : decode cX11_isSmall 0 = .ok (.iload_n 1, 1) := dk_27 (dk_at dksX11_isSmall_0 0 rfl rfl)
theorem dX11_isSmall_1 : decode cX11_isSmall 1 = .ok (.aload_n 0, 1) := dk_42 (dk_at dksX11_isSmall_0 1 rfl rfl)
theorem dX11_isSmall_2 : decode cX11_isSmall 2 = .ok (.getfield 22, 3) := dk_180 0 22 (dk_at dksX11_isSmall_0 2 rfl rfl)
theorem dX11_isSmall_5 : decode cX11_isSmall 5 = .ok (.if_icmp .ge 29, 3) := dk_162 0 29 (dk_at dksX11_isSmall_0 5 rfl rfl)
theorem dX11_isSmall_8 : decode cX11_isSmall 8 = .ok (.aload_n 0, 1) := dk_42 (dk_at dksX11_isSmall_0 8 rfl rfl)
theorem dX11_isSmall_9 : decode cX11_isSmall 9 = .ok (.getfield 18, 3) := dk_180 0 18 (dk_at dksX11_isSmall_0 9 rfl rfl)
theorem dX11_isSmall_12 : decode cX11_isSmall 12 = .ok (.iload_n 1, 1) := dk_27 (dk_at dksX11_isSmall_0 12 rfl rfl)
theorem dX11_isSmall_13 : decode cX11_isSmall 13 = .ok (.baload, 1) := dk_51 (dk_at dksX11_isSmall_0 13 rfl rfl)
theorem dX11_isSmall_14 : decode cX11_isSmall 14 = .ok (.bipush 97, 2) := dk_16 97 (dk_at dksX11_isSmall_0 14 rfl rfl)
theorem dX11_isSmall_16 : decode cX11_isSmall 16 = .ok (.if_icmp .lt 18, 3) := dk_161 0 18 (dk_at dksX11_isSmall_0 16 rfl rfl)
theorem dX11_isSmall_19 : decode cX11_isSmall 19 = .ok (.aload_n 0, 1) := dk_42 (dk_at dksX11_isSmall_0 19 rfl rfl)
theorem dX11_isSmall_20 : decode cX11_isSmall 20 = .ok (.getfield 18, 3) := dk_180 0 18 (dk_at dksX11_isSmall_0 20 rfl rfl)
theorem dX11_isSmall_23 : decode cX11_isSmall 23 = .ok (.iload_n 1, 1) := dk_27 (dk_at dksX11_isSmall_0 23 rfl rfl)
theorem dX11_isSmall_24 : decode cX11_isSmall 24 = .ok (.baload, 1) := dk_51 (dk_at dksX11_isSmall_1 0 rfl rfl)
theorem dX11_isSmall_25 : decode cX11_isSmall 25 = .ok (.bipush 122, 2) := dk_16 122 (dk_at dksX11_isSmall_1 1 rfl rfl)
theorem dX11_isSmall_27 : decode cX11_isSmall 27 = .ok (.if_icmp .gt 7, 3) := dk_163 0 7 (dk_at dksX11_isSmall_1 3 rfl rfl)
theorem dX11_isSmall_30 : decode cX11_isSmall 30 = .ok (.iconst 1, 1) := dk_4 (dk_at dksX11_isSmall_1 6 rfl rfl)
theorem dX11_isSmall_31 : decode cX11_isSmall 31 = .ok (.goto 4, 3) := dk_167 0 4 (dk_at dksX11_isSmall_1 7 rfl rfl)
theorem dX11_isSmall_34 : decode cX11_isSmall 34 = .ok (.iconst 0, 1) := dk_3 (dk_at dksX11_isSmall_1 10 rfl rfl)
theorem dX11_isSmall_35 : decode cX11_isSmall 35 = .ok (.ireturn, 1) := dk_172 (dk_at dksX11_isSmall_1 11 rfl rfl)
abbrev cX11_isDigit : ByteArray := prog_16_method_3_code
def yX11_isDigit : MethodName := ⟨RX11, "isDigit", "(I)Z"⟩
def dkwX11_isDigit_1 : List UInt8 := [51, 16, 57, 163, 0, 7, 4, 167, 0, 4, 3, 172]
abbrev dktX11_isDigit_1 : List UInt8 := dkwX11_isDigit_1 ++ []
def dkwX11_isDigit_0 : List UInt8 := [27, 42, 180, 0, 22, 162, 0, 29, 42, 180, 0, 18, 27, 51, 16, 48, 161, 0, 18, 42, 180, 0, 18, 27]
abbrev dktX11_isDigit_0 : List UInt8 := dkwX11_isDigit_0 ++ dktX11_isDigit_1
theorem dksX11_isDigit_0 : cX11_isDigit.data.toList.drop 0 = dktX11_isDigit_0 := by decide +kernel
theorem dksX11_isDigit_1 : cX11_isDigit.data.toList.drop 24 = dktX11_isDigit_1 := dk_seg dksX11_isDigit_0 24 rfl rfl
theorem dX11_isDigit_0 : decode cX11_isDigit 0 = .ok (.iload_n 1, 1) := dk_27 (dk_at dksX11_isDigit_0 0 rfl rfl)
theorem dX11_isDigit_1 : decode cX11_isDigit 1 = .ok (.aload_n 0, 1) := dk_42 (dk_at dksX11_isDigit_0 1 rfl rfl)
theorem dX11_isDigit_2 : decode cX11_isDigit 2 = .ok (.getfield 22, 3) := dk_180 0 22 (dk_at dksX11_isDigit_0 2 rfl rfl)
theorem dX11_isDigit_5 : decode cX11_isDigit 5 = .ok (.if_icmp .ge 29, 3) := dk_162 0 29 (dk_at dksX11_isDigit_0 5 rfl rfl)
theorem dX11_isDigit_8 : decode cX11_isDigit 8 = .ok (.aload_n 0, 1) := dk_42 (dk_at dksX11_isDigit_0 8 rfl rfl)
theorem dX11_isDigit_9 : decode cX11_isDigit 9 = .ok (.getfield 18, 3) := dk_180 0 18 (dk_at dksX11_isDigit_0 9 rfl rfl)
theorem dX11_isDigit_12 : decode cX11_isDigit 12 = .ok (.iload_n 1, 1) := dk_27 (dk_at dksX11_isDigit_0 12 rfl rfl)
theorem dX11_isDigit_13 : decode cX11_isDigit 13 = .ok (.baload, 1) := dk_51 (dk_at dksX11_isDigit_0 13 rfl rfl)
theorem dX11_isDigit_14 : decode cX11_isDigit 14 = .ok (.bipush 48, 2) := dk_16 48 (dk_at dksX11_isDigit_0 14 rfl rfl)
theorem dX11_isDigit_16 : decode cX11_isDigit 16 = .ok (.if_icmp .lt 18, 3) := dk_161 0 18 (dk_at dksX11_isDigit_0 16 rfl rfl)
theorem dX11_isDigit_19 : decode cX11_isDigit 19 = .ok (.aload_n 0, 1) := dk_42 (dk_at dksX11_isDigit_0 19 rfl rfl)
theorem dX11_isDigit_20 : decode cX11_isDigit 20 = .ok (.getfield 18, 3) := dk_180 0 18 (dk_at dksX11_isDigit_0 20 rfl rfl)
theorem dX11_isDigit_23 : decode cX11_isDigit 23 = .ok (.iload_n 1, 1) := dk_27 (dk_at dksX11_isDigit_0 23 rfl rfl)
theorem dX11_isDigit_24 : decode cX11_isDigit 24 = .ok (.baload, 1) := dk_51 (dk_at dksX11_isDigit_1 0 rfl rfl)
theorem dX11_isDigit_25 : decode cX11_isDigit 25 = .ok (.bipush 57, 2) := dk_16 57 (dk_at dksX11_isDigit_1 1 rfl rfl)
theorem dX11_isDigit_27 : decode cX11_isDigit 27 = .ok (.if_icmp .gt 7, 3) := dk_163 0 7 (dk_at dksX11_isDigit_1 3 rfl rfl)
theorem dX11_isDigit_30 : decode cX11_isDigit 30 = .ok (.iconst 1, 1) := dk_4 (dk_at dksX11_isDigit_1 6 rfl rfl)
theorem dX11_isDigit_31 : decode cX11_isDigit 31 = .ok (.goto 4, 3) := dk_167 0 4 (dk_at dksX11_isDigit_1 7 rfl rfl)
theorem dX11_isDigit_34 : decode cX11_isDigit 34 = .ok (.iconst 0, 1) := dk_3 (dk_at dksX11_isDigit_1 10 rfl rfl)
theorem dX11_isDigit_35 : decode cX11_isDigit 35 = .ok (.ireturn, 1) := dk_172 (dk_at dksX11_isDigit_1 11 rfl rfl)
abbrev cX11_sign : ByteArray := prog_16_method_5_code
def yX11_sign : MethodName := ⟨RX11, "sign", "(I)I"⟩
def dkwX11_sign_1 : List UInt8 := [160, 0, 7, 8, 167, 0, 5, 16, 6, 172]
abbrev dktX11_sign_1 : List UInt8 := dkwX11_sign_1 ++ []
def dkwX11_sign_0 : List UInt8 := [26, 16, 59, 160, 0, 7, 6, 167, 0, 25, 26, 16, 40, 160, 0, 7, 7, 167, 0, 15, 26, 16, 41]
abbrev dktX11_sign_0 : List UInt8 := dkwX11_sign_0 ++ dktX11_sign_1
theorem dksX11_sign_0 : cX11_sign.data.toList.drop 0 = dktX11_sign_0 := by decide +kernel
theorem dksX11_sign_1 : cX11_sign.data.toList.drop 23 = dktX11_sign_1 := dk_seg dksX11_sign_0 23 rfl rfl
theorem dX11_sign_0 : decode cX11_sign 0 = .ok (.iload_n 0, 1) := dk_26 (dk_at dksX11_sign_0 0 rfl rfl)
theorem dX11_sign_1 : decode cX11_sign 1 = .ok (.bipush 59, 2) := dk_16 59 (dk_at dksX11_sign_0 1 rfl rfl)
theorem dX11_sign_3 : decode cX11_sign 3 = .ok (.if_icmp .ne 7, 3) := dk_160 0 7 (dk_at dksX11_sign_0 3 rfl rfl)
theorem dX11_sign_6 : decode cX11_sign 6 = .ok (.iconst 3, 1) := dk_6 (dk_at dksX11_sign_0 6 rfl rfl)
theorem dX11_sign_7 : decode cX11_sign 7 = .ok (.goto 25, 3) := dk_167 0 25 (dk_at dksX11_sign_0 7 rfl rfl)
theorem dX11_sign_10 : decode cX11_sign 10 = .ok (.iload_n 0, 1) := dk_26 (dk_at dksX11_sign_0 10 rfl rfl)
theorem dX11_sign_11 : decode cX11_sign 11 = .ok (.bipush 40, 2) := dk_16 40 (dk_at dksX11_sign_0 11 rfl rfl)
theorem dX11_sign_13 : decode cX11_sign 13 = .ok (.if_icmp .ne 7, 3) := dk_160 0 7 (dk_at dksX11_sign_0 13 rfl rfl)
theorem dX11_sign_16 : decode cX11_sign 16 = .ok (.iconst 4, 1) := dk_7 (dk_at dksX11_sign_0 16 rfl rfl)
theorem dX11_sign_17 : decode cX11_sign 17 = .ok (.goto 15, 3) := dk_167 0 15 (dk_at dksX11_sign_0 17 rfl rfl)
theorem dX11_sign_20 : decode cX11_sign 20 = .ok (.iload_n 0, 1) := dk_26 (dk_at dksX11_sign_0 20 rfl rfl)
theorem dX11_sign_21 : decode cX11_sign 21 = .ok (.bipush 41, 2) := dk_16 41 (dk_at dksX11_sign_0 21 rfl rfl)
theorem dX11_sign_23 : decode cX11_sign 23 = .ok (.if_icmp .ne 7, 3) := dk_160 0 7 (dk_at dksX11_sign_1 0 rfl rfl)
theorem dX11_sign_26 : decode cX11_sign 26 = .ok (.iconst 5, 1) := dk_8 (dk_at dksX11_sign_1 3 rfl rfl)
theorem dX11_sign_27 : decode cX11_sign 27 = .ok (.goto 5, 3) := dk_167 0 5 (dk_at dksX11_sign_1 4 rfl rfl)
theorem dX11_sign_30 : decode cX11_sign 30 = .ok (.bipush 6, 2) := dk_16 6 (dk_at dksX11_sign_1 7 rfl rfl)
theorem dX11_sign_32 : decode cX11_sign 32 = .ok (.ireturn, 1) := dk_172 (dk_at dksX11_sign_1 9 rfl rfl)
abbrev cX11_all : ByteArray := prog_16_method_23_code
def yX11_all : MethodName := ⟨RX11, "all", "()LTwoSlips$Talk;"⟩
def dkwX11_all_0 : List UInt8 := [42, 180, 0, 35, 153, 0, 15, 42, 182, 0, 236, 42, 6, 182, 0, 193, 167, 255, 240, 42, 180, 0, 12, 176]
abbrev dktX11_all_0 : List UInt8 := dkwX11_all_0 ++ []
theorem dksX11_all_0 : cX11_all.data.toList.drop 0 = dktX11_all_0 := by decide +kernel
theorem dX11_all_0 : decode cX11_all 0 = .ok (.aload_n 0, 1) := dk_42 (dk_at dksX11_all_0 0 rfl rfl)
theorem dX11_all_1 : decode cX11_all 1 = .ok (.getfield 35, 3) := dk_180 0 35 (dk_at dksX11_all_0 1 rfl rfl)
theorem dX11_all_4 : decode cX11_all 4 = .ok (.ifCond .eq 15, 3) := dk_153 0 15 (dk_at dksX11_all_0 4 rfl rfl)
theorem dX11_all_7 : decode cX11_all 7 = .ok (.aload_n 0, 1) := dk_42 (dk_at dksX11_all_0 7 rfl rfl)
theorem dX11_all_8 : decode cX11_all 8 = .ok (.invokevirtual 236, 3) := dk_182 0 236 (dk_at dksX11_all_0 8 rfl rfl)
theorem dX11_all_11 : decode cX11_all 11 = .ok (.aload_n 0, 1) := dk_42 (dk_at dksX11_all_0 11 rfl rfl)
theorem dX11_all_12 : decode cX11_all 12 = .ok (.iconst 3, 1) := dk_6 (dk_at dksX11_all_0 12 rfl rfl)
theorem dX11_all_13 : decode cX11_all 13 = .ok (.invokevirtual 193, 3) := dk_182 0 193 (dk_at dksX11_all_0 13 rfl rfl)
theorem dX11_all_16 : decode cX11_all 16 = .ok (.goto (-16), 3) := dk_167 255 240 (dk_at dksX11_all_0 16 rfl rfl)
theorem dX11_all_19 : decode cX11_all 19 = .ok (.aload_n 0, 1) := dk_42 (dk_at dksX11_all_0 19 rfl rfl)
theorem dX11_all_20 : decode cX11_all 20 = .ok (.getfield 12, 3) := dk_180 0 12 (dk_at dksX11_all_0 20 rfl rfl)
theorem dX11_all_23 : decode cX11_all 23 = .ok (.areturn, 1) := dk_176 (dk_at dksX11_all_0 23 rfl rfl)
abbrev cX11_line : ByteArray := prog_16_method_17_code
def yX11_line : MethodName := ⟨RX11, "line", "()V"⟩
def dkwX11_line_4 : List UInt8 := [167, 0, 8, 42, 182, 0, 75, 191, 42, 180, 0, 12, 89, 180, 0, 169, 4, 96, 181, 0, 169, 177]
abbrev dktX11_line_4 : List UInt8 := dkwX11_line_4 ++ []
def dkwX11_line_3 : List UInt8 := [181, 0, 162, 167, 0, 28, 42, 18, 164, 182, 0, 101, 153, 0, 14, 42, 180, 0, 12, 4, 181, 0, 166]
abbrev dktX11_line_3 : List UInt8 := dkwX11_line_3 ++ dktX11_line_4
def dkwX11_line_2 : List UInt8 := [167, 0, 54, 42, 18, 160, 182, 0, 101, 153, 0, 20, 42, 180, 0, 12, 42, 5, 16, 120, 182, 0, 91]
abbrev dktX11_line_2 : List UInt8 := dkwX11_line_2 ++ dktX11_line_3
def dkwX11_line_1 : List UInt8 := [153, 0, 10, 42, 182, 0, 153, 167, 0, 70, 42, 18, 156, 182, 0, 66, 153, 0, 10, 42, 182, 0, 158]
abbrev dktX11_line_1 : List UInt8 := dkwX11_line_1 ++ dktX11_line_2
def dkwX11_line_0 : List UInt8 := [42, 18, 148, 182, 0, 66, 153, 0, 10, 42, 182, 0, 150, 167, 0, 86, 42, 18, 152, 182, 0, 66]
abbrev dktX11_line_0 : List UInt8 := dkwX11_line_0 ++ dktX11_line_1
theorem dksX11_line_0 : cX11_line.data.toList.drop 0 = dktX11_line_0 := by decide +kernel
theorem dksX11_line_1 : cX11_line.data.toList.drop 22 = dktX11_line_1 := dk_seg dksX11_line_0 22 rfl rfl
theorem dksX11_line_2 : cX11_line.data.toList.drop 45 = dktX11_line_2 := dk_seg dksX11_line_1 23 rfl rfl
theorem dksX11_line_3 : cX11_line.data.toList.drop 68 = dktX11_line_3 := dk_seg dksX11_line_2 23 rfl rfl
theorem dksX11_line_4 : cX11_line.data.toList.drop 91 = dktX11_line_4 := dk_seg dksX11_line_3 23 rfl rfl
theorem dX11_line_0 : decode cX11_line 0 = .ok (.aload_n 0, 1) := dk_42 (dk_at dksX11_line_0 0 rfl rfl)
theorem dX11_line_1 : decode cX11_line 1 = .ok (.ldc 148, 2) := dk_18 148 (dk_at dksX11_line_0 1 rfl rfl)
theorem dX11_line_3 : decode cX11_line 3 = .ok (.invokevirtual 66, 3) := dk_182 0 66 (dk_at dksX11_line_0 3 rfl rfl)
theorem dX11_line_6 : decode cX11_line 6 = .ok (.ifCond .eq 10, 3) := dk_153 0 10 (dk_at dksX11_line_0 6 rfl rfl)
theorem dX11_line_9 : decode cX11_line 9 = .ok (.aload_n 0, 1) := dk_42 (dk_at dksX11_line_0 9 rfl rfl)
theorem dX11_line_10 : decode cX11_line 10 = .ok (.invokevirtual 150, 3) := dk_182 0 150 (dk_at dksX11_line_0 10 rfl rfl)
theorem dX11_line_13 : decode cX11_line 13 = .ok (.goto 86, 3) := dk_167 0 86 (dk_at dksX11_line_0 13 rfl rfl)
theorem dX11_line_16 : decode cX11_line 16 = .ok (.aload_n 0, 1) := dk_42 (dk_at dksX11_line_0 16 rfl rfl)
theorem dX11_line_17 : decode cX11_line 17 = .ok (.ldc 152, 2) := dk_18 152 (dk_at dksX11_line_0 17 rfl rfl)
theorem dX11_line_19 : decode cX11_line 19 = .ok (.invokevirtual 66, 3) := dk_182 0 66 (dk_at dksX11_line_0 19 rfl rfl)
theorem dX11_line_22 : decode cX11_line 22 = .ok (.ifCond .eq 10, 3) := dk_153 0 10 (dk_at dksX11_line_1 0 rfl rfl)
theorem dX11_line_25 : decode cX11_line 25 = .ok (.aload_n 0, 1) := dk_42 (dk_at dksX11_line_1 3 rfl rfl)
theorem dX11_line_26 : decode cX11_line 26 = .ok (.invokevirtual 153, 3) := dk_182 0 153 (dk_at dksX11_line_1 4 rfl rfl)
theorem dX11_line_29 : decode cX11_line 29 = .ok (.goto 70, 3) := dk_167 0 70 (dk_at dksX11_line_1 7 rfl rfl)
theorem dX11_line_32 : decode cX11_line 32 = .ok (.aload_n 0, 1) := dk_42 (dk_at dksX11_line_1 10 rfl rfl)
theorem dX11_line_33 : decode cX11_line 33 = .ok (.ldc 156, 2) := dk_18 156 (dk_at dksX11_line_1 11 rfl rfl)
theorem dX11_line_35 : decode cX11_line 35 = .ok (.invokevirtual 66, 3) := dk_182 0 66 (dk_at dksX11_line_1 13 rfl rfl)
theorem dX11_line_38 : decode cX11_line 38 = .ok (.ifCond .eq 10, 3) := dk_153 0 10 (dk_at dksX11_line_1 16 rfl rfl)
theorem dX11_line_41 : decode cX11_line 41 = .ok (.aload_n 0, 1) := dk_42 (dk_at dksX11_line_1 19 rfl rfl)
theorem dX11_line_42 : decode cX11_line 42 = .ok (.invokevirtual 158, 3) := dk_182 0 158 (dk_at dksX11_line_1 20 rfl rfl)
theorem dX11_line_45 : decode cX11_line 45 = .ok (.goto 54, 3) := dk_167 0 54 (dk_at dksX11_line_2 0 rfl rfl)
theorem dX11_line_48 : decode cX11_line 48 = .ok (.aload_n 0, 1) := dk_42 (dk_at dksX11_line_2 3 rfl rfl)
theorem dX11_line_49 : decode cX11_line 49 = .ok (.ldc 160, 2) := dk_18 160 (dk_at dksX11_line_2 4 rfl rfl)
theorem dX11_line_51 : decode cX11_line 51 = .ok (.invokevirtual 101, 3) := dk_182 0 101 (dk_at dksX11_line_2 6 rfl rfl)
theorem dX11_line_54 : decode cX11_line 54 = .ok (.ifCond .eq 20, 3) := dk_153 0 20 (dk_at dksX11_line_2 9 rfl rfl)
theorem dX11_line_57 : decode cX11_line 57 = .ok (.aload_n 0, 1) := dk_42 (dk_at dksX11_line_2 12 rfl rfl)
theorem dX11_line_58 : decode cX11_line 58 = .ok (.getfield 12, 3) := dk_180 0 12 (dk_at dksX11_line_2 13 rfl rfl)
theorem dX11_line_61 : decode cX11_line 61 = .ok (.aload_n 0, 1) := dk_42 (dk_at dksX11_line_2 16 rfl rfl)
theorem dX11_line_62 : decode cX11_line 62 = .ok (.iconst 2, 1) := dk_5 (dk_at dksX11_line_2 17 rfl rfl)
theorem dX11_line_63 : decode cX11_line 63 = .ok (.bipush 120, 2) := dk_16 120 (dk_at dksX11_line_2 18 rfl rfl)
theorem dX11_line_65 : decode cX11_line 65 = .ok (.invokevirtual 91, 3) := dk_182 0 91 (dk_at dksX11_line_2 20 rfl rfl)
theorem dX11_line_68 : decode cX11_line 68 = .ok (.putfield 162, 3) := dk_181 0 162 (dk_at dksX11_line_3 0 rfl rfl)
theorem dX11_line_71 : decode cX11_line 71 = .ok (.goto 28, 3) := dk_167 0 28 (dk_at dksX11_line_3 3 rfl rfl)
theorem dX11_line_74 : decode cX11_line 74 = .ok (.aload_n 0, 1) := dk_42 (dk_at dksX11_line_3 6 rfl rfl)
theorem dX11_line_75 : decode cX11_line 75 = .ok (.ldc 164, 2) := dk_18 164 (dk_at dksX11_line_3 7 rfl rfl)
theorem dX11_line_77 : decode cX11_line 77 = .ok (.invokevirtual 101, 3) := dk_182 0 101 (dk_at dksX11_line_3 9 rfl rfl)
theorem dX11_line_80 : decode cX11_line 80 = .ok (.ifCond .eq 14, 3) := dk_153 0 14 (dk_at dksX11_line_3 12 rfl rfl)
theorem dX11_line_83 : decode cX11_line 83 = .ok (.aload_n 0, 1) := dk_42 (dk_at dksX11_line_3 15 rfl rfl)
theorem dX11_line_84 : decode cX11_line 84 = .ok (.getfield 12, 3) := dk_180 0 12 (dk_at dksX11_line_3 16 rfl rfl)
theorem dX11_line_87 : decode cX11_line 87 = .ok (.iconst 1, 1) := dk_4 (dk_at dksX11_line_3 19 rfl rfl)
theorem dX11_line_88 : decode cX11_line 88 = .ok (.putfield 166, 3) := dk_181 0 166 (dk_at dksX11_line_3 20 rfl rfl)
theorem dX11_line_91 : decode cX11_line 91 = .ok (.goto 8, 3) := dk_167 0 8 (dk_at dksX11_line_4 0 rfl rfl)
theorem dX11_line_94 : decode cX11_line 94 = .ok (.aload_n 0, 1) := dk_42 (dk_at dksX11_line_4 3 rfl rfl)
theorem dX11_line_95 : decode cX11_line 95 = .ok (.invokevirtual 75, 3) := dk_182 0 75 (dk_at dksX11_line_4 4 rfl rfl)
theorem dX11_line_98 : decode cX11_line 98 = .ok (.athrow, 1) := dk_191 (dk_at dksX11_line_4 7 rfl rfl)
theorem dX11_line_99 : decode cX11_line 99 = .ok (.aload_n 0, 1) := dk_42 (dk_at dksX11_line_4 8 rfl rfl)
theorem dX11_line_100 : decode cX11_line 100 = .ok (.getfield 12, 3) := dk_180 0 12 (dk_at dksX11_line_4 9 rfl rfl)
theorem dX11_line_103 : decode cX11_line 103 = .ok (.dup, 1) := dk_89 (dk_at dksX11_line_4 12 rfl rfl)
theorem dX11_line_104 : decode cX11_line 104 = .ok (.getfield 169, 3) := dk_180 0 169 (dk_at dksX11_line_4 13 rfl rfl)
theorem dX11_line_107 : decode cX11_line 107 = .ok (.iconst 1, 1) := dk_4 (dk_at dksX11_line_4 16 rfl rfl)
theorem dX11_line_108 : decode cX11_line 108 = .ok (.iadd, 1) := dk_96 (dk_at dksX11_line_4 17 rfl rfl)
theorem dX11_line_109 : decode cX11_line 109 = .ok (.putfield 169, 3) := dk_181 0 169 (dk_at dksX11_line_4 18 rfl rfl)
theorem dX11_line_112 : decode cX11_line 112 = .ok (.return_, 1) := dk_177 (dk_at dksX11_line_4 21 rfl rfl)
abbrev cX11_is : ByteArray := prog_16_method_7_code
def yX11_is : MethodName := ⟨RX11, "is", "(Ljava/lang/String;)Z"⟩
def dkwX11_is_1 : List UInt8 := [153, 0, 7, 4, 167, 0, 4, 3, 172]
abbrev dktX11_is_1 : List UInt8 := dkwX11_is_1 ++ []
def dkwX11_is_0 : List UInt8 := [42, 180, 0, 29, 42, 180, 0, 32, 100, 43, 182, 0, 52, 160, 0, 16, 42, 43, 3, 182, 0, 62]
abbrev dktX11_is_0 : List UInt8 := dkwX11_is_0 ++ dktX11_is_1
theorem dksX11_is_0 : cX11_is.data.toList.drop 0 = dktX11_is_0 := by decide +kernel
theorem dksX11_is_1 : cX11_is.data.toList.drop 22 = dktX11_is_1 := dk_seg dksX11_is_0 22 rfl rfl
theorem dX11_is_0 : decode cX11_is 0 = .ok (.aload_n 0, 1) := dk_42 (dk_at dksX11_is_0 0 rfl rfl)
theorem dX11_is_1 : decode cX11_is 1 = .ok (.getfield 29, 3) := dk_180 0 29 (dk_at dksX11_is_0 1 rfl rfl)
theorem dX11_is_4 : decode cX11_is 4 = .ok (.aload_n 0, 1) := dk_42 (dk_at dksX11_is_0 4 rfl rfl)
theorem dX11_is_5 : decode cX11_is 5 = .ok (.getfield 32, 3) := dk_180 0 32 (dk_at dksX11_is_0 5 rfl rfl)
theorem dX11_is_8 : decode cX11_is 8 = .ok (.isub, 1) := dk_100 (dk_at dksX11_is_0 8 rfl rfl)
theorem dX11_is_9 : decode cX11_is 9 = .ok (.aload_n 1, 1) := dk_43 (dk_at dksX11_is_0 9 rfl rfl)
theorem dX11_is_10 : decode cX11_is 10 = .ok (.invokevirtual 52, 3) := dk_182 0 52 (dk_at dksX11_is_0 10 rfl rfl)
theorem dX11_is_13 : decode cX11_is 13 = .ok (.if_icmp .ne 16, 3) := dk_160 0 16 (dk_at dksX11_is_0 13 rfl rfl)
theorem dX11_is_16 : decode cX11_is 16 = .ok (.aload_n 0, 1) := dk_42 (dk_at dksX11_is_0 16 rfl rfl)
theorem dX11_is_17 : decode cX11_is 17 = .ok (.aload_n 1, 1) := dk_43 (dk_at dksX11_is_0 17 rfl rfl)
theorem dX11_is_18 : decode cX11_is 18 = .ok (.iconst 0, 1) := dk_3 (dk_at dksX11_is_0 18 rfl rfl)
theorem dX11_is_19 : decode cX11_is 19 = .ok (.invokevirtual 62, 3) := dk_182 0 62 (dk_at dksX11_is_0 19 rfl rfl)
theorem dX11_is_22 : decode cX11_is 22 = .ok (.ifCond .eq 7, 3) := dk_153 0 7 (dk_at dksX11_is_1 0 rfl rfl)
theorem dX11_is_25 : decode cX11_is 25 = .ok (.iconst 1, 1) := dk_4 (dk_at dksX11_is_1 3 rfl rfl)
theorem dX11_is_26 : decode cX11_is 26 = .ok (.goto 4, 3) := dk_167 0 4 (dk_at dksX11_is_1 4 rfl rfl)
theorem dX11_is_29 : decode cX11_is 29 = .ok (.iconst 0, 1) := dk_3 (dk_at dksX11_is_1 7 rfl rfl)
theorem dX11_is_30 : decode cX11_is 30 = .ok (.ireturn, 1) := dk_172 (dk_at dksX11_is_1 8 rfl rfl)
abbrev cX11_isAt : ByteArray := prog_16_method_6_code
def yX11_isAt : MethodName := ⟨RX11, "isAt", "(Ljava/lang/String;I)Z"⟩
def dkwX11_isAt_3 : List UInt8 := [167, 255, 217, 4, 172]
abbrev dktX11_isAt_3 : List UInt8 := dkwX11_isAt_3 ++ []
def dkwX11_isAt_2 : List UInt8 := [42, 180, 0, 32, 29, 96, 51, 43, 28, 29, 96, 182, 0, 58, 159, 0, 5, 3, 172, 132, 3, 1]
abbrev dktX11_isAt_2 : List UInt8 := dkwX11_isAt_2 ++ dktX11_isAt_3
def dkwX11_isAt_1 : List UInt8 := [162, 0, 5, 3, 172, 3, 62, 29, 42, 180, 0, 29, 42, 180, 0, 32, 100, 162, 0, 32, 42, 180, 0, 18]
abbrev dktX11_isAt_1 : List UInt8 := dkwX11_isAt_1 ++ dktX11_isAt_2
def dkwX11_isAt_0 : List UInt8 := [42, 180, 0, 35, 4, 160, 0, 21, 43, 182, 0, 52, 28, 42, 180, 0, 29, 96, 42, 180, 0, 32, 100]
abbrev dktX11_isAt_0 : List UInt8 := dkwX11_isAt_0 ++ dktX11_isAt_1
theorem dksX11_isAt_0 : cX11_isAt.data.toList.drop 0 = dktX11_isAt_0 := by decide +kernel
theorem dksX11_isAt_1 : cX11_isAt.data.toList.drop 23 = dktX11_isAt_1 := dk_seg dksX11_isAt_0 23 rfl rfl
theorem dksX11_isAt_2 : cX11_isAt.data.toList.drop 47 = dktX11_isAt_2 := dk_seg dksX11_isAt_1 24 rfl rfl
theorem dksX11_isAt_3 : cX11_isAt.data.toList.drop 69 = dktX11_isAt_3 := dk_seg dksX11_isAt_2 22 rfl rfl
theorem dX11_isAt_0 : decode cX11_isAt 0 = .ok (.aload_n 0, 1) := dk_42 (dk_at dksX11_isAt_0 0 rfl rfl)
theorem dX11_isAt_1 : decode cX11_isAt 1 = .ok (.getfield 35, 3) := dk_180 0 35 (dk_at dksX11_isAt_0 1 rfl rfl)
theorem dX11_isAt_4 : decode cX11_isAt 4 = .ok (.iconst 1, 1) := dk_4 (dk_at dksX11_isAt_0 4 rfl rfl)
theorem dX11_isAt_5 : decode cX11_isAt 5 = .ok (.if_icmp .ne 21, 3) := dk_160 0 21 (dk_at dksX11_isAt_0 5 rfl rfl)
theorem dX11_isAt_8 : decode cX11_isAt 8 = .ok (.aload_n 1, 1) := dk_43 (dk_at dksX11_isAt_0 8 rfl rfl)
theorem dX11_isAt_9 : decode cX11_isAt 9 = .ok (.invokevirtual 52, 3) := dk_182 0 52 (dk_at dksX11_isAt_0 9 rfl rfl)
theorem dX11_isAt_12 : decode cX11_isAt 12 = .ok (.iload_n 2, 1) := dk_28 (dk_at dksX11_isAt_0 12 rfl rfl)
theorem dX11_isAt_13 : decode cX11_isAt 13 = .ok (.aload_n 0, 1) := dk_42 (dk_at dksX11_isAt_0 13 rfl rfl)
theorem dX11_isAt_14 : decode cX11_isAt 14 = .ok (.getfield 29, 3) := dk_180 0 29 (dk_at dksX11_isAt_0 14 rfl rfl)
theorem dX11_isAt_17 : decode cX11_isAt 17 = .ok (.iadd, 1) := dk_96 (dk_at dksX11_isAt_0 17 rfl rfl)
theorem dX11_isAt_18 : decode cX11_isAt 18 = .ok (.aload_n 0, 1) := dk_42 (dk_at dksX11_isAt_0 18 rfl rfl)
theorem dX11_isAt_19 : decode cX11_isAt 19 = .ok (.getfield 32, 3) := dk_180 0 32 (dk_at dksX11_isAt_0 19 rfl rfl)
theorem dX11_isAt_22 : decode cX11_isAt 22 = .ok (.isub, 1) := dk_100 (dk_at dksX11_isAt_0 22 rfl rfl)
theorem dX11_isAt_23 : decode cX11_isAt 23 = .ok (.if_icmp .ge 5, 3) := dk_162 0 5 (dk_at dksX11_isAt_1 0 rfl rfl)
theorem dX11_isAt_26 : decode cX11_isAt 26 = .ok (.iconst 0, 1) := dk_3 (dk_at dksX11_isAt_1 3 rfl rfl)
theorem dX11_isAt_27 : decode cX11_isAt 27 = .ok (.ireturn, 1) := dk_172 (dk_at dksX11_isAt_1 4 rfl rfl)
theorem dX11_isAt_28 : decode cX11_isAt 28 = .ok (.iconst 0, 1) := dk_3 (dk_at dksX11_isAt_1 5 rfl rfl)
theorem dX11_isAt_29 : decode cX11_isAt 29 = .ok (.istore_n 3, 1) := dk_62 (dk_at dksX11_isAt_1 6 rfl rfl)
theorem dX11_isAt_30 : decode cX11_isAt 30 = .ok (.iload_n 3, 1) := dk_29 (dk_at dksX11_isAt_1 7 rfl rfl)
theorem dX11_isAt_31 : decode cX11_isAt 31 = .ok (.aload_n 0, 1) := dk_42 (dk_at dksX11_isAt_1 8 rfl rfl)
theorem dX11_isAt_32 : decode cX11_isAt 32 = .ok (.getfield 29, 3) := dk_180 0 29 (dk_at dksX11_isAt_1 9 rfl rfl)
theorem dX11_isAt_35 : decode cX11_isAt 35 = .ok (.aload_n 0, 1) := dk_42 (dk_at dksX11_isAt_1 12 rfl rfl)
theorem dX11_isAt_36 : decode cX11_isAt 36 = .ok (.getfield 32, 3) := dk_180 0 32 (dk_at dksX11_isAt_1 13 rfl rfl)
theorem dX11_isAt_39 : decode cX11_isAt 39 = .ok (.isub, 1) := dk_100 (dk_at dksX11_isAt_1 16 rfl rfl)
theorem dX11_isAt_40 : decode cX11_isAt 40 = .ok (.if_icmp .ge 32, 3) := dk_162 0 32 (dk_at dksX11_isAt_1 17 rfl rfl)
theorem dX11_isAt_43 : decode cX11_isAt 43 = .ok (.aload_n 0, 1) := dk_42 (dk_at dksX11_isAt_1 20 rfl rfl)
theorem dX11_isAt_44 : decode cX11_isAt 44 = .ok (.getfield 18, 3) := dk_180 0 18 (dk_at dksX11_isAt_1 21 rfl rfl)
theorem dX11_isAt_47 : decode cX11_isAt 47 = .ok (.aload_n 0, 1) := dk_42 (dk_at dksX11_isAt_2 0 rfl rfl)
theorem dX11_isAt_48 : decode cX11_isAt 48 = .ok (.getfield 32, 3) := dk_180 0 32 (dk_at dksX11_isAt_2 1 rfl rfl)
theorem dX11_isAt_51 : decode cX11_isAt 51 = .ok (.iload_n 3, 1) := dk_29 (dk_at dksX11_isAt_2 4 rfl rfl)
theorem dX11_isAt_52 : decode cX11_isAt 52 = .ok (.iadd, 1) := dk_96 (dk_at dksX11_isAt_2 5 rfl rfl)
theorem dX11_isAt_53 : decode cX11_isAt 53 = .ok (.baload, 1) := dk_51 (dk_at dksX11_isAt_2 6 rfl rfl)
theorem dX11_isAt_54 : decode cX11_isAt 54 = .ok (.aload_n 1, 1) := dk_43 (dk_at dksX11_isAt_2 7 rfl rfl)
theorem dX11_isAt_55 : decode cX11_isAt 55 = .ok (.iload_n 2, 1) := dk_28 (dk_at dksX11_isAt_2 8 rfl rfl)
theorem dX11_isAt_56 : decode cX11_isAt 56 = .ok (.iload_n 3, 1) := dk_29 (dk_at dksX11_isAt_2 9 rfl rfl)
theorem dX11_isAt_57 : decode cX11_isAt 57 = .ok (.iadd, 1) := dk_96 (dk_at dksX11_isAt_2 10 rfl rfl)
theorem dX11_isAt_58 : decode cX11_isAt 58 = .ok (.invokevirtual 58, 3) := dk_182 0 58 (dk_at dksX11_isAt_2 11 rfl rfl)
theorem dX11_isAt_61 : decode cX11_isAt 61 = .ok (.if_icmp .eq 5, 3) := dk_159 0 5 (dk_at dksX11_isAt_2 14 rfl rfl)
theorem dX11_isAt_64 : decode cX11_isAt 64 = .ok (.iconst 0, 1) := dk_3 (dk_at dksX11_isAt_2 17 rfl rfl)
theorem dX11_isAt_65 : decode cX11_isAt 65 = .ok (.ireturn, 1) := dk_172 (dk_at dksX11_isAt_2 18 rfl rfl)
theorem dX11_isAt_66 : decode cX11_isAt 66 = .ok (.iinc 3 1, 3) := dk_132 3 1 (dk_at dksX11_isAt_2 19 rfl rfl)
theorem dX11_isAt_69 : decode cX11_isAt 69 = .ok (.goto (-39), 3) := dk_167 255 217 (dk_at dksX11_isAt_3 0 rfl rfl)
theorem dX11_isAt_72 : decode cX11_isAt 72 = .ok (.iconst 1, 1) := dk_4 (dk_at dksX11_isAt_3 3 rfl rfl)
theorem dX11_isAt_73 : decode cX11_isAt 73 = .ok (.ireturn, 1) := dk_172 (dk_at dksX11_isAt_3 4 rfl rfl)
abbrev cX11_numbers : ByteArray := prog_16_method_14_code
def yX11_numbers : MethodName := ⟨RX11, "numbers", "()V"⟩
def dkwX11_numbers_2 : List UInt8 := [181, 0, 107, 177]
abbrev dktX11_numbers_2 : List UInt8 := dkwX11_numbers_2 ++ []
def dkwX11_numbers_1 : List UInt8 := [182, 0, 75, 191, 42, 180, 0, 12, 42, 27, 16, 60, 182, 0, 91, 181, 0, 104, 42, 180, 0, 12, 27]
abbrev dktX11_numbers_1 : List UInt8 := dkwX11_numbers_1 ++ dktX11_numbers_2
def dkwX11_numbers_0 : List UInt8 := [42, 182, 0, 26, 42, 4, 16, 60, 182, 0, 91, 60, 42, 18, 99, 182, 0, 101, 154, 0, 8, 42]
abbrev dktX11_numbers_0 : List UInt8 := dkwX11_numbers_0 ++ dktX11_numbers_1
theorem dksX11_numbers_0 : cX11_numbers.data.toList.drop 0 = dktX11_numbers_0 := by decide +kernel
theorem dksX11_numbers_1 : cX11_numbers.data.toList.drop 22 = dktX11_numbers_1 := dk_seg dksX11_numbers_0 22 rfl rfl
theorem dksX11_numbers_2 : cX11_numbers.data.toList.drop 45 = dktX11_numbers_2 := dk_seg dksX11_numbers_1 23 rfl rfl
theorem dX11_numbers_0 : decode cX11_numbers 0 = .ok (.aload_n 0, 1) := dk_42 (dk_at dksX11_numbers_0 0 rfl rfl)
theorem dX11_numbers_1 : decode cX11_numbers 1 = .ok (.invokevirtual 26, 3) := dk_182 0 26 (dk_at dksX11_numbers_0 1 rfl rfl)
theorem dX11_numbers_4 : decode cX11_numbers 4 = .ok (.aload_n 0, 1) := dk_42 (dk_at dksX11_numbers_0 4 rfl rfl)
theorem dX11_numbers_5 : decode cX11_numbers 5 = .ok (.iconst 1, 1) := dk_4 (dk_at dksX11_numbers_0 5 rfl rfl)
theorem dX11_numbers_6 : decode cX11_numbers 6 = .ok (.bipush 60, 2) := dk_16 60 (dk_at dksX11_numbers_0 6 rfl rfl)
theorem dX11_numbers_8 : decode cX11_numbers 8 = .ok (.invokevirtual 91, 3) := dk_182 0 91 (dk_at dksX11_numbers_0 8 rfl rfl)
theorem dX11_numbers_11 : decode cX11_numbers 11 = .ok (.istore_n 1, 1) := dk_60 (dk_at dksX11_numbers_0 11 rfl rfl)
theorem dX11_numbers_12 : decode cX11_numbers 12 = .ok (.aload_n 0, 1) := dk_42 (dk_at dksX11_numbers_0 12 rfl rfl)
theorem dX11_numbers_13 : decode cX11_numbers 13 = .ok (.ldc 99, 2) := dk_18 99 (dk_at dksX11_numbers_0 13 rfl rfl)
theorem dX11_numbers_15 : decode cX11_numbers 15 = .ok (.invokevirtual 101, 3) := dk_182 0 101 (dk_at dksX11_numbers_0 15 rfl rfl)
theorem dX11_numbers_18 : decode cX11_numbers 18 = .ok (.ifCond .ne 8, 3) := dk_154 0 8 (dk_at dksX11_numbers_0 18 rfl rfl)
theorem dX11_numbers_21 : decode cX11_numbers 21 = .ok (.aload_n 0, 1) := dk_42 (dk_at dksX11_numbers_0 21 rfl rfl)
theorem dX11_numbers_22 : decode cX11_numbers 22 = .ok (.invokevirtual 75, 3) := dk_182 0 75 (dk_at dksX11_numbers_1 0 rfl rfl)
theorem dX11_numbers_25 : decode cX11_numbers 25 = .ok (.athrow, 1) := dk_191 (dk_at dksX11_numbers_1 3 rfl rfl)
theorem dX11_numbers_26 : decode cX11_numbers 26 = .ok (.aload_n 0, 1) := dk_42 (dk_at dksX11_numbers_1 4 rfl rfl)
theorem dX11_numbers_27 : decode cX11_numbers 27 = .ok (.getfield 12, 3) := dk_180 0 12 (dk_at dksX11_numbers_1 5 rfl rfl)
theorem dX11_numbers_30 : decode cX11_numbers 30 = .ok (.aload_n 0, 1) := dk_42 (dk_at dksX11_numbers_1 8 rfl rfl)
theorem dX11_numbers_31 : decode cX11_numbers 31 = .ok (.iload_n 1, 1) := dk_27 (dk_at dksX11_numbers_1 9 rfl rfl)
theorem dX11_numbers_32 : decode cX11_numbers 32 = .ok (.bipush 60, 2) := dk_16 60 (dk_at dksX11_numbers_1 10 rfl rfl)
theorem dX11_numbers_34 : decode cX11_numbers 34 = .ok (.invokevirtual 91, 3) := dk_182 0 91 (dk_at dksX11_numbers_1 12 rfl rfl)
theorem dX11_numbers_37 : decode cX11_numbers 37 = .ok (.putfield 104, 3) := dk_181 0 104 (dk_at dksX11_numbers_1 15 rfl rfl)
theorem dX11_numbers_40 : decode cX11_numbers 40 = .ok (.aload_n 0, 1) := dk_42 (dk_at dksX11_numbers_1 18 rfl rfl)
theorem dX11_numbers_41 : decode cX11_numbers 41 = .ok (.getfield 12, 3) := dk_180 0 12 (dk_at dksX11_numbers_1 19 rfl rfl)
theorem dX11_numbers_44 : decode cX11_numbers 44 = .ok (.iload_n 1, 1) := dk_27 (dk_at dksX11_numbers_1 22 rfl rfl)
theorem dX11_numbers_45 : decode cX11_numbers 45 = .ok (.putfield 107, 3) := dk_181 0 107 (dk_at dksX11_numbers_2 0 rfl rfl)
theorem dX11_numbers_48 : decode cX11_numbers 48 = .ok (.return_, 1) := dk_177 (dk_at dksX11_numbers_2 3 rfl rfl)
abbrev cX11_number : ByteArray := prog_16_method_10_code
def yX11_number : MethodName := ⟨RX11, "number", "(II)I"⟩
def dkwX11_number_2 : List UInt8 := [42, 182, 0, 26, 29, 172]
abbrev dktX11_number_2 : List UInt8 := dkwX11_number_2 ++ []
def dkwX11_number_1 : List UInt8 := [184, 0, 79, 154, 0, 16, 187, 0, 70, 89, 6, 42, 180, 0, 32, 183, 0, 72, 191, 42, 180, 0, 45, 62]
abbrev dktX11_number_1 : List UInt8 := dkwX11_number_1 ++ dktX11_number_2
def dkwX11_number_0 : List UInt8 := [42, 180, 0, 35, 5, 159, 0, 8, 42, 182, 0, 75, 191, 42, 180, 0, 45, 133, 27, 133, 28, 133]
abbrev dktX11_number_0 : List UInt8 := dkwX11_number_0 ++ dktX11_number_1
theorem dksX11_number_0 : cX11_number.data.toList.drop 0 = dktX11_number_0 := by decide +kernel
theorem dksX11_number_1 : cX11_number.data.toList.drop 22 = dktX11_number_1 := dk_seg dksX11_number_0 22 rfl rfl
theorem dksX11_number_2 : cX11_number.data.toList.drop 46 = dktX11_number_2 := dk_seg dksX11_number_1 24 rfl rfl
theorem dX11_number_0 : decode cX11_number 0 = .ok (.aload_n 0, 1) := dk_42 (dk_at dksX11_number_0 0 rfl rfl)
theorem dX11_number_1 : decode cX11_number 1 = .ok (.getfield 35, 3) := dk_180 0 35 (dk_at dksX11_number_0 1 rfl rfl)
theorem dX11_number_4 : decode cX11_number 4 = .ok (.iconst 2, 1) := dk_5 (dk_at dksX11_number_0 4 rfl rfl)
theorem dX11_number_5 : decode cX11_number 5 = .ok (.if_icmp .eq 8, 3) := dk_159 0 8 (dk_at dksX11_number_0 5 rfl rfl)
theorem dX11_number_8 : decode cX11_number 8 = .ok (.aload_n 0, 1) := dk_42 (dk_at dksX11_number_0 8 rfl rfl)
theorem dX11_number_9 : decode cX11_number 9 = .ok (.invokevirtual 75, 3) := dk_182 0 75 (dk_at dksX11_number_0 9 rfl rfl)
theorem dX11_number_12 : decode cX11_number 12 = .ok (.athrow, 1) := dk_191 (dk_at dksX11_number_0 12 rfl rfl)
theorem dX11_number_13 : decode cX11_number 13 = .ok (.aload_n 0, 1) := dk_42 (dk_at dksX11_number_0 13 rfl rfl)
theorem dX11_number_14 : decode cX11_number 14 = .ok (.getfield 45, 3) := dk_180 0 45 (dk_at dksX11_number_0 14 rfl rfl)
theorem dX11_number_17 : decode cX11_number 17 = .ok (.i2l, 1) := dk_133 (dk_at dksX11_number_0 17 rfl rfl)
theorem dX11_number_18 : decode cX11_number 18 = .ok (.iload_n 1, 1) := dk_27 (dk_at dksX11_number_0 18 rfl rfl)
theorem dX11_number_19 : decode cX11_number 19 = .ok (.i2l, 1) := dk_133 (dk_at dksX11_number_0 19 rfl rfl)
theorem dX11_number_20 : decode cX11_number 20 = .ok (.iload_n 2, 1) := dk_28 (dk_at dksX11_number_0 20 rfl rfl)
theorem dX11_number_21 : decode cX11_number 21 = .ok (.i2l, 1) := dk_133 (dk_at dksX11_number_0 21 rfl rfl)
theorem dX11_number_22 : decode cX11_number 22 = .ok (.invokestatic 79, 3) := dk_184 0 79 (dk_at dksX11_number_1 0 rfl rfl)
theorem dX11_number_25 : decode cX11_number 25 = .ok (.ifCond .ne 16, 3) := dk_154 0 16 (dk_at dksX11_number_1 3 rfl rfl)
theorem dX11_number_28 : decode cX11_number 28 = .ok (.new 70, 3) := dk_187 0 70 (dk_at dksX11_number_1 6 rfl rfl)
theorem dX11_number_31 : decode cX11_number 31 = .ok (.dup, 1) := dk_89 (dk_at dksX11_number_1 9 rfl rfl)
theorem dX11_number_32 : decode cX11_number 32 = .ok (.iconst 3, 1) := dk_6 (dk_at dksX11_number_1 10 rfl rfl)
theorem dX11_number_33 : decode cX11_number 33 = .ok (.aload_n 0, 1) := dk_42 (dk_at dksX11_number_1 11 rfl rfl)
theorem dX11_number_34 : decode cX11_number 34 = .ok (.getfield 32, 3) := dk_180 0 32 (dk_at dksX11_number_1 12 rfl rfl)
theorem dX11_number_37 : decode cX11_number 37 = .ok (.invokespecial 72, 3) := dk_183 0 72 (dk_at dksX11_number_1 15 rfl rfl)
theorem dX11_number_40 : decode cX11_number 40 = .ok (.athrow, 1) := dk_191 (dk_at dksX11_number_1 18 rfl rfl)
theorem dX11_number_41 : decode cX11_number 41 = .ok (.aload_n 0, 1) := dk_42 (dk_at dksX11_number_1 19 rfl rfl)
theorem dX11_number_42 : decode cX11_number 42 = .ok (.getfield 45, 3) := dk_180 0 45 (dk_at dksX11_number_1 20 rfl rfl)
theorem dX11_number_45 : decode cX11_number 45 = .ok (.istore_n 3, 1) := dk_62 (dk_at dksX11_number_1 23 rfl rfl)
theorem dX11_number_46 : decode cX11_number 46 = .ok (.aload_n 0, 1) := dk_42 (dk_at dksX11_number_2 0 rfl rfl)
theorem dX11_number_47 : decode cX11_number 47 = .ok (.invokevirtual 26, 3) := dk_182 0 26 (dk_at dksX11_number_2 1 rfl rfl)
theorem dX11_number_50 : decode cX11_number 50 = .ok (.iload_n 3, 1) := dk_29 (dk_at dksX11_number_2 4 rfl rfl)
theorem dX11_number_51 : decode cX11_number 51 = .ok (.ireturn, 1) := dk_172 (dk_at dksX11_number_2 5 rfl rfl)
abbrev cX11_wrong : ByteArray := prog_16_method_9_code
def yX11_wrong : MethodName := ⟨RX11, "wrong", "()LTwoSlips$Bad;"⟩
def dkwX11_wrong_1 : List UInt8 := [183, 0, 72, 176]
abbrev dktX11_wrong_1 : List UInt8 := dkwX11_wrong_1 ++ []
def dkwX11_wrong_0 : List UInt8 := [187, 0, 70, 89, 42, 180, 0, 35, 16, 6, 160, 0, 7, 4, 167, 0, 4, 5, 42, 180, 0, 32]
abbrev dktX11_wrong_0 : List UInt8 := dkwX11_wrong_0 ++ dktX11_wrong_1
theorem dksX11_wrong_0 : cX11_wrong.data.toList.drop 0 = dktX11_wrong_0 := by decide +kernel
theorem dksX11_wrong_1 : cX11_wrong.data.toList.drop 22 = dktX11_wrong_1 := dk_seg dksX11_wrong_0 22 rfl rfl
theorem dX11_wrong_0 : decode cX11_wrong 0 = .ok (.new 70, 3) := dk_187 0 70 (dk_at dksX11_wrong_0 0 rfl rfl)
theorem dX11_wrong_3 : decode cX11_wrong 3 = .ok (.dup, 1) := dk_89 (dk_at dksX11_wrong_0 3 rfl rfl)
theorem dX11_wrong_4 : decode cX11_wrong 4 = .ok (.aload_n 0, 1) := dk_42 (dk_at dksX11_wrong_0 4 rfl rfl)
theorem dX11_wrong_5 : decode cX11_wrong 5 = .ok (.getfield 35, 3) := dk_180 0 35 (dk_at dksX11_wrong_0 5 rfl rfl)
theorem dX11_wrong_8 : decode cX11_wrong 8 = .ok (.bipush 6, 2) := dk_16 6 (dk_at dksX11_wrong_0 8 rfl rfl)
theorem dX11_wrong_10 : decode cX11_wrong 10 = .ok (.if_icmp .ne 7, 3) := dk_160 0 7 (dk_at dksX11_wrong_0 10 rfl rfl)
theorem dX11_wrong_13 : decode cX11_wrong 13 = .ok (.iconst 1, 1) := dk_4 (dk_at dksX11_wrong_0 13 rfl rfl)
theorem dX11_wrong_14 : decode cX11_wrong 14 = .ok (.goto 4, 3) := dk_167 0 4 (dk_at dksX11_wrong_0 14 rfl rfl)
theorem dX11_wrong_17 : decode cX11_wrong 17 = .ok (.iconst 2, 1) := dk_5 (dk_at dksX11_wrong_0 17 rfl rfl)
theorem dX11_wrong_18 : decode cX11_wrong 18 = .ok (.aload_n 0, 1) := dk_42 (dk_at dksX11_wrong_0 18 rfl rfl)
theorem dX11_wrong_19 : decode cX11_wrong 19 = .ok (.getfield 32, 3) := dk_180 0 32 (dk_at dksX11_wrong_0 19 rfl rfl)
theorem dX11_wrong_22 : decode cX11_wrong 22 = .ok (.invokespecial 72, 3) := dk_183 0 72 (dk_at dksX11_wrong_1 0 rfl rfl)
theorem dX11_wrong_25 : decode cX11_wrong 25 = .ok (.areturn, 1) := dk_176 (dk_at dksX11_wrong_1 3 rfl rfl)
abbrev cX11_eats : ByteArray := prog_16_method_8_code
def yX11_eats : MethodName := ⟨RX11, "eats", "(Ljava/lang/String;)Z"⟩
def dkwX11_eats_0 : List UInt8 := [42, 43, 182, 0, 66, 61, 28, 153, 0, 7, 42, 182, 0, 26, 28, 172]
abbrev dktX11_eats_0 : List UInt8 := dkwX11_eats_0 ++ []
theorem dksX11_eats_0 : cX11_eats.data.toList.drop 0 = dktX11_eats_0 := by decide +kernel
theorem dX11_eats_0 : decode cX11_eats 0 = .ok (.aload_n 0, 1) := dk_42 (dk_at dksX11_eats_0 0 rfl rfl)
theorem dX11_eats_1 : decode cX11_eats 1 = .ok (.aload_n 1, 1) := dk_43 (dk_at dksX11_eats_0 1 rfl rfl)
theorem dX11_eats_2 : decode cX11_eats 2 = .ok (.invokevirtual 66, 3) := dk_182 0 66 (dk_at dksX11_eats_0 2 rfl rfl)
theorem dX11_eats_5 : decode cX11_eats 5 = .ok (.istore_n 2, 1) := dk_61 (dk_at dksX11_eats_0 5 rfl rfl)
theorem dX11_eats_6 : decode cX11_eats 6 = .ok (.iload_n 2, 1) := dk_28 (dk_at dksX11_eats_0 6 rfl rfl)
theorem dX11_eats_7 : decode cX11_eats 7 = .ok (.ifCond .eq 7, 3) := dk_153 0 7 (dk_at dksX11_eats_0 7 rfl rfl)
theorem dX11_eats_10 : decode cX11_eats 10 = .ok (.aload_n 0, 1) := dk_42 (dk_at dksX11_eats_0 10 rfl rfl)
theorem dX11_eats_11 : decode cX11_eats 11 = .ok (.invokevirtual 26, 3) := dk_182 0 26 (dk_at dksX11_eats_0 11 rfl rfl)
theorem dX11_eats_14 : decode cX11_eats 14 = .ok (.iload_n 2, 1) := dk_28 (dk_at dksX11_eats_0 14 rfl rfl)
theorem dX11_eats_15 : decode cX11_eats 15 = .ok (.ireturn, 1) := dk_172 (dk_at dksX11_eats_0 15 rfl rfl)
abbrev cX11_teller : ByteArray := prog_16_method_15_code
def yX11_teller : MethodName := ⟨RX11, "teller", "()V"⟩
def dkwX11_teller_3 : List UInt8 := [18, 124, 182, 0, 101, 181, 0, 126, 42, 180, 0, 12, 180, 0, 83, 44, 182, 0, 129, 87, 177]
abbrev dktX11_teller_3 : List UInt8 := dkwX11_teller_3 ++ []
def dkwX11_teller_2 : List UInt8 := [182, 0, 26, 187, 0, 113, 89, 27, 183, 0, 115, 77, 44, 42, 18, 118, 182, 0, 101, 181, 0, 120, 44, 42]
abbrev dktX11_teller_2 : List UInt8 := dkwX11_teller_2 ++ dktX11_teller_3
def dkwX11_teller_1 : List UInt8 := [183, 0, 72, 191, 42, 182, 0, 26, 42, 182, 0, 110, 60, 27, 2, 160, 0, 8, 42, 182, 0, 75, 191, 42]
abbrev dktX11_teller_1 : List UInt8 := dkwX11_teller_1 ++ dktX11_teller_2
def dkwX11_teller_0 : List UInt8 := [42, 180, 0, 12, 180, 0, 83, 182, 0, 87, 16, 6, 160, 0, 16, 187, 0, 70, 89, 7, 42, 180, 0, 32]
abbrev dktX11_teller_0 : List UInt8 := dkwX11_teller_0 ++ dktX11_teller_1
theorem dksX11_teller_0 : cX11_teller.data.toList.drop 0 = dktX11_teller_0 := by decide +kernel
theorem dksX11_teller_1 : cX11_teller.data.toList.drop 24 = dktX11_teller_1 := dk_seg dksX11_teller_0 24 rfl rfl
theorem dksX11_teller_2 : cX11_teller.data.toList.drop 48 = dktX11_teller_2 := dk_seg dksX11_teller_1 24 rfl rfl
theorem dksX11_teller_3 : cX11_teller.data.toList.drop 72 = dktX11_teller_3 := dk_seg dksX11_teller_2 24 rfl rfl
theorem dX11_teller_0 : decode cX11_teller 0 = .ok (.aload_n 0, 1) := dk_42 (dk_at dksX11_teller_0 0 rfl rfl)
theorem dX11_teller_1 : decode cX11_teller 1 = .ok (.getfield 12, 3) := dk_180 0 12 (dk_at dksX11_teller_0 1 rfl rfl)
theorem dX11_teller_4 : decode cX11_teller 4 = .ok (.getfield 83, 3) := dk_180 0 83 (dk_at dksX11_teller_0 4 rfl rfl)
theorem dX11_teller_7 : decode cX11_teller 7 = .ok (.invokevirtual 87, 3) := dk_182 0 87 (dk_at dksX11_teller_0 7 rfl rfl)
theorem dX11_teller_10 : decode cX11_teller 10 = .ok (.bipush 6, 2) := dk_16 6 (dk_at dksX11_teller_0 10 rfl rfl)
theorem dX11_teller_12 : decode cX11_teller 12 = .ok (.if_icmp .ne 16, 3) := dk_160 0 16 (dk_at dksX11_teller_0 12 rfl rfl)
theorem dX11_teller_15 : decode cX11_teller 15 = .ok (.new 70, 3) := dk_187 0 70 (dk_at dksX11_teller_0 15 rfl rfl)
theorem dX11_teller_18 : decode cX11_teller 18 = .ok (.dup, 1) := dk_89 (dk_at dksX11_teller_0 18 rfl rfl)
theorem dX11_teller_19 : decode cX11_teller 19 = .ok (.iconst 4, 1) := dk_7 (dk_at dksX11_teller_0 19 rfl rfl)
theorem dX11_teller_20 : decode cX11_teller 20 = .ok (.aload_n 0, 1) := dk_42 (dk_at dksX11_teller_0 20 rfl rfl)
theorem dX11_teller_21 : decode cX11_teller 21 = .ok (.getfield 32, 3) := dk_180 0 32 (dk_at dksX11_teller_0 21 rfl rfl)
theorem dX11_teller_24 : decode cX11_teller 24 = .ok (.invokespecial 72, 3) := dk_183 0 72 (dk_at dksX11_teller_1 0 rfl rfl)
theorem dX11_teller_27 : decode cX11_teller 27 = .ok (.athrow, 1) := dk_191 (dk_at dksX11_teller_1 3 rfl rfl)
theorem dX11_teller_28 : decode cX11_teller 28 = .ok (.aload_n 0, 1) := dk_42 (dk_at dksX11_teller_1 4 rfl rfl)
theorem dX11_teller_29 : decode cX11_teller 29 = .ok (.invokevirtual 26, 3) := dk_182 0 26 (dk_at dksX11_teller_1 5 rfl rfl)
theorem dX11_teller_32 : decode cX11_teller 32 = .ok (.aload_n 0, 1) := dk_42 (dk_at dksX11_teller_1 8 rfl rfl)
theorem dX11_teller_33 : decode cX11_teller 33 = .ok (.invokevirtual 110, 3) := dk_182 0 110 (dk_at dksX11_teller_1 9 rfl rfl)
theorem dX11_teller_36 : decode cX11_teller 36 = .ok (.istore_n 1, 1) := dk_60 (dk_at dksX11_teller_1 12 rfl rfl)
theorem dX11_teller_37 : decode cX11_teller 37 = .ok (.iload_n 1, 1) := dk_27 (dk_at dksX11_teller_1 13 rfl rfl)
theorem dX11_teller_38 : decode cX11_teller 38 = .ok (.iconst (-1), 1) := dk_2 (dk_at dksX11_teller_1 14 rfl rfl)
theorem dX11_teller_39 : decode cX11_teller 39 = .ok (.if_icmp .ne 8, 3) := dk_160 0 8 (dk_at dksX11_teller_1 15 rfl rfl)
theorem dX11_teller_42 : decode cX11_teller 42 = .ok (.aload_n 0, 1) := dk_42 (dk_at dksX11_teller_1 18 rfl rfl)
theorem dX11_teller_43 : decode cX11_teller 43 = .ok (.invokevirtual 75, 3) := dk_182 0 75 (dk_at dksX11_teller_1 19 rfl rfl)
theorem dX11_teller_46 : decode cX11_teller 46 = .ok (.athrow, 1) := dk_191 (dk_at dksX11_teller_1 22 rfl rfl)
theorem dX11_teller_47 : decode cX11_teller 47 = .ok (.aload_n 0, 1) := dk_42 (dk_at dksX11_teller_1 23 rfl rfl)
theorem dX11_teller_48 : decode cX11_teller 48 = .ok (.invokevirtual 26, 3) := dk_182 0 26 (dk_at dksX11_teller_2 0 rfl rfl)
theorem dX11_teller_51 : decode cX11_teller 51 = .ok (.new 113, 3) := dk_187 0 113 (dk_at dksX11_teller_2 3 rfl rfl)
theorem dX11_teller_54 : decode cX11_teller 54 = .ok (.dup, 1) := dk_89 (dk_at dksX11_teller_2 6 rfl rfl)
theorem dX11_teller_55 : decode cX11_teller 55 = .ok (.iload_n 1, 1) := dk_27 (dk_at dksX11_teller_2 7 rfl rfl)
theorem dX11_teller_56 : decode cX11_teller 56 = .ok (.invokespecial 115, 3) := dk_183 0 115 (dk_at dksX11_teller_2 8 rfl rfl)
theorem dX11_teller_59 : decode cX11_teller 59 = .ok (.astore_n 2, 1) := dk_77 (dk_at dksX11_teller_2 11 rfl rfl)
theorem dX11_teller_60 : decode cX11_teller 60 = .ok (.aload_n 2, 1) := dk_44 (dk_at dksX11_teller_2 12 rfl rfl)
theorem dX11_teller_61 : decode cX11_teller 61 = .ok (.aload_n 0, 1) := dk_42 (dk_at dksX11_teller_2 13 rfl rfl)
theorem dX11_teller_62 : decode cX11_teller 62 = .ok (.ldc 118, 2) := dk_18 118 (dk_at dksX11_teller_2 14 rfl rfl)
theorem dX11_teller_64 : decode cX11_teller 64 = .ok (.invokevirtual 101, 3) := dk_182 0 101 (dk_at dksX11_teller_2 16 rfl rfl)
theorem dX11_teller_67 : decode cX11_teller 67 = .ok (.putfield 120, 3) := dk_181 0 120 (dk_at dksX11_teller_2 19 rfl rfl)
theorem dX11_teller_70 : decode cX11_teller 70 = .ok (.aload_n 2, 1) := dk_44 (dk_at dksX11_teller_2 22 rfl rfl)
theorem dX11_teller_71 : decode cX11_teller 71 = .ok (.aload_n 0, 1) := dk_42 (dk_at dksX11_teller_2 23 rfl rfl)
theorem dX11_teller_72 : decode cX11_teller 72 = .ok (.ldc 124, 2) := dk_18 124 (dk_at dksX11_teller_3 0 rfl rfl)
theorem dX11_teller_74 : decode cX11_teller 74 = .ok (.invokevirtual 101, 3) := dk_182 0 101 (dk_at dksX11_teller_3 2 rfl rfl)
theorem dX11_teller_77 : decode cX11_teller 77 = .ok (.putfield 126, 3) := dk_181 0 126 (dk_at dksX11_teller_3 5 rfl rfl)
theorem dX11_teller_80 : decode cX11_teller 80 = .ok (.aload_n 0, 1) := dk_42 (dk_at dksX11_teller_3 8 rfl rfl)
theorem dX11_teller_81 : decode cX11_teller 81 = .ok (.getfield 12, 3) := dk_180 0 12 (dk_at dksX11_teller_3 9 rfl rfl)
theorem dX11_teller_84 : decode cX11_teller 84 = .ok (.getfield 83, 3) := dk_180 0 83 (dk_at dksX11_teller_3 12 rfl rfl)
theorem dX11_teller_87 : decode cX11_teller 87 = .ok (.aload_n 2, 1) := dk_44 (dk_at dksX11_teller_3 15 rfl rfl)
theorem dX11_teller_88 : decode cX11_teller 88 = .ok (.invokevirtual 129, 3) := dk_182 0 129 (dk_at dksX11_teller_3 16 rfl rfl)
theorem dX11_teller_91 : decode cX11_teller 91 = .ok (.pop, 1) := dk_87 (dk_at dksX11_teller_3 19 rfl rfl)
theorem dX11_teller_92 : decode cX11_teller 92 = .ok (.return_, 1) := dk_177 (dk_at dksX11_teller_3 20 rfl rfl)
abbrev cX11_sightHere : ByteArray := prog_16_method_13_code
def yX11_sightHere : MethodName := ⟨RX11, "sightHere", "()I"⟩
def dkwX11_sightHere_3 : List UInt8 := [172, 132, 1, 1, 132, 2, 1, 167, 255, 183, 2, 172]
abbrev dktX11_sightHere_3 : List UInt8 := dkwX11_sightHere_3 ++ []
def dkwX11_sightHere_2 : List UInt8 := [180, 0, 29, 42, 180, 0, 32, 100, 160, 0, 17, 42, 18, 94, 28, 4, 96, 182, 0, 62, 153, 0, 5, 27]
abbrev dktX11_sightHere_2 : List UInt8 := dkwX11_sightHere_2 ++ dktX11_sightHere_3
def dkwX11_sightHere_1 : List UInt8 := [159, 0, 6, 167, 0, 48, 18, 94, 16, 32, 28, 4, 96, 182, 0, 96, 62, 29, 28, 100, 4, 100, 42]
abbrev dktX11_sightHere_1 : List UInt8 := dkwX11_sightHere_1 ++ dktX11_sightHere_2
def dkwX11_sightHere_0 : List UInt8 := [3, 60, 3, 61, 28, 4, 96, 18, 94, 182, 0, 52, 162, 0, 68, 18, 94, 28, 182, 0, 58, 16, 32]
abbrev dktX11_sightHere_0 : List UInt8 := dkwX11_sightHere_0 ++ dktX11_sightHere_1
theorem dksX11_sightHere_0 : cX11_sightHere.data.toList.drop 0 = dktX11_sightHere_0 := by decide +kernel
theorem dksX11_sightHere_1 : cX11_sightHere.data.toList.drop 23 = dktX11_sightHere_1 := dk_seg dksX11_sightHere_0 23 rfl rfl
theorem dksX11_sightHere_2 : cX11_sightHere.data.toList.drop 46 = dktX11_sightHere_2 := dk_seg dksX11_sightHere_1 23 rfl rfl
theorem dksX11_sightHere_3 : cX11_sightHere.data.toList.drop 70 = dktX11_sightHere_3 := dk_seg dksX11_sightHere_2 24 rfl rfl
theorem dX11_sightHere_0 : decode cX11_sightHere 0 = .ok (.iconst 0, 1) := dk_3 (dk_at dksX11_sightHere_0 0 rfl rfl)
theorem dX11_sightHere_1 : decode cX11_sightHere 1 = .ok (.istore_n 1, 1) := dk_60 (dk_at dksX11_sightHere_0 1 rfl rfl)
theorem dX11_sightHere_2 : decode cX11_sightHere 2 = .ok (.iconst 0, 1) := dk_3 (dk_at dksX11_sightHere_0 2 rfl rfl)
theorem dX11_sightHere_3 : decode cX11_sightHere 3 = .ok (.istore_n 2, 1) := dk_61 (dk_at dksX11_sightHere_0 3 rfl rfl)
theorem dX11_sightHere_4 : decode cX11_sightHere 4 = .ok (.iload_n 2, 1) := dk_28 (dk_at dksX11_sightHere_0 4 rfl rfl)
theorem dX11_sightHere_5 : decode cX11_sightHere 5 = .ok (.iconst 1, 1) := dk_4 (dk_at dksX11_sightHere_0 5 rfl rfl)
theorem dX11_sightHere_6 : decode cX11_sightHere 6 = .ok (.iadd, 1) := dk_96 (dk_at dksX11_sightHere_0 6 rfl rfl)
theorem dX11_sightHere_7 : decode cX11_sightHere 7 = .ok (.ldc 94, 2) := dk_18 94 (dk_at dksX11_sightHere_0 7 rfl rfl)
theorem dX11_sightHere_9 : decode cX11_sightHere 9 = .ok (.invokevirtual 52, 3) := dk_182 0 52 (dk_at dksX11_sightHere_0 9 rfl rfl)
theorem dX11_sightHere_12 : decode cX11_sightHere 12 = .ok (.if_icmp .ge 68, 3) := dk_162 0 68 (dk_at dksX11_sightHere_0 12 rfl rfl)
theorem dX11_sightHere_15 : decode cX11_sightHere 15 = .ok (.ldc 94, 2) := dk_18 94 (dk_at dksX11_sightHere_0 15 rfl rfl)
theorem dX11_sightHere_17 : decode cX11_sightHere 17 = .ok (.iload_n 2, 1) := dk_28 (dk_at dksX11_sightHere_0 17 rfl rfl)
theorem dX11_sightHere_18 : decode cX11_sightHere 18 = .ok (.invokevirtual 58, 3) := dk_182 0 58 (dk_at dksX11_sightHere_0 18 rfl rfl)
theorem dX11_sightHere_21 : decode cX11_sightHere 21 = .ok (.bipush 32, 2) := dk_16 32 (dk_at dksX11_sightHere_0 21 rfl rfl)
theorem dX11_sightHere_23 : decode cX11_sightHere 23 = .ok (.if_icmp .eq 6, 3) := dk_159 0 6 (dk_at dksX11_sightHere_1 0 rfl rfl)
theorem dX11_sightHere_26 : decode cX11_sightHere 26 = .ok (.goto 48, 3) := dk_167 0 48 (dk_at dksX11_sightHere_1 3 rfl rfl)
theorem dX11_sightHere_29 : decode cX11_sightHere 29 = .ok (.ldc 94, 2) := dk_18 94 (dk_at dksX11_sightHere_1 6 rfl rfl)
theorem dX11_sightHere_31 : decode cX11_sightHere 31 = .ok (.bipush 32, 2) := dk_16 32 (dk_at dksX11_sightHere_1 8 rfl rfl)
theorem dX11_sightHere_33 : decode cX11_sightHere 33 = .ok (.iload_n 2, 1) := dk_28 (dk_at dksX11_sightHere_1 10 rfl rfl)
theorem dX11_sightHere_34 : decode cX11_sightHere 34 = .ok (.iconst 1, 1) := dk_4 (dk_at dksX11_sightHere_1 11 rfl rfl)
theorem dX11_sightHere_35 : decode cX11_sightHere 35 = .ok (.iadd, 1) := dk_96 (dk_at dksX11_sightHere_1 12 rfl rfl)
theorem dX11_sightHere_36 : decode cX11_sightHere 36 = .ok (.invokevirtual 96, 3) := dk_182 0 96 (dk_at dksX11_sightHere_1 13 rfl rfl)
theorem dX11_sightHere_39 : decode cX11_sightHere 39 = .ok (.istore_n 3, 1) := dk_62 (dk_at dksX11_sightHere_1 16 rfl rfl)
theorem dX11_sightHere_40 : decode cX11_sightHere 40 = .ok (.iload_n 3, 1) := dk_29 (dk_at dksX11_sightHere_1 17 rfl rfl)
theorem dX11_sightHere_41 : decode cX11_sightHere 41 = .ok (.iload_n 2, 1) := dk_28 (dk_at dksX11_sightHere_1 18 rfl rfl)
theorem dX11_sightHere_42 : decode cX11_sightHere 42 = .ok (.isub, 1) := dk_100 (dk_at dksX11_sightHere_1 19 rfl rfl)
theorem dX11_sightHere_43 : decode cX11_sightHere 43 = .ok (.iconst 1, 1) := dk_4 (dk_at dksX11_sightHere_1 20 rfl rfl)
theorem dX11_sightHere_44 : decode cX11_sightHere 44 = .ok (.isub, 1) := dk_100 (dk_at dksX11_sightHere_1 21 rfl rfl)
theorem dX11_sightHere_45 : decode cX11_sightHere 45 = .ok (.aload_n 0, 1) := dk_42 (dk_at dksX11_sightHere_1 22 rfl rfl)
theorem dX11_sightHere_46 : decode cX11_sightHere 46 = .ok (.getfield 29, 3) := dk_180 0 29 (dk_at dksX11_sightHere_2 0 rfl rfl)
theorem dX11_sightHere_49 : decode cX11_sightHere 49 = .ok (.aload_n 0, 1) := dk_42 (dk_at dksX11_sightHere_2 3 rfl rfl)
theorem dX11_sightHere_50 : decode cX11_sightHere 50 = .ok (.getfield 32, 3) := dk_180 0 32 (dk_at dksX11_sightHere_2 4 rfl rfl)
theorem dX11_sightHere_53 : decode cX11_sightHere 53 = .ok (.isub, 1) := dk_100 (dk_at dksX11_sightHere_2 7 rfl rfl)
theorem dX11_sightHere_54 : decode cX11_sightHere 54 = .ok (.if_icmp .ne 17, 3) := dk_160 0 17 (dk_at dksX11_sightHere_2 8 rfl rfl)
theorem dX11_sightHere_57 : decode cX11_sightHere 57 = .ok (.aload_n 0, 1) := dk_42 (dk_at dksX11_sightHere_2 11 rfl rfl)
theorem dX11_sightHere_58 : decode cX11_sightHere 58 = .ok (.ldc 94, 2) := dk_18 94 (dk_at dksX11_sightHere_2 12 rfl rfl)
theorem dX11_sightHere_60 : decode cX11_sightHere 60 = .ok (.iload_n 2, 1) := dk_28 (dk_at dksX11_sightHere_2 14 rfl rfl)
theorem dX11_sightHere_61 : decode cX11_sightHere 61 = .ok (.iconst 1, 1) := dk_4 (dk_at dksX11_sightHere_2 15 rfl rfl)
theorem dX11_sightHere_62 : decode cX11_sightHere 62 = .ok (.iadd, 1) := dk_96 (dk_at dksX11_sightHere_2 16 rfl rfl)
theorem dX11_sightHere_63 : decode cX11_sightHere 63 = .ok (.invokevirtual 62, 3) := dk_182 0 62 (dk_at dksX11_sightHere_2 17 rfl rfl)
theorem dX11_sightHere_66 : decode cX11_sightHere 66 = .ok (.ifCond .eq 5, 3) := dk_153 0 5 (dk_at dksX11_sightHere_2 20 rfl rfl)
theorem dX11_sightHere_69 : decode cX11_sightHere 69 = .ok (.iload_n 1, 1) := dk_27 (dk_at dksX11_sightHere_2 23 rfl rfl)
theorem dX11_sightHere_70 : decode cX11_sightHere 70 = .ok (.ireturn, 1) := dk_172 (dk_at dksX11_sightHere_3 0 rfl rfl)
theorem dX11_sightHere_71 : decode cX11_sightHere 71 = .ok (.iinc 1 1, 3) := dk_132 1 1 (dk_at dksX11_sightHere_3 1 rfl rfl)
theorem dX11_sightHere_74 : decode cX11_sightHere 74 = .ok (.iinc 2 1, 3) := dk_132 2 1 (dk_at dksX11_sightHere_3 4 rfl rfl)
theorem dX11_sightHere_77 : decode cX11_sightHere 77 = .ok (.goto (-73), 3) := dk_167 255 183 (dk_at dksX11_sightHere_3 7 rfl rfl)
theorem dX11_sightHere_80 : decode cX11_sightHere 80 = .ok (.iconst (-1), 1) := dk_2 (dk_at dksX11_sightHere_3 10 rfl rfl)
theorem dX11_sightHere_81 : decode cX11_sightHere 81 = .ok (.ireturn, 1) := dk_172 (dk_at dksX11_sightHere_3 11 rfl rfl)
abbrev cX11_say : ByteArray := prog_16_method_16_code
def yX11_say : MethodName := ⟨RX11, "say", "()V"⟩
def dkwX11_say_2 : List UInt8 := [27, 42, 182, 0, 141, 183, 0, 145, 182, 0, 129, 87, 177]
abbrev dktX11_say_2 : List UInt8 := dkwX11_say_2 ++ []
def dkwX11_say_1 : List UInt8 := [183, 0, 72, 191, 42, 182, 0, 26, 42, 182, 0, 136, 60, 42, 180, 0, 12, 180, 0, 133, 187, 0, 139, 89]
abbrev dktX11_say_1 : List UInt8 := dkwX11_say_1 ++ dktX11_say_2
def dkwX11_say_0 : List UInt8 := [42, 180, 0, 12, 180, 0, 133, 182, 0, 87, 16, 20, 160, 0, 16, 187, 0, 70, 89, 7, 42, 180, 0, 32]
abbrev dktX11_say_0 : List UInt8 := dkwX11_say_0 ++ dktX11_say_1
theorem dksX11_say_0 : cX11_say.data.toList.drop 0 = dktX11_say_0 := by decide +kernel
theorem dksX11_say_1 : cX11_say.data.toList.drop 24 = dktX11_say_1 := dk_seg dksX11_say_0 24 rfl rfl
theorem dksX11_say_2 : cX11_say.data.toList.drop 48 = dktX11_say_2 := dk_seg dksX11_say_1 24 rfl rfl
theorem dX11_say_0 : decode cX11_say 0 = .ok (.aload_n 0, 1) := dk_42 (dk_at dksX11_say_0 0 rfl rfl)
theorem dX11_say_1 : decode cX11_say 1 = .ok (.getfield 12, 3) := dk_180 0 12 (dk_at dksX11_say_0 1 rfl rfl)
theorem dX11_say_4 : decode cX11_say 4 = .ok (.getfield 133, 3) := dk_180 0 133 (dk_at dksX11_say_0 4 rfl rfl)
theorem dX11_say_7 : decode cX11_say 7 = .ok (.invokevirtual 87, 3) := dk_182 0 87 (dk_at dksX11_say_0 7 rfl rfl)
theorem dX11_say_10 : decode cX11_say 10 = .ok (.bipush 20, 2) := dk_16 20 (dk_at dksX11_say_0 10 rfl rfl)
theorem dX11_say_12 : decode cX11_say 12 = .ok (.if_icmp .ne 16, 3) := dk_160 0 16 (dk_at dksX11_say_0 12 rfl rfl)
theorem dX11_say_15 : decode cX11_say 15 = .ok (.new 70, 3) := dk_187 0 70 (dk_at dksX11_say_0 15 rfl rfl)
theorem dX11_say_18 : decode cX11_say 18 = .ok (.dup, 1) := dk_89 (dk_at dksX11_say_0 18 rfl rfl)
theorem dX11_say_19 : decode cX11_say 19 = .ok (.iconst 4, 1) := dk_7 (dk_at dksX11_say_0 19 rfl rfl)
theorem dX11_say_20 : decode cX11_say 20 = .ok (.aload_n 0, 1) := dk_42 (dk_at dksX11_say_0 20 rfl rfl)
theorem dX11_say_21 : decode cX11_say 21 = .ok (.getfield 32, 3) := dk_180 0 32 (dk_at dksX11_say_0 21 rfl rfl)
theorem dX11_say_24 : decode cX11_say 24 = .ok (.invokespecial 72, 3) := dk_183 0 72 (dk_at dksX11_say_1 0 rfl rfl)
theorem dX11_say_27 : decode cX11_say 27 = .ok (.athrow, 1) := dk_191 (dk_at dksX11_say_1 3 rfl rfl)
theorem dX11_say_28 : decode cX11_say 28 = .ok (.aload_n 0, 1) := dk_42 (dk_at dksX11_say_1 4 rfl rfl)
theorem dX11_say_29 : decode cX11_say 29 = .ok (.invokevirtual 26, 3) := dk_182 0 26 (dk_at dksX11_say_1 5 rfl rfl)
theorem dX11_say_32 : decode cX11_say 32 = .ok (.aload_n 0, 1) := dk_42 (dk_at dksX11_say_1 8 rfl rfl)
theorem dX11_say_33 : decode cX11_say 33 = .ok (.invokevirtual 136, 3) := dk_182 0 136 (dk_at dksX11_say_1 9 rfl rfl)
theorem dX11_say_36 : decode cX11_say 36 = .ok (.istore_n 1, 1) := dk_60 (dk_at dksX11_say_1 12 rfl rfl)
theorem dX11_say_37 : decode cX11_say 37 = .ok (.aload_n 0, 1) := dk_42 (dk_at dksX11_say_1 13 rfl rfl)
theorem dX11_say_38 : decode cX11_say 38 = .ok (.getfield 12, 3) := dk_180 0 12 (dk_at dksX11_say_1 14 rfl rfl)
theorem dX11_say_41 : decode cX11_say 41 = .ok (.getfield 133, 3) := dk_180 0 133 (dk_at dksX11_say_1 17 rfl rfl)
theorem dX11_say_44 : decode cX11_say 44 = .ok (.new 139, 3) := dk_187 0 139 (dk_at dksX11_say_1 20 rfl rfl)
theorem dX11_say_47 : decode cX11_say 47 = .ok (.dup, 1) := dk_89 (dk_at dksX11_say_1 23 rfl rfl)
theorem dX11_say_48 : decode cX11_say 48 = .ok (.iload_n 1, 1) := dk_27 (dk_at dksX11_say_2 0 rfl rfl)
theorem dX11_say_49 : decode cX11_say 49 = .ok (.aload_n 0, 1) := dk_42 (dk_at dksX11_say_2 1 rfl rfl)
theorem dX11_say_50 : decode cX11_say 50 = .ok (.invokevirtual 141, 3) := dk_182 0 141 (dk_at dksX11_say_2 2 rfl rfl)
theorem dX11_say_53 : decode cX11_say 53 = .ok (.invokespecial 145, 3) := dk_183 0 145 (dk_at dksX11_say_2 5 rfl rfl)
theorem dX11_say_56 : decode cX11_say 56 = .ok (.invokevirtual 129, 3) := dk_182 0 129 (dk_at dksX11_say_2 8 rfl rfl)
theorem dX11_say_59 : decode cX11_say 59 = .ok (.pop, 1) := dk_87 (dk_at dksX11_say_2 11 rfl rfl)
theorem dX11_say_60 : decode cX11_say 60 = .ok (.return_, 1) := dk_177 (dk_at dksX11_say_2 12 rfl rfl)
abbrev cX11_speaker : ByteArray := prog_16_method_12_code
def yX11_speaker : MethodName := ⟨RX11, "speaker", "()I"⟩
def dkwX11_speaker_0 : List UInt8 := [42, 3, 42, 180, 0, 12, 180, 0, 83, 182, 0, 87, 4, 100, 182, 0, 91, 172]
abbrev dktX11_speaker_0 : List UInt8 := dkwX11_speaker_0 ++ []
theorem dksX11_speaker_0 : cX11_speaker.data.toList.drop 0 = dktX11_speaker_0 := by decide +kernel
theorem dX11_speaker_0 : decode cX11_speaker 0 = .ok (.aload_n 0, 1) := dk_42 (dk_at dksX11_speaker_0 0 rfl rfl)
theorem dX11_speaker_1 : decode cX11_speaker 1 = .ok (.iconst 0, 1) := dk_3 (dk_at dksX11_speaker_0 1 rfl rfl)
theorem dX11_speaker_2 : decode cX11_speaker 2 = .ok (.aload_n 0, 1) := dk_42 (dk_at dksX11_speaker_0 2 rfl rfl)
theorem dX11_speaker_3 : decode cX11_speaker 3 = .ok (.getfield 12, 3) := dk_180 0 12 (dk_at dksX11_speaker_0 3 rfl rfl)
theorem dX11_speaker_6 : decode cX11_speaker 6 = .ok (.getfield 83, 3) := dk_180 0 83 (dk_at dksX11_speaker_0 6 rfl rfl)
theorem dX11_speaker_9 : decode cX11_speaker 9 = .ok (.invokevirtual 87, 3) := dk_182 0 87 (dk_at dksX11_speaker_0 9 rfl rfl)
theorem dX11_speaker_12 : decode cX11_speaker 12 = .ok (.iconst 1, 1) := dk_4 (dk_at dksX11_speaker_0 12 rfl rfl)
theorem dX11_speaker_13 : decode cX11_speaker 13 = .ok (.isub, 1) := dk_100 (dk_at dksX11_speaker_0 13 rfl rfl)
theorem dX11_speaker_14 : decode cX11_speaker 14 = .ok (.invokevirtual 91, 3) := dk_182 0 91 (dk_at dksX11_speaker_0 14 rfl rfl)
theorem dX11_speaker_17 : decode cX11_speaker 17 = .ok (.ireturn, 1) := dk_172 (dk_at dksX11_speaker_0 17 rfl rfl)
abbrev cX11_saying : ByteArray := prog_16_method_18_code
def yX11_saying : MethodName := ⟨RX11, "saying", "()LTwoSlips$Saying;"⟩
def dkwX11_saying_1 : List UInt8 := [183, 0, 179, 76, 167, 255, 233, 43, 176]
abbrev dktX11_saying_1 : List UInt8 := dkwX11_saying_1 ++ []
def dkwX11_saying_0 : List UInt8 := [42, 182, 0, 172, 76, 42, 18, 175, 182, 0, 101, 153, 0, 20, 187, 0, 177, 89, 3, 43, 42, 182, 0, 172]
abbrev dktX11_saying_0 : List UInt8 := dkwX11_saying_0 ++ dktX11_saying_1
theorem dksX11_saying_0 : cX11_saying.data.toList.drop 0 = dktX11_saying_0 := by decide +kernel
theorem dksX11_saying_1 : cX11_saying.data.toList.drop 24 = dktX11_saying_1 := dk_seg dksX11_saying_0 24 rfl rfl
theorem dX11_saying_0 : decode cX11_saying 0 = .ok (.aload_n 0, 1) := dk_42 (dk_at dksX11_saying_0 0 rfl rfl)
theorem dX11_saying_1 : decode cX11_saying 1 = .ok (.invokevirtual 172, 3) := dk_182 0 172 (dk_at dksX11_saying_0 1 rfl rfl)
theorem dX11_saying_4 : decode cX11_saying 4 = .ok (.astore_n 1, 1) := dk_76 (dk_at dksX11_saying_0 4 rfl rfl)
theorem dX11_saying_5 : decode cX11_saying 5 = .ok (.aload_n 0, 1) := dk_42 (dk_at dksX11_saying_0 5 rfl rfl)
theorem dX11_saying_6 : decode cX11_saying 6 = .ok (.ldc 175, 2) := dk_18 175 (dk_at dksX11_saying_0 6 rfl rfl)
theorem dX11_saying_8 : decode cX11_saying 8 = .ok (.invokevirtual 101, 3) := dk_182 0 101 (dk_at dksX11_saying_0 8 rfl rfl)
theorem dX11_saying_11 : decode cX11_saying 11 = .ok (.ifCond .eq 20, 3) := dk_153 0 20 (dk_at dksX11_saying_0 11 rfl rfl)
theorem dX11_saying_14 : decode cX11_saying 14 = .ok (.new 177, 3) := dk_187 0 177 (dk_at dksX11_saying_0 14 rfl rfl)
theorem dX11_saying_17 : decode cX11_saying 17 = .ok (.dup, 1) := dk_89 (dk_at dksX11_saying_0 17 rfl rfl)
theorem dX11_saying_18 : decode cX11_saying 18 = .ok (.iconst 0, 1) := dk_3 (dk_at dksX11_saying_0 18 rfl rfl)
theorem dX11_saying_19 : decode cX11_saying 19 = .ok (.aload_n 1, 1) := dk_43 (dk_at dksX11_saying_0 19 rfl rfl)
theorem dX11_saying_20 : decode cX11_saying 20 = .ok (.aload_n 0, 1) := dk_42 (dk_at dksX11_saying_0 20 rfl rfl)
theorem dX11_saying_21 : decode cX11_saying 21 = .ok (.invokevirtual 172, 3) := dk_182 0 172 (dk_at dksX11_saying_0 21 rfl rfl)
theorem dX11_saying_24 : decode cX11_saying 24 = .ok (.invokespecial 179, 3) := dk_183 0 179 (dk_at dksX11_saying_1 0 rfl rfl)
theorem dX11_saying_27 : decode cX11_saying 27 = .ok (.astore_n 1, 1) := dk_76 (dk_at dksX11_saying_1 3 rfl rfl)
theorem dX11_saying_28 : decode cX11_saying 28 = .ok (.goto (-23), 3) := dk_167 255 233 (dk_at dksX11_saying_1 4 rfl rfl)
theorem dX11_saying_31 : decode cX11_saying 31 = .ok (.aload_n 1, 1) := dk_43 (dk_at dksX11_saying_1 7 rfl rfl)
theorem dX11_saying_32 : decode cX11_saying 32 = .ok (.areturn, 1) := dk_176 (dk_at dksX11_saying_1 8 rfl rfl)
abbrev cX11_part : ByteArray := prog_16_method_19_code
def yX11_part : MethodName := ⟨RX11, "part", "()LTwoSlips$Saying;"⟩
def dkwX11_part_1 : List UInt8 := [183, 0, 179, 76, 167, 255, 233, 43, 176]
abbrev dktX11_part_1 : List UInt8 := dkwX11_part_1 ++ []
def dkwX11_part_0 : List UInt8 := [42, 182, 0, 182, 76, 42, 18, 185, 182, 0, 101, 153, 0, 20, 187, 0, 177, 89, 4, 43, 42, 182, 0, 182]
abbrev dktX11_part_0 : List UInt8 := dkwX11_part_0 ++ dktX11_part_1
theorem dksX11_part_0 : cX11_part.data.toList.drop 0 = dktX11_part_0 := by decide +kernel
theorem dksX11_part_1 : cX11_part.data.toList.drop 24 = dktX11_part_1 := dk_seg dksX11_part_0 24 rfl rfl
theorem dX11_part_0 : decode cX11_part 0 = .ok (.aload_n 0, 1) := dk_42 (dk_at dksX11_part_0 0 rfl rfl)
theorem dX11_part_1 : decode cX11_part 1 = .ok (.invokevirtual 182, 3) := dk_182 0 182 (dk_at dksX11_part_0 1 rfl rfl)
theorem dX11_part_4 : decode cX11_part 4 = .ok (.astore_n 1, 1) := dk_76 (dk_at dksX11_part_0 4 rfl rfl)
theorem dX11_part_5 : decode cX11_part 5 = .ok (.aload_n 0, 1) := dk_42 (dk_at dksX11_part_0 5 rfl rfl)
theorem dX11_part_6 : decode cX11_part 6 = .ok (.ldc 185, 2) := dk_18 185 (dk_at dksX11_part_0 6 rfl rfl)
theorem dX11_part_8 : decode cX11_part 8 = .ok (.invokevirtual 101, 3) := dk_182 0 101 (dk_at dksX11_part_0 8 rfl rfl)
theorem dX11_part_11 : decode cX11_part 11 = .ok (.ifCond .eq 20, 3) := dk_153 0 20 (dk_at dksX11_part_0 11 rfl rfl)
theorem dX11_part_14 : decode cX11_part 14 = .ok (.new 177, 3) := dk_187 0 177 (dk_at dksX11_part_0 14 rfl rfl)
theorem dX11_part_17 : decode cX11_part 17 = .ok (.dup, 1) := dk_89 (dk_at dksX11_part_0 17 rfl rfl)
theorem dX11_part_18 : decode cX11_part 18 = .ok (.iconst 1, 1) := dk_4 (dk_at dksX11_part_0 18 rfl rfl)
theorem dX11_part_19 : decode cX11_part 19 = .ok (.aload_n 1, 1) := dk_43 (dk_at dksX11_part_0 19 rfl rfl)
theorem dX11_part_20 : decode cX11_part 20 = .ok (.aload_n 0, 1) := dk_42 (dk_at dksX11_part_0 20 rfl rfl)
theorem dX11_part_21 : decode cX11_part 21 = .ok (.invokevirtual 182, 3) := dk_182 0 182 (dk_at dksX11_part_0 21 rfl rfl)
theorem dX11_part_24 : decode cX11_part 24 = .ok (.invokespecial 179, 3) := dk_183 0 179 (dk_at dksX11_part_1 0 rfl rfl)
theorem dX11_part_27 : decode cX11_part 27 = .ok (.astore_n 1, 1) := dk_76 (dk_at dksX11_part_1 3 rfl rfl)
theorem dX11_part_28 : decode cX11_part 28 = .ok (.goto (-23), 3) := dk_167 255 233 (dk_at dksX11_part_1 4 rfl rfl)
theorem dX11_part_31 : decode cX11_part 31 = .ok (.aload_n 1, 1) := dk_43 (dk_at dksX11_part_1 7 rfl rfl)
theorem dX11_part_32 : decode cX11_part 32 = .ok (.areturn, 1) := dk_176 (dk_at dksX11_part_1 8 rfl rfl)
abbrev cX11_fact : ByteArray := prog_16_method_22_code
def yX11_fact : MethodName := ⟨RX11, "fact", "()LTwoSlips$Saying;"⟩
def dkwX11_fact_8 : List UInt8 := [176, 42, 182, 0, 75, 191]
abbrev dktX11_fact_8 : List UInt8 := dkwX11_fact_8 ++ []
def dkwX11_fact_7 : List UInt8 := [176, 42, 18, 231, 182, 0, 101, 153, 0, 18, 187, 0, 233, 89, 42, 3, 16, 120, 182, 0, 91, 183, 0, 235]
abbrev dktX11_fact_7 : List UInt8 := dkwX11_fact_7 ++ dktX11_fact_8
def dkwX11_fact_6 : List UInt8 := [187, 0, 223, 89, 183, 0, 225, 176, 42, 18, 226, 182, 0, 101, 153, 0, 11, 187, 0, 228, 89, 183, 0, 230]
abbrev dktX11_fact_6 : List UInt8 := dkwX11_fact_6 ++ dktX11_fact_7
def dkwX11_fact_5 : List UInt8 := [187, 0, 218, 89, 27, 42, 182, 0, 196, 183, 0, 220, 176, 42, 18, 221, 182, 0, 101, 153, 0, 11]
abbrev dktX11_fact_5 : List UInt8 := dkwX11_fact_5 ++ dktX11_fact_6
def dkwX11_fact_4 : List UInt8 := [182, 0, 196, 183, 0, 215, 176, 42, 18, 216, 182, 0, 101, 153, 0, 24, 42, 3, 16, 20, 182, 0, 91, 60]
abbrev dktX11_fact_4 : List UInt8 := dkwX11_fact_4 ++ dktX11_fact_5
def dkwX11_fact_3 : List UInt8 := [183, 0, 210, 176, 42, 18, 211, 182, 0, 101, 153, 0, 21, 42, 182, 0, 136, 60, 187, 0, 213, 89, 27, 42]
abbrev dktX11_fact_3 : List UInt8 := dkwX11_fact_3 ++ dktX11_fact_4
def dkwX11_fact_2 : List UInt8 := [181, 0, 187, 43, 176, 42, 18, 206, 182, 0, 101, 153, 0, 15, 187, 0, 208, 89, 42, 182, 0, 136]
abbrev dktX11_fact_2 : List UInt8 := dkwX11_fact_2 ++ dktX11_fact_3
def dkwX11_fact_1 : List UInt8 := [182, 0, 190, 187, 0, 201, 89, 42, 182, 0, 182, 183, 0, 203, 76, 42, 89, 180, 0, 187, 4, 100]
abbrev dktX11_fact_1 : List UInt8 := dkwX11_fact_1 ++ dktX11_fact_2
def dkwX11_fact_0 : List UInt8 := [42, 180, 0, 35, 7, 160, 0, 8, 42, 182, 0, 196, 176, 42, 18, 199, 182, 0, 66, 153, 0, 31, 42]
abbrev dktX11_fact_0 : List UInt8 := dkwX11_fact_0 ++ dktX11_fact_1
theorem dksX11_fact_0 : cX11_fact.data.toList.drop 0 = dktX11_fact_0 := by decide +kernel
theorem dksX11_fact_1 : cX11_fact.data.toList.drop 23 = dktX11_fact_1 := dk_seg dksX11_fact_0 23 rfl rfl
theorem dksX11_fact_2 : cX11_fact.data.toList.drop 45 = dktX11_fact_2 := dk_seg dksX11_fact_1 22 rfl rfl
theorem dksX11_fact_3 : cX11_fact.data.toList.drop 67 = dktX11_fact_3 := dk_seg dksX11_fact_2 22 rfl rfl
theorem dksX11_fact_4 : cX11_fact.data.toList.drop 91 = dktX11_fact_4 := dk_seg dksX11_fact_3 24 rfl rfl
theorem dksX11_fact_5 : cX11_fact.data.toList.drop 115 = dktX11_fact_5 := dk_seg dksX11_fact_4 24 rfl rfl
theorem dksX11_fact_6 : cX11_fact.data.toList.drop 137 = dktX11_fact_6 := dk_seg dksX11_fact_5 22 rfl rfl
theorem dksX11_fact_7 : cX11_fact.data.toList.drop 161 = dktX11_fact_7 := dk_seg dksX11_fact_6 24 rfl rfl
theorem dksX11_fact_8 : cX11_fact.data.toList.drop 185 = dktX11_fact_8 := dk_seg dksX11_fact_7 24 rfl rfl
theorem dX11_fact_0 : decode cX11_fact 0 = .ok (.aload_n 0, 1) := dk_42 (dk_at dksX11_fact_0 0 rfl rfl)
theorem dX11_fact_1 : decode cX11_fact 1 = .ok (.getfield 35, 3) := dk_180 0 35 (dk_at dksX11_fact_0 1 rfl rfl)
theorem dX11_fact_4 : decode cX11_fact 4 = .ok (.iconst 4, 1) := dk_7 (dk_at dksX11_fact_0 4 rfl rfl)
theorem dX11_fact_5 : decode cX11_fact 5 = .ok (.if_icmp .ne 8, 3) := dk_160 0 8 (dk_at dksX11_fact_0 5 rfl rfl)
theorem dX11_fact_8 : decode cX11_fact 8 = .ok (.aload_n 0, 1) := dk_42 (dk_at dksX11_fact_0 8 rfl rfl)
theorem dX11_fact_9 : decode cX11_fact 9 = .ok (.invokevirtual 196, 3) := dk_182 0 196 (dk_at dksX11_fact_0 9 rfl rfl)
theorem dX11_fact_12 : decode cX11_fact 12 = .ok (.areturn, 1) := dk_176 (dk_at dksX11_fact_0 12 rfl rfl)
theorem dX11_fact_13 : decode cX11_fact 13 = .ok (.aload_n 0, 1) := dk_42 (dk_at dksX11_fact_0 13 rfl rfl)
theorem dX11_fact_14 : decode cX11_fact 14 = .ok (.ldc 199, 2) := dk_18 199 (dk_at dksX11_fact_0 14 rfl rfl)
theorem dX11_fact_16 : decode cX11_fact 16 = .ok (.invokevirtual 66, 3) := dk_182 0 66 (dk_at dksX11_fact_0 16 rfl rfl)
theorem dX11_fact_19 : decode cX11_fact 19 = .ok (.ifCond .eq 31, 3) := dk_153 0 31 (dk_at dksX11_fact_0 19 rfl rfl)
theorem dX11_fact_22 : decode cX11_fact 22 = .ok (.aload_n 0, 1) := dk_42 (dk_at dksX11_fact_0 22 rfl rfl)
theorem dX11_fact_23 : decode cX11_fact 23 = .ok (.invokevirtual 190, 3) := dk_182 0 190 (dk_at dksX11_fact_1 0 rfl rfl)
theorem dX11_fact_26 : decode cX11_fact 26 = .ok (.new 201, 3) := dk_187 0 201 (dk_at dksX11_fact_1 3 rfl rfl)
theorem dX11_fact_29 : decode cX11_fact 29 = .ok (.dup, 1) := dk_89 (dk_at dksX11_fact_1 6 rfl rfl)
theorem dX11_fact_30 : decode cX11_fact 30 = .ok (.aload_n 0, 1) := dk_42 (dk_at dksX11_fact_1 7 rfl rfl)
theorem dX11_fact_31 : decode cX11_fact 31 = .ok (.invokevirtual 182, 3) := dk_182 0 182 (dk_at dksX11_fact_1 8 rfl rfl)
theorem dX11_fact_34 : decode cX11_fact 34 = .ok (.invokespecial 203, 3) := dk_183 0 203 (dk_at dksX11_fact_1 11 rfl rfl)
theorem dX11_fact_37 : decode cX11_fact 37 = .ok (.astore_n 1, 1) := dk_76 (dk_at dksX11_fact_1 14 rfl rfl)
theorem dX11_fact_38 : decode cX11_fact 38 = .ok (.aload_n 0, 1) := dk_42 (dk_at dksX11_fact_1 15 rfl rfl)
theorem dX11_fact_39 : decode cX11_fact 39 = .ok (.dup, 1) := dk_89 (dk_at dksX11_fact_1 16 rfl rfl)
theorem dX11_fact_40 : decode cX11_fact 40 = .ok (.getfield 187, 3) := dk_180 0 187 (dk_at dksX11_fact_1 17 rfl rfl)
theorem dX11_fact_43 : decode cX11_fact 43 = .ok (.iconst 1, 1) := dk_4 (dk_at dksX11_fact_1 20 rfl rfl)
theorem dX11_fact_44 : decode cX11_fact 44 = .ok (.isub, 1) := dk_100 (dk_at dksX11_fact_1 21 rfl rfl)
theorem dX11_fact_45 : decode cX11_fact 45 = .ok (.putfield 187, 3) := dk_181 0 187 (dk_at dksX11_fact_2 0 rfl rfl)
theorem dX11_fact_48 : decode cX11_fact 48 = .ok (.aload_n 1, 1) := dk_43 (dk_at dksX11_fact_2 3 rfl rfl)
theorem dX11_fact_49 : decode cX11_fact 49 = .ok (.areturn, 1) := dk_176 (dk_at dksX11_fact_2 4 rfl rfl)
theorem dX11_fact_50 : decode cX11_fact 50 = .ok (.aload_n 0, 1) := dk_42 (dk_at dksX11_fact_2 5 rfl rfl)
theorem dX11_fact_51 : decode cX11_fact 51 = .ok (.ldc 206, 2) := dk_18 206 (dk_at dksX11_fact_2 6 rfl rfl)
theorem dX11_fact_53 : decode cX11_fact 53 = .ok (.invokevirtual 101, 3) := dk_182 0 101 (dk_at dksX11_fact_2 8 rfl rfl)
theorem dX11_fact_56 : decode cX11_fact 56 = .ok (.ifCond .eq 15, 3) := dk_153 0 15 (dk_at dksX11_fact_2 11 rfl rfl)
theorem dX11_fact_59 : decode cX11_fact 59 = .ok (.new 208, 3) := dk_187 0 208 (dk_at dksX11_fact_2 14 rfl rfl)
theorem dX11_fact_62 : decode cX11_fact 62 = .ok (.dup, 1) := dk_89 (dk_at dksX11_fact_2 17 rfl rfl)
theorem dX11_fact_63 : decode cX11_fact 63 = .ok (.aload_n 0, 1) := dk_42 (dk_at dksX11_fact_2 18 rfl rfl)
theorem dX11_fact_64 : decode cX11_fact 64 = .ok (.invokevirtual 136, 3) := dk_182 0 136 (dk_at dksX11_fact_2 19 rfl rfl)
theorem dX11_fact_67 : decode cX11_fact 67 = .ok (.invokespecial 210, 3) := dk_183 0 210 (dk_at dksX11_fact_3 0 rfl rfl)
theorem dX11_fact_70 : decode cX11_fact 70 = .ok (.areturn, 1) := dk_176 (dk_at dksX11_fact_3 3 rfl rfl)
theorem dX11_fact_71 : decode cX11_fact 71 = .ok (.aload_n 0, 1) := dk_42 (dk_at dksX11_fact_3 4 rfl rfl)
theorem dX11_fact_72 : decode cX11_fact 72 = .ok (.ldc 211, 2) := dk_18 211 (dk_at dksX11_fact_3 5 rfl rfl)
theorem dX11_fact_74 : decode cX11_fact 74 = .ok (.invokevirtual 101, 3) := dk_182 0 101 (dk_at dksX11_fact_3 7 rfl rfl)
theorem dX11_fact_77 : decode cX11_fact 77 = .ok (.ifCond .eq 21, 3) := dk_153 0 21 (dk_at dksX11_fact_3 10 rfl rfl)
theorem dX11_fact_80 : decode cX11_fact 80 = .ok (.aload_n 0, 1) := dk_42 (dk_at dksX11_fact_3 13 rfl rfl)
theorem dX11_fact_81 : decode cX11_fact 81 = .ok (.invokevirtual 136, 3) := dk_182 0 136 (dk_at dksX11_fact_3 14 rfl rfl)
theorem dX11_fact_84 : decode cX11_fact 84 = .ok (.istore_n 1, 1) := dk_60 (dk_at dksX11_fact_3 17 rfl rfl)
theorem dX11_fact_85 : decode cX11_fact 85 = .ok (.new 213, 3) := dk_187 0 213 (dk_at dksX11_fact_3 18 rfl rfl)
theorem dX11_fact_88 : decode cX11_fact 88 = .ok (.dup, 1) := dk_89 (dk_at dksX11_fact_3 21 rfl rfl)
theorem dX11_fact_89 : decode cX11_fact 89 = .ok (.iload_n 1, 1) := dk_27 (dk_at dksX11_fact_3 22 rfl rfl)
theorem dX11_fact_90 : decode cX11_fact 90 = .ok (.aload_n 0, 1) := dk_42 (dk_at dksX11_fact_3 23 rfl rfl)
theorem dX11_fact_91 : decode cX11_fact 91 = .ok (.invokevirtual 196, 3) := dk_182 0 196 (dk_at dksX11_fact_4 0 rfl rfl)
theorem dX11_fact_94 : decode cX11_fact 94 = .ok (.invokespecial 215, 3) := dk_183 0 215 (dk_at dksX11_fact_4 3 rfl rfl)
theorem dX11_fact_97 : decode cX11_fact 97 = .ok (.areturn, 1) := dk_176 (dk_at dksX11_fact_4 6 rfl rfl)
theorem dX11_fact_98 : decode cX11_fact 98 = .ok (.aload_n 0, 1) := dk_42 (dk_at dksX11_fact_4 7 rfl rfl)
theorem dX11_fact_99 : decode cX11_fact 99 = .ok (.ldc 216, 2) := dk_18 216 (dk_at dksX11_fact_4 8 rfl rfl)
theorem dX11_fact_101 : decode cX11_fact 101 = .ok (.invokevirtual 101, 3) := dk_182 0 101 (dk_at dksX11_fact_4 10 rfl rfl)
theorem dX11_fact_104 : decode cX11_fact 104 = .ok (.ifCond .eq 24, 3) := dk_153 0 24 (dk_at dksX11_fact_4 13 rfl rfl)
theorem dX11_fact_107 : decode cX11_fact 107 = .ok (.aload_n 0, 1) := dk_42 (dk_at dksX11_fact_4 16 rfl rfl)
theorem dX11_fact_108 : decode cX11_fact 108 = .ok (.iconst 0, 1) := dk_3 (dk_at dksX11_fact_4 17 rfl rfl)
theorem dX11_fact_109 : decode cX11_fact 109 = .ok (.bipush 20, 2) := dk_16 20 (dk_at dksX11_fact_4 18 rfl rfl)
theorem dX11_fact_111 : decode cX11_fact 111 = .ok (.invokevirtual 91, 3) := dk_182 0 91 (dk_at dksX11_fact_4 20 rfl rfl)
theorem dX11_fact_114 : decode cX11_fact 114 = .ok (.istore_n 1, 1) := dk_60 (dk_at dksX11_fact_4 23 rfl rfl)
theorem dX11_fact_115 : decode cX11_fact 115 = .ok (.new 218, 3) := dk_187 0 218 (dk_at dksX11_fact_5 0 rfl rfl)
theorem dX11_fact_118 : decode cX11_fact 118 = .ok (.dup, 1) := dk_89 (dk_at dksX11_fact_5 3 rfl rfl)
theorem dX11_fact_119 : decode cX11_fact 119 = .ok (.iload_n 1, 1) := dk_27 (dk_at dksX11_fact_5 4 rfl rfl)
theorem dX11_fact_120 : decode cX11_fact 120 = .ok (.aload_n 0, 1) := dk_42 (dk_at dksX11_fact_5 5 rfl rfl)
theorem dX11_fact_121 : decode cX11_fact 121 = .ok (.invokevirtual 196, 3) := dk_182 0 196 (dk_at dksX11_fact_5 6 rfl rfl)
theorem dX11_fact_124 : decode cX11_fact 124 = .ok (.invokespecial 220, 3) := dk_183 0 220 (dk_at dksX11_fact_5 9 rfl rfl)
theorem dX11_fact_127 : decode cX11_fact 127 = .ok (.areturn, 1) := dk_176 (dk_at dksX11_fact_5 12 rfl rfl)
theorem dX11_fact_128 : decode cX11_fact 128 = .ok (.aload_n 0, 1) := dk_42 (dk_at dksX11_fact_5 13 rfl rfl)
theorem dX11_fact_129 : decode cX11_fact 129 = .ok (.ldc 221, 2) := dk_18 221 (dk_at dksX11_fact_5 14 rfl rfl)
theorem dX11_fact_131 : decode cX11_fact 131 = .ok (.invokevirtual 101, 3) := dk_182 0 101 (dk_at dksX11_fact_5 16 rfl rfl)
theorem dX11_fact_134 : decode cX11_fact 134 = .ok (.ifCond .eq 11, 3) := dk_153 0 11 (dk_at dksX11_fact_5 19 rfl rfl)
theorem dX11_fact_137 : decode cX11_fact 137 = .ok (.new 223, 3) := dk_187 0 223 (dk_at dksX11_fact_6 0 rfl rfl)
theorem dX11_fact_140 : decode cX11_fact 140 = .ok (.dup, 1) := dk_89 (dk_at dksX11_fact_6 3 rfl rfl)
theorem dX11_fact_141 : decode cX11_fact 141 = .ok (.invokespecial 225, 3) := dk_183 0 225 (dk_at dksX11_fact_6 4 rfl rfl)
theorem dX11_fact_144 : decode cX11_fact 144 = .ok (.areturn, 1) := dk_176 (dk_at dksX11_fact_6 7 rfl rfl)
theorem dX11_fact_145 : decode cX11_fact 145 = .ok (.aload_n 0, 1) := dk_42 (dk_at dksX11_fact_6 8 rfl rfl)
theorem dX11_fact_146 : decode cX11_fact 146 = .ok (.ldc 226, 2) := dk_18 226 (dk_at dksX11_fact_6 9 rfl rfl)
theorem dX11_fact_148 : decode cX11_fact 148 = .ok (.invokevirtual 101, 3) := dk_182 0 101 (dk_at dksX11_fact_6 11 rfl rfl)
theorem dX11_fact_151 : decode cX11_fact 151 = .ok (.ifCond .eq 11, 3) := dk_153 0 11 (dk_at dksX11_fact_6 14 rfl rfl)
theorem dX11_fact_154 : decode cX11_fact 154 = .ok (.new 228, 3) := dk_187 0 228 (dk_at dksX11_fact_6 17 rfl rfl)
theorem dX11_fact_157 : decode cX11_fact 157 = .ok (.dup, 1) := dk_89 (dk_at dksX11_fact_6 20 rfl rfl)
theorem dX11_fact_158 : decode cX11_fact 158 = .ok (.invokespecial 230, 3) := dk_183 0 230 (dk_at dksX11_fact_6 21 rfl rfl)
theorem dX11_fact_161 : decode cX11_fact 161 = .ok (.areturn, 1) := dk_176 (dk_at dksX11_fact_7 0 rfl rfl)
theorem dX11_fact_162 : decode cX11_fact 162 = .ok (.aload_n 0, 1) := dk_42 (dk_at dksX11_fact_7 1 rfl rfl)
theorem dX11_fact_163 : decode cX11_fact 163 = .ok (.ldc 231, 2) := dk_18 231 (dk_at dksX11_fact_7 2 rfl rfl)
theorem dX11_fact_165 : decode cX11_fact 165 = .ok (.invokevirtual 101, 3) := dk_182 0 101 (dk_at dksX11_fact_7 4 rfl rfl)
theorem dX11_fact_168 : decode cX11_fact 168 = .ok (.ifCond .eq 18, 3) := dk_153 0 18 (dk_at dksX11_fact_7 7 rfl rfl)
theorem dX11_fact_171 : decode cX11_fact 171 = .ok (.new 233, 3) := dk_187 0 233 (dk_at dksX11_fact_7 10 rfl rfl)
theorem dX11_fact_174 : decode cX11_fact 174 = .ok (.dup, 1) := dk_89 (dk_at dksX11_fact_7 13 rfl rfl)
theorem dX11_fact_175 : decode cX11_fact 175 = .ok (.aload_n 0, 1) := dk_42 (dk_at dksX11_fact_7 14 rfl rfl)
theorem dX11_fact_176 : decode cX11_fact 176 = .ok (.iconst 0, 1) := dk_3 (dk_at dksX11_fact_7 15 rfl rfl)
theorem dX11_fact_177 : decode cX11_fact 177 = .ok (.bipush 120, 2) := dk_16 120 (dk_at dksX11_fact_7 16 rfl rfl)
theorem dX11_fact_179 : decode cX11_fact 179 = .ok (.invokevirtual 91, 3) := dk_182 0 91 (dk_at dksX11_fact_7 18 rfl rfl)
theorem dX11_fact_182 : decode cX11_fact 182 = .ok (.invokespecial 235, 3) := dk_183 0 235 (dk_at dksX11_fact_7 21 rfl rfl)
theorem dX11_fact_185 : decode cX11_fact 185 = .ok (.areturn, 1) := dk_176 (dk_at dksX11_fact_8 0 rfl rfl)
theorem dX11_fact_186 : decode cX11_fact 186 = .ok (.aload_n 0, 1) := dk_42 (dk_at dksX11_fact_8 1 rfl rfl)
theorem dX11_fact_187 : decode cX11_fact 187 = .ok (.invokevirtual 75, 3) := dk_182 0 75 (dk_at dksX11_fact_8 2 rfl rfl)
theorem dX11_fact_190 : decode cX11_fact 190 = .ok (.athrow, 1) := dk_191 (dk_at dksX11_fact_8 5 rfl rfl)
abbrev cX11_within : ByteArray := prog_16_method_21_code
def yX11_within : MethodName := ⟨RX11, "within", "()LTwoSlips$Saying;"⟩
def dkwX11_within_1 : List UInt8 := [182, 0, 193, 42, 89, 180, 0, 187, 4, 100, 181, 0, 187, 43, 176]
abbrev dktX11_within_1 : List UInt8 := dkwX11_within_1 ++ []
def dkwX11_within_0 : List UInt8 := [42, 180, 0, 35, 7, 159, 0, 8, 42, 182, 0, 75, 191, 42, 182, 0, 190, 42, 182, 0, 141, 76, 42, 8]
abbrev dktX11_within_0 : List UInt8 := dkwX11_within_0 ++ dktX11_within_1
theorem dksX11_within_0 : cX11_within.data.toList.drop 0 = dktX11_within_0 := by decide +kernel
theorem dksX11_within_1 : cX11_within.data.toList.drop 24 = dktX11_within_1 := dk_seg dksX11_within_0 24 rfl rfl
theorem dX11_within_0 : decode cX11_within 0 = .ok (.aload_n 0, 1) := dk_42 (dk_at dksX11_within_0 0 rfl rfl)
theorem dX11_within_1 : decode cX11_within 1 = .ok (.getfield 35, 3) := dk_180 0 35 (dk_at dksX11_within_0 1 rfl rfl)
theorem dX11_within_4 : decode cX11_within 4 = .ok (.iconst 4, 1) := dk_7 (dk_at dksX11_within_0 4 rfl rfl)
theorem dX11_within_5 : decode cX11_within 5 = .ok (.if_icmp .eq 8, 3) := dk_159 0 8 (dk_at dksX11_within_0 5 rfl rfl)
theorem dX11_within_8 : decode cX11_within 8 = .ok (.aload_n 0, 1) := dk_42 (dk_at dksX11_within_0 8 rfl rfl)
theorem dX11_within_9 : decode cX11_within 9 = .ok (.invokevirtual 75, 3) := dk_182 0 75 (dk_at dksX11_within_0 9 rfl rfl)
theorem dX11_within_12 : decode cX11_within 12 = .ok (.athrow, 1) := dk_191 (dk_at dksX11_within_0 12 rfl rfl)
theorem dX11_within_13 : decode cX11_within 13 = .ok (.aload_n 0, 1) := dk_42 (dk_at dksX11_within_0 13 rfl rfl)
theorem dX11_within_14 : decode cX11_within 14 = .ok (.invokevirtual 190, 3) := dk_182 0 190 (dk_at dksX11_within_0 14 rfl rfl)
theorem dX11_within_17 : decode cX11_within 17 = .ok (.aload_n 0, 1) := dk_42 (dk_at dksX11_within_0 17 rfl rfl)
theorem dX11_within_18 : decode cX11_within 18 = .ok (.invokevirtual 141, 3) := dk_182 0 141 (dk_at dksX11_within_0 18 rfl rfl)
theorem dX11_within_21 : decode cX11_within 21 = .ok (.astore_n 1, 1) := dk_76 (dk_at dksX11_within_0 21 rfl rfl)
theorem dX11_within_22 : decode cX11_within 22 = .ok (.aload_n 0, 1) := dk_42 (dk_at dksX11_within_0 22 rfl rfl)
theorem dX11_within_23 : decode cX11_within 23 = .ok (.iconst 5, 1) := dk_8 (dk_at dksX11_within_0 23 rfl rfl)
theorem dX11_within_24 : decode cX11_within 24 = .ok (.invokevirtual 193, 3) := dk_182 0 193 (dk_at dksX11_within_1 0 rfl rfl)
theorem dX11_within_27 : decode cX11_within 27 = .ok (.aload_n 0, 1) := dk_42 (dk_at dksX11_within_1 3 rfl rfl)
theorem dX11_within_28 : decode cX11_within 28 = .ok (.dup, 1) := dk_89 (dk_at dksX11_within_1 4 rfl rfl)
theorem dX11_within_29 : decode cX11_within 29 = .ok (.getfield 187, 3) := dk_180 0 187 (dk_at dksX11_within_1 5 rfl rfl)
theorem dX11_within_32 : decode cX11_within 32 = .ok (.iconst 1, 1) := dk_4 (dk_at dksX11_within_1 8 rfl rfl)
theorem dX11_within_33 : decode cX11_within 33 = .ok (.isub, 1) := dk_100 (dk_at dksX11_within_1 9 rfl rfl)
theorem dX11_within_34 : decode cX11_within 34 = .ok (.putfield 187, 3) := dk_181 0 187 (dk_at dksX11_within_1 10 rfl rfl)
theorem dX11_within_37 : decode cX11_within 37 = .ok (.aload_n 1, 1) := dk_43 (dk_at dksX11_within_1 13 rfl rfl)
theorem dX11_within_38 : decode cX11_within 38 = .ok (.areturn, 1) := dk_176 (dk_at dksX11_within_1 14 rfl rfl)
abbrev cX11_opens : ByteArray := prog_16_method_20_code
def yX11_opens : MethodName := ⟨RX11, "opens", "()V"⟩
def dkwX11_opens_1 : List UInt8 := [182, 0, 26, 42, 89, 180, 0, 187, 4, 96, 181, 0, 187, 177]
abbrev dktX11_opens_1 : List UInt8 := dkwX11_opens_1 ++ []
def dkwX11_opens_0 : List UInt8 := [42, 180, 0, 187, 16, 8, 160, 0, 16, 187, 0, 70, 89, 8, 42, 180, 0, 32, 183, 0, 72, 191, 42]
abbrev dktX11_opens_0 : List UInt8 := dkwX11_opens_0 ++ dktX11_opens_1
theorem dksX11_opens_0 : cX11_opens.data.toList.drop 0 = dktX11_opens_0 := by decide +kernel
theorem dksX11_opens_1 : cX11_opens.data.toList.drop 23 = dktX11_opens_1 := dk_seg dksX11_opens_0 23 rfl rfl
theorem dX11_opens_0 : decode cX11_opens 0 = .ok (.aload_n 0, 1) := dk_42 (dk_at dksX11_opens_0 0 rfl rfl)
theorem dX11_opens_1 : decode cX11_opens 1 = .ok (.getfield 187, 3) := dk_180 0 187 (dk_at dksX11_opens_0 1 rfl rfl)
theorem dX11_opens_4 : decode cX11_opens 4 = .ok (.bipush 8, 2) := dk_16 8 (dk_at dksX11_opens_0 4 rfl rfl)
theorem dX11_opens_6 : decode cX11_opens 6 = .ok (.if_icmp .ne 16, 3) := dk_160 0 16 (dk_at dksX11_opens_0 6 rfl rfl)
theorem dX11_opens_9 : decode cX11_opens 9 = .ok (.new 70, 3) := dk_187 0 70 (dk_at dksX11_opens_0 9 rfl rfl)
theorem dX11_opens_12 : decode cX11_opens 12 = .ok (.dup, 1) := dk_89 (dk_at dksX11_opens_0 12 rfl rfl)
theorem dX11_opens_13 : decode cX11_opens 13 = .ok (.iconst 5, 1) := dk_8 (dk_at dksX11_opens_0 13 rfl rfl)
theorem dX11_opens_14 : decode cX11_opens 14 = .ok (.aload_n 0, 1) := dk_42 (dk_at dksX11_opens_0 14 rfl rfl)
theorem dX11_opens_15 : decode cX11_opens 15 = .ok (.getfield 32, 3) := dk_180 0 32 (dk_at dksX11_opens_0 15 rfl rfl)
theorem dX11_opens_18 : decode cX11_opens 18 = .ok (.invokespecial 72, 3) := dk_183 0 72 (dk_at dksX11_opens_0 18 rfl rfl)
theorem dX11_opens_21 : decode cX11_opens 21 = .ok (.athrow, 1) := dk_191 (dk_at dksX11_opens_0 21 rfl rfl)
theorem dX11_opens_22 : decode cX11_opens 22 = .ok (.aload_n 0, 1) := dk_42 (dk_at dksX11_opens_0 22 rfl rfl)
theorem dX11_opens_23 : decode cX11_opens 23 = .ok (.invokevirtual 26, 3) := dk_182 0 26 (dk_at dksX11_opens_1 0 rfl rfl)
theorem dX11_opens_26 : decode cX11_opens 26 = .ok (.aload_n 0, 1) := dk_42 (dk_at dksX11_opens_1 3 rfl rfl)
theorem dX11_opens_27 : decode cX11_opens 27 = .ok (.dup, 1) := dk_89 (dk_at dksX11_opens_1 4 rfl rfl)
theorem dX11_opens_28 : decode cX11_opens 28 = .ok (.getfield 187, 3) := dk_180 0 187 (dk_at dksX11_opens_1 5 rfl rfl)
theorem dX11_opens_31 : decode cX11_opens 31 = .ok (.iconst 1, 1) := dk_4 (dk_at dksX11_opens_1 8 rfl rfl)
theorem dX11_opens_32 : decode cX11_opens 32 = .ok (.iadd, 1) := dk_96 (dk_at dksX11_opens_1 9 rfl rfl)
theorem dX11_opens_33 : decode cX11_opens 33 = .ok (.putfield 187, 3) := dk_181 0 187 (dk_at dksX11_opens_1 10 rfl rfl)
theorem dX11_opens_36 : decode cX11_opens 36 = .ok (.return_, 1) := dk_177 (dk_at dksX11_opens_1 13 rfl rfl)
abbrev cX11_must : ByteArray := prog_16_method_11_code
def yX11_must : MethodName := ⟨RX11, "must", "(I)V"⟩
def dkwX11_must_0 : List UInt8 := [42, 180, 0, 35, 27, 159, 0, 8, 42, 182, 0, 75, 191, 42, 182, 0, 26, 177]
abbrev dktX11_must_0 : List UInt8 := dkwX11_must_0 ++ []
theorem dksX11_must_0 : cX11_must.data.toList.drop 0 = dktX11_must_0 := by decide +kernel
theorem dX11_must_0 : decode cX11_must 0 = .ok (.aload_n 0, 1) := dk_42 (dk_at dksX11_must_0 0 rfl rfl)
theorem dX11_must_1 : decode cX11_must 1 = .ok (.getfield 35, 3) := dk_180 0 35 (dk_at dksX11_must_0 1 rfl rfl)
theorem dX11_must_4 : decode cX11_must 4 = .ok (.iload_n 1, 1) := dk_27 (dk_at dksX11_must_0 4 rfl rfl)
theorem dX11_must_5 : decode cX11_must 5 = .ok (.if_icmp .eq 8, 3) := dk_159 0 8 (dk_at dksX11_must_0 5 rfl rfl)
theorem dX11_must_8 : decode cX11_must 8 = .ok (.aload_n 0, 1) := dk_42 (dk_at dksX11_must_0 8 rfl rfl)
theorem dX11_must_9 : decode cX11_must 9 = .ok (.invokevirtual 75, 3) := dk_182 0 75 (dk_at dksX11_must_0 9 rfl rfl)
theorem dX11_must_12 : decode cX11_must 12 = .ok (.athrow, 1) := dk_191 (dk_at dksX11_must_0 12 rfl rfl)
theorem dX11_must_13 : decode cX11_must 13 = .ok (.aload_n 0, 1) := dk_42 (dk_at dksX11_must_0 13 rfl rfl)
theorem dX11_must_14 : decode cX11_must 14 = .ok (.invokevirtual 26, 3) := dk_182 0 26 (dk_at dksX11_must_0 14 rfl rfl)
theorem dX11_must_17 : decode cX11_must 17 = .ok (.return_, 1) := dk_177 (dk_at dksX11_must_0 17 rfl rfl)
theorem q123 : (Jvm.Cond.initialized "TwoSlips$Reader") ∈ lw_all := lw_g (lw_at lw_m1 18 rfl) rfl
theorem q206 : (Jvm.Cond.fieldLinkNest "TwoSlips$Reader" (83 : Nat) "TwoSlips$Talk" "speakers" "Ljava/util/ArrayList;" "TwoSlips") ∈ lw_tbl := lw_at lw_m1 101 rfl
theorem q211 : (Jvm.Cond.fieldLinkNest "TwoSlips$Reader" (133 : Nat) "TwoSlips$Talk" "turns" "Ljava/util/ArrayList;" "TwoSlips") ∈ lw_tbl := lw_at lw_m1 106 rfl
theorem q215 : (Jvm.Cond.fieldLinkNest "TwoSlips$Reader" (107 : Nat) "TwoSlips$Talk" "low" "I" "TwoSlips") ∈ lw_tbl := lw_at lw_m1 110 rfl
theorem q218 : (Jvm.Cond.fieldLinkNest "TwoSlips$Reader" (104 : Nat) "TwoSlips$Talk" "high" "I" "TwoSlips") ∈ lw_tbl := lw_at lw_m1 113 rfl
theorem q221 : (Jvm.Cond.fieldLinkNest "TwoSlips$Reader" (162 : Nat) "TwoSlips$Talk" "most" "I" "TwoSlips") ∈ lw_tbl := lw_at lw_m1 116 rfl
theorem q224 : (Jvm.Cond.fieldLinkNest "TwoSlips$Reader" (169 : Nat) "TwoSlips$Talk" "lines" "I" "TwoSlips") ∈ lw_tbl := lw_at lw_m1 119 rfl
theorem q226 : (Jvm.Cond.fieldLinkNest "TwoSlips$Reader" (166 : Nat) "TwoSlips$Talk" "isUnlike" "Z" "TwoSlips") ∈ lw_tbl := lw_at lw_m1 121 rfl
theorem q826 : (Jvm.Cond.instantiable "TwoSlips$Reader" (8 : Nat)) ∈ lw_all := lw_g (lw_at lw_m4 1 rfl) rfl
theorem q828 : (Jvm.Cond.instanceMethod ({ cls := "TwoSlips$Reader", name := "<init>", desc := "([BI)V" } : Jvm.MethodName)) ∈ lw_all := lw_g (lw_at lw_m4 3 rfl) rfl
theorem q829 : (Jvm.Cond.code ({ cls := "TwoSlips$Reader", name := "<init>", desc := "([BI)V" } : Jvm.MethodName) prog_16_method_1_code (3 : Nat) (Option.none : Option Jvm.ClassFile.FieldType)) ∈ lw_all := lw_g (lw_at lw_m4 4 rfl) rfl
theorem q830 : (Jvm.Cond.methodLink "TwoSlips$Reader" (3 : Nat) ({ cls := "java/lang/Object", name := "<init>", desc := "()V" } : Jvm.MethodName)) ∈ lw_all := lw_g (lw_at lw_m4 5 rfl) rfl
theorem q831 : (Jvm.Cond.classLink "TwoSlips$Reader" (9 : Nat) "TwoSlips$Talk") ∈ lw_all := lw_g (lw_at lw_m4 6 rfl) rfl
theorem q832 : (Jvm.Cond.methodLinkNest "TwoSlips$Reader" (11 : Nat) ({ cls := "TwoSlips$Talk", name := "<init>", desc := "()V" } : Jvm.MethodName) "TwoSlips") ∈ lw_tbl := lw_at lw_m4 7 rfl
theorem q833 : (Jvm.Cond.methodLink "TwoSlips$Reader" (26 : Nat) ({ cls := "TwoSlips$Reader", name := "next", desc := "()V" } : Jvm.MethodName)) ∈ lw_all := lw_g (lw_at lw_m4 8 rfl) rfl
theorem q834 : (Jvm.Cond.privateMethod ({ cls := "TwoSlips$Reader", name := "next", desc := "()V" } : Jvm.MethodName)) ∈ lw_tbl := lw_at lw_m4 9 rfl
theorem q835 : (Jvm.Cond.instanceMethod ({ cls := "TwoSlips$Reader", name := "next", desc := "()V" } : Jvm.MethodName)) ∈ lw_all := lw_g (lw_at lw_m4 10 rfl) rfl
theorem q836 : (Jvm.Cond.code ({ cls := "TwoSlips$Reader", name := "next", desc := "()V" } : Jvm.MethodName) prog_16_method_4_code (1 : Nat) (Option.none : Option Jvm.ClassFile.FieldType)) ∈ lw_all := lw_g (lw_at lw_m4 11 rfl) rfl
theorem q837 : (Jvm.Cond.methodLink "TwoSlips$Reader" (38 : Nat) ({ cls := "TwoSlips$Reader", name := "isSmall", desc := "(I)Z" } : Jvm.MethodName)) ∈ lw_all := lw_g (lw_at lw_m4 12 rfl) rfl
theorem q838 : (Jvm.Cond.privateMethod ({ cls := "TwoSlips$Reader", name := "isSmall", desc := "(I)Z" } : Jvm.MethodName)) ∈ lw_tbl := lw_at lw_m4 13 rfl
theorem q839 : (Jvm.Cond.instanceMethod ({ cls := "TwoSlips$Reader", name := "isSmall", desc := "(I)Z" } : Jvm.MethodName)) ∈ lw_all := lw_g (lw_at lw_m4 14 rfl) rfl
theorem q840 : (Jvm.Cond.code ({ cls := "TwoSlips$Reader", name := "isSmall", desc := "(I)Z" } : Jvm.MethodName) prog_16_method_2_code (2 : Nat) (Option.some Jvm.ClassFile.FieldType.boolean)) ∈ lw_all := lw_g (lw_at lw_m4 15 rfl) rfl
theorem q841 : (Jvm.Cond.methodLink "TwoSlips$Reader" (42 : Nat) ({ cls := "TwoSlips$Reader", name := "isDigit", desc := "(I)Z" } : Jvm.MethodName)) ∈ lw_all := lw_g (lw_at lw_m4 16 rfl) rfl
theorem q842 : (Jvm.Cond.privateMethod ({ cls := "TwoSlips$Reader", name := "isDigit", desc := "(I)Z" } : Jvm.MethodName)) ∈ lw_tbl := lw_at lw_m4 17 rfl
theorem q843 : (Jvm.Cond.instanceMethod ({ cls := "TwoSlips$Reader", name := "isDigit", desc := "(I)Z" } : Jvm.MethodName)) ∈ lw_all := lw_g (lw_at lw_m4 18 rfl) rfl
theorem q844 : (Jvm.Cond.code ({ cls := "TwoSlips$Reader", name := "isDigit", desc := "(I)Z" } : Jvm.MethodName) prog_16_method_3_code (2 : Nat) (Option.some Jvm.ClassFile.FieldType.boolean)) ∈ lw_all := lw_g (lw_at lw_m4 19 rfl) rfl
theorem q845 : (Jvm.Cond.methodLink "TwoSlips$Reader" (48 : Nat) ({ cls := "TwoSlips$Reader", name := "sign", desc := "(I)I" } : Jvm.MethodName)) ∈ lw_all := lw_g (lw_at lw_m4 20 rfl) rfl
theorem q846 : (Jvm.Cond.static ({ cls := "TwoSlips$Reader", name := "sign", desc := "(I)I" } : Jvm.MethodName)) ∈ lw_all := lw_g (lw_at lw_m4 21 rfl) rfl
theorem q847 : (Jvm.Cond.code ({ cls := "TwoSlips$Reader", name := "sign", desc := "(I)I" } : Jvm.MethodName) prog_16_method_5_code (1 : Nat) (Option.some Jvm.ClassFile.FieldType.int)) ∈ lw_all := lw_g (lw_at lw_m4 22 rfl) rfl
theorem q848 : (Jvm.Cond.fieldLink "TwoSlips$Reader" (18 : Nat) "TwoSlips$Reader" "tape" "[B") ∈ lw_all := lw_g (lw_at lw_m4 23 rfl) rfl
theorem q849 : (Jvm.Cond.fieldLink "TwoSlips$Reader" (22 : Nat) "TwoSlips$Reader" "size" "I") ∈ lw_all := lw_g (lw_at lw_m4 24 rfl) rfl
theorem q850 : (Jvm.Cond.fieldLink "TwoSlips$Reader" (12 : Nat) "TwoSlips$Reader" "made" "LTwoSlips$Talk;") ∈ lw_all := lw_g (lw_at lw_m4 25 rfl) rfl
theorem q851 : (Jvm.Cond.fieldLink "TwoSlips$Reader" (32 : Nat) "TwoSlips$Reader" "at" "I") ∈ lw_all := lw_g (lw_at lw_m4 26 rfl) rfl
theorem q852 : (Jvm.Cond.fieldLink "TwoSlips$Reader" (29 : Nat) "TwoSlips$Reader" "behind" "I") ∈ lw_all := lw_g (lw_at lw_m4 27 rfl) rfl
theorem q853 : (Jvm.Cond.fieldLink "TwoSlips$Reader" (35 : Nat) "TwoSlips$Reader" "kind" "I") ∈ lw_all := lw_g (lw_at lw_m4 28 rfl) rfl
theorem q854 : (Jvm.Cond.fieldLink "TwoSlips$Reader" (45 : Nat) "TwoSlips$Reader" "number" "I") ∈ lw_all := lw_g (lw_at lw_m4 29 rfl) rfl
theorem q855 : (Jvm.Cond.fieldLink "TwoSlips$Reader" (187 : Nat) "TwoSlips$Reader" "open" "I") ∈ lw_all := lw_g (lw_at lw_m4 30 rfl) rfl
theorem q856 : (Jvm.Cond.laysFinal "TwoSlips$Reader" "TwoSlips$Reader" "tape" "[B") ∈ lw_all := lw_g (lw_at lw_m4 31 rfl) rfl
theorem q857 : (Jvm.Cond.soleField "TwoSlips$Reader" "tape") ∈ lw_all := lw_g (lw_at lw_m4 32 rfl) rfl
theorem q858 : (Jvm.Cond.laysFinal "TwoSlips$Reader" "TwoSlips$Reader" "size" "I") ∈ lw_all := lw_g (lw_at lw_m4 33 rfl) rfl
theorem q859 : (Jvm.Cond.soleField "TwoSlips$Reader" "size") ∈ lw_all := lw_g (lw_at lw_m4 34 rfl) rfl
theorem q860 : (Jvm.Cond.laysFinal "TwoSlips$Reader" "TwoSlips$Reader" "made" "LTwoSlips$Talk;") ∈ lw_all := lw_g (lw_at lw_m4 35 rfl) rfl
theorem q861 : (Jvm.Cond.soleField "TwoSlips$Reader" "made") ∈ lw_all := lw_g (lw_at lw_m4 36 rfl) rfl
theorem q862 : (Jvm.Cond.lays "TwoSlips$Reader" "TwoSlips$Reader" "at" "I") ∈ lw_all := lw_g (lw_at lw_m4 37 rfl) rfl
theorem q863 : (Jvm.Cond.soleField "TwoSlips$Reader" "at") ∈ lw_all := lw_g (lw_at lw_m4 38 rfl) rfl
theorem q864 : (Jvm.Cond.lays "TwoSlips$Reader" "TwoSlips$Reader" "behind" "I") ∈ lw_all := lw_g (lw_at lw_m4 39 rfl) rfl
theorem q865 : (Jvm.Cond.soleField "TwoSlips$Reader" "behind") ∈ lw_all := lw_g (lw_at lw_m4 40 rfl) rfl
theorem q866 : (Jvm.Cond.lays "TwoSlips$Reader" "TwoSlips$Reader" "kind" "I") ∈ lw_all := lw_g (lw_at lw_m4 41 rfl) rfl
theorem q867 : (Jvm.Cond.soleField "TwoSlips$Reader" "kind") ∈ lw_all := lw_g (lw_at lw_m4 42 rfl) rfl
theorem q868 : (Jvm.Cond.lays "TwoSlips$Reader" "TwoSlips$Reader" "number" "I") ∈ lw_all := lw_g (lw_at lw_m4 43 rfl) rfl
theorem q869 : (Jvm.Cond.soleField "TwoSlips$Reader" "number") ∈ lw_all := lw_g (lw_at lw_m4 44 rfl) rfl
theorem q870 : (Jvm.Cond.lays "TwoSlips$Reader" "TwoSlips$Reader" "open" "I") ∈ lw_all := lw_g (lw_at lw_m4 45 rfl) rfl
theorem q871 : (Jvm.Cond.soleField "TwoSlips$Reader" "open") ∈ lw_all := lw_g (lw_at lw_m4 46 rfl) rfl
theorem q872 : (Jvm.Cond.superclass "TwoSlips$Reader" "java/lang/Object") ∈ lw_all := lw_g (lw_at lw_m4 47 rfl) rfl
theorem q874 : (Jvm.Cond.instanceMethod ({ cls := "TwoSlips$Reader", name := "all", desc := "()LTwoSlips$Talk;" } : Jvm.MethodName)) ∈ lw_all := lw_g (lw_at lw_m4 49 rfl) rfl
theorem q875 : (Jvm.Cond.selects "TwoSlips$Reader" ({ cls := "TwoSlips$Reader", name := "all", desc := "()LTwoSlips$Talk;" } : Jvm.MethodName) ({ cls := "TwoSlips$Reader", name := "all", desc := "()LTwoSlips$Talk;" } : Jvm.MethodName)) ∈ lw_all := lw_g (lw_at lw_m4 50 rfl) rfl
theorem q876 : (Jvm.Cond.code ({ cls := "TwoSlips$Reader", name := "all", desc := "()LTwoSlips$Talk;" } : Jvm.MethodName) prog_16_method_23_code (1 : Nat) (Option.some (Jvm.ClassFile.FieldType.object "TwoSlips$Talk"))) ∈ lw_all := lw_g (lw_at lw_m4 51 rfl) rfl
theorem q877 : (Jvm.Cond.methodLink "TwoSlips$Reader" (236 : Nat) ({ cls := "TwoSlips$Reader", name := "line", desc := "()V" } : Jvm.MethodName)) ∈ lw_all := lw_g (lw_at lw_m4 52 rfl) rfl
theorem q878 : (Jvm.Cond.privateMethod ({ cls := "TwoSlips$Reader", name := "line", desc := "()V" } : Jvm.MethodName)) ∈ lw_tbl := lw_at lw_m4 53 rfl
theorem q879 : (Jvm.Cond.instanceMethod ({ cls := "TwoSlips$Reader", name := "line", desc := "()V" } : Jvm.MethodName)) ∈ lw_all := lw_g (lw_at lw_m4 54 rfl) rfl
theorem q880 : (Jvm.Cond.code ({ cls := "TwoSlips$Reader", name := "line", desc := "()V" } : Jvm.MethodName) prog_16_method_17_code (1 : Nat) (Option.none : Option Jvm.ClassFile.FieldType)) ∈ lw_all := lw_g (lw_at lw_m4 55 rfl) rfl
theorem q881 : (Jvm.Cond.stringRef "TwoSlips$Reader" (148 : Nat) "numbers") ∈ lw_tbl := lw_at lw_m4 56 rfl
theorem q882 : (Jvm.Cond.methodLink "TwoSlips$Reader" (66 : Nat) ({ cls := "TwoSlips$Reader", name := "is", desc := "(Ljava/lang/String;)Z" } : Jvm.MethodName)) ∈ lw_all := lw_g (lw_at lw_m4 57 rfl) rfl
theorem q883 : (Jvm.Cond.privateMethod ({ cls := "TwoSlips$Reader", name := "is", desc := "(Ljava/lang/String;)Z" } : Jvm.MethodName)) ∈ lw_tbl := lw_at lw_m4 58 rfl
theorem q884 : (Jvm.Cond.instanceMethod ({ cls := "TwoSlips$Reader", name := "is", desc := "(Ljava/lang/String;)Z" } : Jvm.MethodName)) ∈ lw_all := lw_g (lw_at lw_m4 59 rfl) rfl
theorem q885 : (Jvm.Cond.code ({ cls := "TwoSlips$Reader", name := "is", desc := "(Ljava/lang/String;)Z" } : Jvm.MethodName) prog_16_method_7_code (2 : Nat) (Option.some Jvm.ClassFile.FieldType.boolean)) ∈ lw_all := lw_g (lw_at lw_m4 60 rfl) rfl
theorem q886 : (Jvm.Cond.methodLink "TwoSlips$Reader" (52 : Nat) ({ cls := "java/lang/String", name := "length", desc := "()I" } : Jvm.MethodName)) ∈ lw_all := lw_g (lw_at lw_m4 61 rfl) rfl
theorem q896 : (Jvm.Cond.methodLink "TwoSlips$Reader" (62 : Nat) ({ cls := "TwoSlips$Reader", name := "isAt", desc := "(Ljava/lang/String;I)Z" } : Jvm.MethodName)) ∈ lw_all := lw_g (lw_at lw_m4 71 rfl) rfl
theorem q897 : (Jvm.Cond.privateMethod ({ cls := "TwoSlips$Reader", name := "isAt", desc := "(Ljava/lang/String;I)Z" } : Jvm.MethodName)) ∈ lw_tbl := lw_at lw_m4 72 rfl
theorem q898 : (Jvm.Cond.instanceMethod ({ cls := "TwoSlips$Reader", name := "isAt", desc := "(Ljava/lang/String;I)Z" } : Jvm.MethodName)) ∈ lw_all := lw_g (lw_at lw_m4 73 rfl) rfl
theorem q899 : (Jvm.Cond.code ({ cls := "TwoSlips$Reader", name := "isAt", desc := "(Ljava/lang/String;I)Z" } : Jvm.MethodName) prog_16_method_6_code (4 : Nat) (Option.some Jvm.ClassFile.FieldType.boolean)) ∈ lw_all := lw_g (lw_at lw_m4 74 rfl) rfl
theorem q900 : (Jvm.Cond.methodLink "TwoSlips$Reader" (58 : Nat) ({ cls := "java/lang/String", name := "charAt", desc := "(I)C" } : Jvm.MethodName)) ∈ lw_all := lw_g (lw_at lw_m4 75 rfl) rfl
theorem q936 : (Jvm.Cond.methodLink "TwoSlips$Reader" (150 : Nat) ({ cls := "TwoSlips$Reader", name := "numbers", desc := "()V" } : Jvm.MethodName)) ∈ lw_all := lw_g (lw_at lw_m4 111 rfl) rfl
theorem q937 : (Jvm.Cond.privateMethod ({ cls := "TwoSlips$Reader", name := "numbers", desc := "()V" } : Jvm.MethodName)) ∈ lw_tbl := lw_at lw_m4 112 rfl
theorem q938 : (Jvm.Cond.instanceMethod ({ cls := "TwoSlips$Reader", name := "numbers", desc := "()V" } : Jvm.MethodName)) ∈ lw_all := lw_g (lw_at lw_m4 113 rfl) rfl
theorem q939 : (Jvm.Cond.code ({ cls := "TwoSlips$Reader", name := "numbers", desc := "()V" } : Jvm.MethodName) prog_16_method_14_code (2 : Nat) (Option.none : Option Jvm.ClassFile.FieldType)) ∈ lw_all := lw_g (lw_at lw_m4 114 rfl) rfl
theorem q940 : (Jvm.Cond.methodLink "TwoSlips$Reader" (91 : Nat) ({ cls := "TwoSlips$Reader", name := "number", desc := "(II)I" } : Jvm.MethodName)) ∈ lw_all := lw_g (lw_at lw_m4 115 rfl) rfl
theorem q941 : (Jvm.Cond.privateMethod ({ cls := "TwoSlips$Reader", name := "number", desc := "(II)I" } : Jvm.MethodName)) ∈ lw_tbl := lw_at lw_m4 116 rfl
theorem q942 : (Jvm.Cond.instanceMethod ({ cls := "TwoSlips$Reader", name := "number", desc := "(II)I" } : Jvm.MethodName)) ∈ lw_all := lw_g (lw_at lw_m4 117 rfl) rfl
theorem q943 : (Jvm.Cond.code ({ cls := "TwoSlips$Reader", name := "number", desc := "(II)I" } : Jvm.MethodName) prog_16_method_10_code (4 : Nat) (Option.some Jvm.ClassFile.FieldType.int)) ∈ lw_all := lw_g (lw_at lw_m4 118 rfl) rfl
theorem q944 : (Jvm.Cond.methodLink "TwoSlips$Reader" (75 : Nat) ({ cls := "TwoSlips$Reader", name := "wrong", desc := "()LTwoSlips$Bad;" } : Jvm.MethodName)) ∈ lw_all := lw_g (lw_at lw_m4 119 rfl) rfl
theorem q945 : (Jvm.Cond.privateMethod ({ cls := "TwoSlips$Reader", name := "wrong", desc := "()LTwoSlips$Bad;" } : Jvm.MethodName)) ∈ lw_tbl := lw_at lw_m4 120 rfl
theorem q946 : (Jvm.Cond.instanceMethod ({ cls := "TwoSlips$Reader", name := "wrong", desc := "()LTwoSlips$Bad;" } : Jvm.MethodName)) ∈ lw_all := lw_g (lw_at lw_m4 121 rfl) rfl
theorem q947 : (Jvm.Cond.code ({ cls := "TwoSlips$Reader", name := "wrong", desc := "()LTwoSlips$Bad;" } : Jvm.MethodName) prog_16_method_9_code (1 : Nat) (Option.some (Jvm.ClassFile.FieldType.object "TwoSlips$Bad"))) ∈ lw_all := lw_g (lw_at lw_m4 122 rfl) rfl
theorem q948 : (Jvm.Cond.classLink "TwoSlips$Reader" (70 : Nat) "TwoSlips$Bad") ∈ lw_all := lw_g (lw_at lw_m4 123 rfl) rfl
theorem q957 : (Jvm.Cond.methodLink "TwoSlips$Reader" (72 : Nat) ({ cls := "TwoSlips$Bad", name := "<init>", desc := "(II)V" } : Jvm.MethodName)) ∈ lw_all := lw_g (lw_at lw_m4 132 rfl) rfl
theorem q976 : (Jvm.Cond.methodLinkNest "TwoSlips$Reader" (79 : Nat) ({ cls := "TwoSlips", name := "isIn", desc := "(JJJ)Z" } : Jvm.MethodName) "TwoSlips") ∈ lw_tbl := lw_at lw_m4 151 rfl
theorem q977 : (Jvm.Cond.stringRef "TwoSlips$Reader" (99 : Nat) "to") ∈ lw_tbl := lw_at lw_m4 152 rfl
theorem q978 : (Jvm.Cond.methodLink "TwoSlips$Reader" (101 : Nat) ({ cls := "TwoSlips$Reader", name := "eats", desc := "(Ljava/lang/String;)Z" } : Jvm.MethodName)) ∈ lw_all := lw_g (lw_at lw_m4 153 rfl) rfl
theorem q979 : (Jvm.Cond.privateMethod ({ cls := "TwoSlips$Reader", name := "eats", desc := "(Ljava/lang/String;)Z" } : Jvm.MethodName)) ∈ lw_tbl := lw_at lw_m4 154 rfl
theorem q980 : (Jvm.Cond.instanceMethod ({ cls := "TwoSlips$Reader", name := "eats", desc := "(Ljava/lang/String;)Z" } : Jvm.MethodName)) ∈ lw_all := lw_g (lw_at lw_m4 155 rfl) rfl
theorem q981 : (Jvm.Cond.code ({ cls := "TwoSlips$Reader", name := "eats", desc := "(Ljava/lang/String;)Z" } : Jvm.MethodName) prog_16_method_8_code (3 : Nat) (Option.some Jvm.ClassFile.FieldType.boolean)) ∈ lw_all := lw_g (lw_at lw_m4 156 rfl) rfl
theorem q982 : (Jvm.Cond.stringRef "TwoSlips$Reader" (152 : Nat) "speaker") ∈ lw_tbl := lw_at lw_m4 157 rfl
theorem q983 : (Jvm.Cond.methodLink "TwoSlips$Reader" (153 : Nat) ({ cls := "TwoSlips$Reader", name := "teller", desc := "()V" } : Jvm.MethodName)) ∈ lw_all := lw_g (lw_at lw_m4 158 rfl) rfl
theorem q984 : (Jvm.Cond.privateMethod ({ cls := "TwoSlips$Reader", name := "teller", desc := "()V" } : Jvm.MethodName)) ∈ lw_tbl := lw_at lw_m4 159 rfl
theorem q985 : (Jvm.Cond.instanceMethod ({ cls := "TwoSlips$Reader", name := "teller", desc := "()V" } : Jvm.MethodName)) ∈ lw_all := lw_g (lw_at lw_m4 160 rfl) rfl
theorem q986 : (Jvm.Cond.code ({ cls := "TwoSlips$Reader", name := "teller", desc := "()V" } : Jvm.MethodName) prog_16_method_15_code (3 : Nat) (Option.none : Option Jvm.ClassFile.FieldType)) ∈ lw_all := lw_g (lw_at lw_m4 161 rfl) rfl
theorem q987 : (Jvm.Cond.methodLink "TwoSlips$Reader" (87 : Nat) ({ cls := "java/util/ArrayList", name := "size", desc := "()I" } : Jvm.MethodName)) ∈ lw_all := lw_g (lw_at lw_m4 162 rfl) rfl
theorem q988 : (Jvm.Cond.methodLink "TwoSlips$Reader" (110 : Nat) ({ cls := "TwoSlips$Reader", name := "sightHere", desc := "()I" } : Jvm.MethodName)) ∈ lw_all := lw_g (lw_at lw_m4 163 rfl) rfl
theorem q989 : (Jvm.Cond.privateMethod ({ cls := "TwoSlips$Reader", name := "sightHere", desc := "()I" } : Jvm.MethodName)) ∈ lw_tbl := lw_at lw_m4 164 rfl
theorem q990 : (Jvm.Cond.instanceMethod ({ cls := "TwoSlips$Reader", name := "sightHere", desc := "()I" } : Jvm.MethodName)) ∈ lw_all := lw_g (lw_at lw_m4 165 rfl) rfl
theorem q991 : (Jvm.Cond.code ({ cls := "TwoSlips$Reader", name := "sightHere", desc := "()I" } : Jvm.MethodName) prog_16_method_13_code (4 : Nat) (Option.some Jvm.ClassFile.FieldType.int)) ∈ lw_all := lw_g (lw_at lw_m4 166 rfl) rfl
theorem q992 : (Jvm.Cond.stringRef "TwoSlips$Reader" (94 : Nat) " sum product greater less difference squares odd digit nothing ") ∈ lw_tbl := lw_at lw_m4 167 rfl
theorem q993 : (Jvm.Cond.methodLink "TwoSlips$Reader" (96 : Nat) ({ cls := "java/lang/String", name := "indexOf", desc := "(II)I" } : Jvm.MethodName)) ∈ lw_all := lw_g (lw_at lw_m4 168 rfl) rfl
theorem q1044 : (Jvm.Cond.classLink "TwoSlips$Reader" (113 : Nat) "TwoSlips$Speaker") ∈ lw_all := lw_g (lw_at lw_m4 219 rfl) rfl
theorem q1046 : (Jvm.Cond.methodLink "TwoSlips$Reader" (115 : Nat) ({ cls := "TwoSlips$Speaker", name := "<init>", desc := "(I)V" } : Jvm.MethodName)) ∈ lw_all := lw_g (lw_at lw_m4 221 rfl) rfl
theorem q1110 : (Jvm.Cond.fieldLinkNest "TwoSlips$Reader" (120 : Nat) "TwoSlips$Speaker" "isLiar" "Z" "TwoSlips") ∈ lw_tbl := lw_at lw_m5 45 rfl
theorem q1113 : (Jvm.Cond.fieldLinkNest "TwoSlips$Reader" (126 : Nat) "TwoSlips$Speaker" "isDeaf" "Z" "TwoSlips") ∈ lw_tbl := lw_at lw_m5 48 rfl
theorem q1124 : (Jvm.Cond.stringRef "TwoSlips$Reader" (118 : Nat) "liar") ∈ lw_tbl := lw_at lw_m5 59 rfl
theorem q1125 : (Jvm.Cond.stringRef "TwoSlips$Reader" (124 : Nat) "deaf") ∈ lw_tbl := lw_at lw_m5 60 rfl
theorem q1126 : (Jvm.Cond.methodLink "TwoSlips$Reader" (129 : Nat) ({ cls := "java/util/ArrayList", name := "add", desc := "(Ljava/lang/Object;)Z" } : Jvm.MethodName)) ∈ lw_all := lw_g (lw_at lw_m5 61 rfl) rfl
theorem q1170 : (Jvm.Cond.selects "TwoSlips$Reader" ({ cls := "java/lang/Object", name := "getClass", desc := "()Ljava/lang/Class;" } : Jvm.MethodName) ({ cls := "java/lang/Object", name := "getClass", desc := "()Ljava/lang/Class;" } : Jvm.MethodName)) ∈ lw_all := lw_g (lw_at lw_m5 105 rfl) rfl
theorem q1203 : (Jvm.Cond.stringRef "TwoSlips$Reader" (156 : Nat) "say") ∈ lw_tbl := lw_at lw_m5 138 rfl
theorem q1204 : (Jvm.Cond.methodLink "TwoSlips$Reader" (158 : Nat) ({ cls := "TwoSlips$Reader", name := "say", desc := "()V" } : Jvm.MethodName)) ∈ lw_all := lw_g (lw_at lw_m5 139 rfl) rfl
theorem q1205 : (Jvm.Cond.privateMethod ({ cls := "TwoSlips$Reader", name := "say", desc := "()V" } : Jvm.MethodName)) ∈ lw_tbl := lw_at lw_m5 140 rfl
theorem q1206 : (Jvm.Cond.instanceMethod ({ cls := "TwoSlips$Reader", name := "say", desc := "()V" } : Jvm.MethodName)) ∈ lw_all := lw_g (lw_at lw_m5 141 rfl) rfl
theorem q1207 : (Jvm.Cond.code ({ cls := "TwoSlips$Reader", name := "say", desc := "()V" } : Jvm.MethodName) prog_16_method_16_code (2 : Nat) (Option.none : Option Jvm.ClassFile.FieldType)) ∈ lw_all := lw_g (lw_at lw_m5 142 rfl) rfl
theorem q1208 : (Jvm.Cond.methodLink "TwoSlips$Reader" (136 : Nat) ({ cls := "TwoSlips$Reader", name := "speaker", desc := "()I" } : Jvm.MethodName)) ∈ lw_all := lw_g (lw_at lw_m5 143 rfl) rfl
theorem q1209 : (Jvm.Cond.privateMethod ({ cls := "TwoSlips$Reader", name := "speaker", desc := "()I" } : Jvm.MethodName)) ∈ lw_tbl := lw_at lw_m5 144 rfl
theorem q1210 : (Jvm.Cond.instanceMethod ({ cls := "TwoSlips$Reader", name := "speaker", desc := "()I" } : Jvm.MethodName)) ∈ lw_all := lw_g (lw_at lw_m5 145 rfl) rfl
theorem q1211 : (Jvm.Cond.code ({ cls := "TwoSlips$Reader", name := "speaker", desc := "()I" } : Jvm.MethodName) prog_16_method_12_code (1 : Nat) (Option.some Jvm.ClassFile.FieldType.int)) ∈ lw_all := lw_g (lw_at lw_m5 146 rfl) rfl
theorem q1212 : (Jvm.Cond.classLink "TwoSlips$Reader" (139 : Nat) "TwoSlips$Turn") ∈ lw_all := lw_g (lw_at lw_m5 147 rfl) rfl
theorem q1214 : (Jvm.Cond.methodLink "TwoSlips$Reader" (141 : Nat) ({ cls := "TwoSlips$Reader", name := "saying", desc := "()LTwoSlips$Saying;" } : Jvm.MethodName)) ∈ lw_all := lw_g (lw_at lw_m5 149 rfl) rfl
theorem q1215 : (Jvm.Cond.privateMethod ({ cls := "TwoSlips$Reader", name := "saying", desc := "()LTwoSlips$Saying;" } : Jvm.MethodName)) ∈ lw_tbl := lw_at lw_m5 150 rfl
theorem q1216 : (Jvm.Cond.instanceMethod ({ cls := "TwoSlips$Reader", name := "saying", desc := "()LTwoSlips$Saying;" } : Jvm.MethodName)) ∈ lw_all := lw_g (lw_at lw_m5 151 rfl) rfl
theorem q1217 : (Jvm.Cond.code ({ cls := "TwoSlips$Reader", name := "saying", desc := "()LTwoSlips$Saying;" } : Jvm.MethodName) prog_16_method_18_code (2 : Nat) (Option.some (Jvm.ClassFile.FieldType.object "TwoSlips$Saying"))) ∈ lw_all := lw_g (lw_at lw_m5 152 rfl) rfl
theorem q1218 : (Jvm.Cond.methodLink "TwoSlips$Reader" (172 : Nat) ({ cls := "TwoSlips$Reader", name := "part", desc := "()LTwoSlips$Saying;" } : Jvm.MethodName)) ∈ lw_all := lw_g (lw_at lw_m5 153 rfl) rfl
theorem q1219 : (Jvm.Cond.privateMethod ({ cls := "TwoSlips$Reader", name := "part", desc := "()LTwoSlips$Saying;" } : Jvm.MethodName)) ∈ lw_tbl := lw_at lw_m5 154 rfl
theorem q1220 : (Jvm.Cond.instanceMethod ({ cls := "TwoSlips$Reader", name := "part", desc := "()LTwoSlips$Saying;" } : Jvm.MethodName)) ∈ lw_all := lw_g (lw_at lw_m5 155 rfl) rfl
theorem q1221 : (Jvm.Cond.code ({ cls := "TwoSlips$Reader", name := "part", desc := "()LTwoSlips$Saying;" } : Jvm.MethodName) prog_16_method_19_code (2 : Nat) (Option.some (Jvm.ClassFile.FieldType.object "TwoSlips$Saying"))) ∈ lw_all := lw_g (lw_at lw_m5 156 rfl) rfl
theorem q1222 : (Jvm.Cond.methodLink "TwoSlips$Reader" (182 : Nat) ({ cls := "TwoSlips$Reader", name := "fact", desc := "()LTwoSlips$Saying;" } : Jvm.MethodName)) ∈ lw_all := lw_g (lw_at lw_m5 157 rfl) rfl
theorem q1223 : (Jvm.Cond.privateMethod ({ cls := "TwoSlips$Reader", name := "fact", desc := "()LTwoSlips$Saying;" } : Jvm.MethodName)) ∈ lw_tbl := lw_at lw_m5 158 rfl
theorem q1224 : (Jvm.Cond.instanceMethod ({ cls := "TwoSlips$Reader", name := "fact", desc := "()LTwoSlips$Saying;" } : Jvm.MethodName)) ∈ lw_all := lw_g (lw_at lw_m5 159 rfl) rfl
theorem q1225 : (Jvm.Cond.code ({ cls := "TwoSlips$Reader", name := "fact", desc := "()LTwoSlips$Saying;" } : Jvm.MethodName) prog_16_method_22_code (2 : Nat) (Option.some (Jvm.ClassFile.FieldType.object "TwoSlips$Saying"))) ∈ lw_all := lw_g (lw_at lw_m5 160 rfl) rfl
theorem q1226 : (Jvm.Cond.methodLink "TwoSlips$Reader" (196 : Nat) ({ cls := "TwoSlips$Reader", name := "within", desc := "()LTwoSlips$Saying;" } : Jvm.MethodName)) ∈ lw_all := lw_g (lw_at lw_m5 161 rfl) rfl
theorem q1227 : (Jvm.Cond.privateMethod ({ cls := "TwoSlips$Reader", name := "within", desc := "()LTwoSlips$Saying;" } : Jvm.MethodName)) ∈ lw_tbl := lw_at lw_m5 162 rfl
theorem q1228 : (Jvm.Cond.instanceMethod ({ cls := "TwoSlips$Reader", name := "within", desc := "()LTwoSlips$Saying;" } : Jvm.MethodName)) ∈ lw_all := lw_g (lw_at lw_m5 163 rfl) rfl
theorem q1229 : (Jvm.Cond.code ({ cls := "TwoSlips$Reader", name := "within", desc := "()LTwoSlips$Saying;" } : Jvm.MethodName) prog_16_method_21_code (2 : Nat) (Option.some (Jvm.ClassFile.FieldType.object "TwoSlips$Saying"))) ∈ lw_all := lw_g (lw_at lw_m5 164 rfl) rfl
theorem q1230 : (Jvm.Cond.methodLink "TwoSlips$Reader" (190 : Nat) ({ cls := "TwoSlips$Reader", name := "opens", desc := "()V" } : Jvm.MethodName)) ∈ lw_all := lw_g (lw_at lw_m5 165 rfl) rfl
theorem q1231 : (Jvm.Cond.privateMethod ({ cls := "TwoSlips$Reader", name := "opens", desc := "()V" } : Jvm.MethodName)) ∈ lw_tbl := lw_at lw_m5 166 rfl
theorem q1232 : (Jvm.Cond.instanceMethod ({ cls := "TwoSlips$Reader", name := "opens", desc := "()V" } : Jvm.MethodName)) ∈ lw_all := lw_g (lw_at lw_m5 167 rfl) rfl
theorem q1233 : (Jvm.Cond.code ({ cls := "TwoSlips$Reader", name := "opens", desc := "()V" } : Jvm.MethodName) prog_16_method_20_code (1 : Nat) (Option.none : Option Jvm.ClassFile.FieldType)) ∈ lw_all := lw_g (lw_at lw_m5 168 rfl) rfl
theorem q1234 : (Jvm.Cond.methodLink "TwoSlips$Reader" (193 : Nat) ({ cls := "TwoSlips$Reader", name := "must", desc := "(I)V" } : Jvm.MethodName)) ∈ lw_all := lw_g (lw_at lw_m5 169 rfl) rfl
theorem q1235 : (Jvm.Cond.privateMethod ({ cls := "TwoSlips$Reader", name := "must", desc := "(I)V" } : Jvm.MethodName)) ∈ lw_tbl := lw_at lw_m5 170 rfl
theorem q1236 : (Jvm.Cond.instanceMethod ({ cls := "TwoSlips$Reader", name := "must", desc := "(I)V" } : Jvm.MethodName)) ∈ lw_all := lw_g (lw_at lw_m5 171 rfl) rfl
theorem q1237 : (Jvm.Cond.code ({ cls := "TwoSlips$Reader", name := "must", desc := "(I)V" } : Jvm.MethodName) prog_16_method_11_code (2 : Nat) (Option.none : Option Jvm.ClassFile.FieldType)) ∈ lw_all := lw_g (lw_at lw_m5 172 rfl) rfl
theorem q1238 : (Jvm.Cond.stringRef "TwoSlips$Reader" (199 : Nat) "not") ∈ lw_tbl := lw_at lw_m5 173 rfl
theorem q1239 : (Jvm.Cond.classLink "TwoSlips$Reader" (201 : Nat) "TwoSlips$Not") ∈ lw_all := lw_g (lw_at lw_m5 174 rfl) rfl
theorem q1241 : (Jvm.Cond.methodLink "TwoSlips$Reader" (203 : Nat) ({ cls := "TwoSlips$Not", name := "<init>", desc := "(LTwoSlips$Saying;)V" } : Jvm.MethodName)) ∈ lw_all := lw_g (lw_at lw_m5 176 rfl) rfl
theorem q1252 : (Jvm.Cond.stringRef "TwoSlips$Reader" (206 : Nat) "knows") ∈ lw_tbl := lw_at lw_m5 187 rfl
theorem q1253 : (Jvm.Cond.classLink "TwoSlips$Reader" (208 : Nat) "TwoSlips$Knows") ∈ lw_all := lw_g (lw_at lw_m5 188 rfl) rfl
theorem q1255 : (Jvm.Cond.methodLink "TwoSlips$Reader" (210 : Nat) ({ cls := "TwoSlips$Knows", name := "<init>", desc := "(I)V" } : Jvm.MethodName)) ∈ lw_all := lw_g (lw_at lw_m5 190 rfl) rfl
theorem q1263 : (Jvm.Cond.stringRef "TwoSlips$Reader" (211 : Nat) "sees") ∈ lw_tbl := lw_at lw_m5 198 rfl
theorem q1264 : (Jvm.Cond.classLink "TwoSlips$Reader" (213 : Nat) "TwoSlips$Sees") ∈ lw_all := lw_g (lw_at lw_m5 199 rfl) rfl
theorem q1266 : (Jvm.Cond.methodLink "TwoSlips$Reader" (215 : Nat) ({ cls := "TwoSlips$Sees", name := "<init>", desc := "(ILTwoSlips$Saying;)V" } : Jvm.MethodName)) ∈ lw_all := lw_g (lw_at lw_m5 201 rfl) rfl
theorem q1277 : (Jvm.Cond.stringRef "TwoSlips$Reader" (216 : Nat) "was") ∈ lw_tbl := lw_at lw_m5 212 rfl
theorem q1278 : (Jvm.Cond.classLink "TwoSlips$Reader" (218 : Nat) "TwoSlips$Was") ∈ lw_all := lw_g (lw_at lw_m5 213 rfl) rfl
theorem q1280 : (Jvm.Cond.methodLink "TwoSlips$Reader" (220 : Nat) ({ cls := "TwoSlips$Was", name := "<init>", desc := "(ILTwoSlips$Saying;)V" } : Jvm.MethodName)) ∈ lw_all := lw_g (lw_at lw_m5 215 rfl) rfl
theorem q1291 : (Jvm.Cond.stringRef "TwoSlips$Reader" (221 : Nat) "even") ∈ lw_tbl := lw_at lw_m5 226 rfl
theorem q1292 : (Jvm.Cond.classLink "TwoSlips$Reader" (223 : Nat) "TwoSlips$Even") ∈ lw_all := lw_g (lw_at lw_m5 227 rfl) rfl
theorem q1294 : (Jvm.Cond.methodLinkNest "TwoSlips$Reader" (225 : Nat) ({ cls := "TwoSlips$Even", name := "<init>", desc := "()V" } : Jvm.MethodName) "TwoSlips") ∈ lw_tbl := lw_at lw_m5 229 rfl
theorem q1302 : (Jvm.Cond.stringRef "TwoSlips$Reader" (226 : Nat) "same") ∈ lw_tbl := lw_at lw_m5 237 rfl
theorem q1303 : (Jvm.Cond.classLink "TwoSlips$Reader" (228 : Nat) "TwoSlips$Same") ∈ lw_all := lw_g (lw_at lw_m5 238 rfl) rfl
theorem q1305 : (Jvm.Cond.methodLinkNest "TwoSlips$Reader" (230 : Nat) ({ cls := "TwoSlips$Same", name := "<init>", desc := "()V" } : Jvm.MethodName) "TwoSlips") ∈ lw_tbl := lw_at lw_m6 0 rfl
theorem q1310 : (Jvm.Cond.stringRef "TwoSlips$Reader" (231 : Nat) "above") ∈ lw_tbl := lw_at lw_m6 5 rfl
theorem q1311 : (Jvm.Cond.classLink "TwoSlips$Reader" (233 : Nat) "TwoSlips$Above") ∈ lw_all := lw_g (lw_at lw_m6 6 rfl) rfl
theorem q1313 : (Jvm.Cond.methodLink "TwoSlips$Reader" (235 : Nat) ({ cls := "TwoSlips$Above", name := "<init>", desc := "(I)V" } : Jvm.MethodName)) ∈ lw_all := lw_g (lw_at lw_m6 8 rfl) rfl
theorem q1321 : (Jvm.Cond.stringRef "TwoSlips$Reader" (185 : Nat) "and") ∈ lw_tbl := lw_at lw_m6 16 rfl
theorem q1322 : (Jvm.Cond.classLink "TwoSlips$Reader" (177 : Nat) "TwoSlips$Pair") ∈ lw_all := lw_g (lw_at lw_m6 17 rfl) rfl
theorem q1324 : (Jvm.Cond.methodLink "TwoSlips$Reader" (179 : Nat) ({ cls := "TwoSlips$Pair", name := "<init>", desc := "(ZLTwoSlips$Saying;LTwoSlips$Saying;)V" } : Jvm.MethodName)) ∈ lw_all := lw_g (lw_at lw_m6 19 rfl) rfl
theorem q1338 : (Jvm.Cond.stringRef "TwoSlips$Reader" (175 : Nat) "or") ∈ lw_tbl := lw_at lw_m6 33 rfl
theorem q1339 : (Jvm.Cond.methodLink "TwoSlips$Reader" (145 : Nat) ({ cls := "TwoSlips$Turn", name := "<init>", desc := "(ILTwoSlips$Saying;)V" } : Jvm.MethodName)) ∈ lw_all := lw_g (lw_at lw_m6 34 rfl) rfl
theorem q1356 : (Jvm.Cond.stringRef "TwoSlips$Reader" (160 : Nat) "most") ∈ lw_tbl := lw_at lw_m6 51 rfl
theorem q1357 : (Jvm.Cond.stringRef "TwoSlips$Reader" (164 : Nat) "unlike") ∈ lw_tbl := lw_at lw_m6 52 rfl
theorem q2436 : (Jvm.Cond.castable "TwoSlips$Reader" "java/lang/Object") ∈ lw_tbl := lw_at lw_m10 171 rfl
theorem in_X11 : ∀ w ∈ wsX110, w ∈ lw_all := lw_in wsX110 [856, 858, 860, 862, 864, 866, 868, 870] (by decide +kernel) (by decide +kernel)

/-! TwoSlips$Bad -/
set_option maxRecDepth 100000
def RX12 : String := "TwoSlips$Bad"
def TX12 : u_T := fun k => match k with
  | 0 => ("java/lang/Throwable", "cause", "Ljava/lang/Throwable;", false)
  | 1 => ("java/lang/Throwable", "stackTrace", "[Ljava/lang/StackTraceElement;", false)
  | 2 => ("java/lang/Throwable", "suppressedExceptions", "Ljava/util/List;", false)
  | 3 => ("java/lang/Throwable", "detailMessage", "Ljava/lang/String;", false)
  | 4 => ("java/lang/Throwable", "backtrace", "Ljava/lang/Object;", false)
  | 5 => ("java/lang/Throwable", "depth", "I", false)
  | 6 => ("TwoSlips$Bad", "kind", "I", true)
  | _ => ("TwoSlips$Bad", "place", "I", true)
def tyX12 : Nat → FieldType := fun k => match k with
  | 0 => .object "java/lang/Throwable"
  | 1 => .array (.object "java/lang/StackTraceElement")
  | 2 => .object "java/util/List"
  | 3 => .object "java/lang/String"
  | 4 => .object "java/lang/Object"
  | 5 => .int
  | 6 => .int
  | _ => .int
abbrev wsX120 : List Cond := u_ws RX12 TX12 8
theorem nmX12 : ∀ a, a < 8 → ∀ b, b < 8 → a ≠ b → (TX12 a).2.1 ≠ (TX12 b).2.1 := by decide +kernel
theorem tyX12_ok : ∀ k, k < 8 → parseFieldDescriptor (TX12 k).2.2.1 = some (tyX12 k) := by decide +kernel
abbrev cX12_init : ByteArray := prog_3_method_1_code
def yX12_init : MethodName := ⟨RX12, "<init>", "(II)V"⟩
def dkwX12_init_0 : List UInt8 := [42, 1, 1, 3, 3, 183, 0, 1, 42, 27, 181, 0, 7, 42, 28, 181, 0, 13, 177]
abbrev dktX12_init_0 : List UInt8 := dkwX12_init_0 ++ []
theorem dksX12_init_0 : cX12_init.data.toList.drop 0 = dktX12_init_0 := by decide +kernel
theorem dX12_init_0 : decode cX12_init 0 = .ok (.aload_n 0, 1) := dk_42 (dk_at dksX12_init_0 0 rfl rfl)
theorem dX12_init_1 : decode cX12_init 1 = .ok (.aconst_null, 1) := dk_1 (dk_at dksX12_init_0 1 rfl rfl)
theorem dX12_init_2 : decode cX12_init 2 = .ok (.aconst_null, 1) := dk_1 (dk_at dksX12_init_0 2 rfl rfl)
theorem dX12_init_3 : decode cX12_init 3 = .ok (.iconst 0, 1) := dk_3 (dk_at dksX12_init_0 3 rfl rfl)
theorem dX12_init_4 : decode cX12_init 4 = .ok (.iconst 0, 1) := dk_3 (dk_at dksX12_init_0 4 rfl rfl)
theorem dX12_init_5 : decode cX12_init 5 = .ok (.invokespecial 1, 3) := dk_183 0 1 (dk_at dksX12_init_0 5 rfl rfl)
theorem dX12_init_8 : decode cX12_init 8 = .ok (.aload_n 0, 1) := dk_42 (dk_at dksX12_init_0 8 rfl rfl)
theorem dX12_init_9 : decode cX12_init 9 = .ok (.iload_n 1, 1) := dk_27 (dk_at dksX12_init_0 9 rfl rfl)
theorem dX12_init_10 : decode cX12_init 10 = .ok (.putfield 7, 3) := dk_181 0 7 (dk_at dksX12_init_0 10 rfl rfl)
theorem dX12_init_13 : decode cX12_init 13 = .ok (.aload_n 0, 1) := dk_42 (dk_at dksX12_init_0 13 rfl rfl)
theorem dX12_init_14 : decode cX12_init 14 = .ok (.iload_n 2, 1) := dk_28 (dk_at dksX12_init_0 14 rfl rfl)
theorem dX12_init_15 : decode cX12_init 15 = .ok (.putfield 13, 3) := dk_181 0 13 (dk_at dksX12_init_0 15 rfl rfl)
theorem dX12_init_18 : decode cX12_init 18 = .ok (.return_, 1) := dk_177 (dk_at dksX12_init_0 18 rfl rfl)
theorem q128 : (Jvm.Cond.initialized "TwoSlips$Bad") ∈ lw_all := lw_g (lw_at lw_m1 23 rfl) rfl
theorem q776 : (Jvm.Cond.selects "TwoSlips$Bad" ({ cls := "java/lang/Throwable", name := "fillInStackTrace", desc := "()Ljava/lang/Throwable;" } : Jvm.MethodName) ({ cls := "java/lang/Throwable", name := "fillInStackTrace", desc := "()Ljava/lang/Throwable;" } : Jvm.MethodName)) ∈ lw_all := lw_g (lw_at lw_m3 191 rfl) rfl
theorem q949 : (Jvm.Cond.instantiable "TwoSlips$Bad" (8 : Nat)) ∈ lw_all := lw_g (lw_at lw_m4 124 rfl) rfl
theorem q950 : (Jvm.Cond.castable "TwoSlips$Bad" "TwoSlips$Bad") ∈ lw_tbl := lw_at lw_m4 125 rfl
theorem q951 : (Jvm.Cond.selects "TwoSlips$Bad" ({ cls := "java/lang/Throwable", name := "fillInStackTrace", desc := "(I)Ljava/lang/Throwable;" } : Jvm.MethodName) ({ cls := "java/lang/Throwable", name := "fillInStackTrace", desc := "(I)Ljava/lang/Throwable;" } : Jvm.MethodName)) ∈ lw_all := lw_g (lw_at lw_m4 126 rfl) rfl
theorem q952 : (Jvm.Cond.lays "TwoSlips$Bad" "java/lang/Throwable" "cause" "Ljava/lang/Throwable;") ∈ lw_all := lw_g (lw_at lw_m4 127 rfl) rfl
theorem q953 : (Jvm.Cond.lays "TwoSlips$Bad" "java/lang/Throwable" "stackTrace" "[Ljava/lang/StackTraceElement;") ∈ lw_all := lw_g (lw_at lw_m4 128 rfl) rfl
theorem q954 : (Jvm.Cond.lays "TwoSlips$Bad" "java/lang/Throwable" "suppressedExceptions" "Ljava/util/List;") ∈ lw_all := lw_g (lw_at lw_m4 129 rfl) rfl
theorem q955 : (Jvm.Cond.lays "TwoSlips$Bad" "java/lang/Throwable" "detailMessage" "Ljava/lang/String;") ∈ lw_all := lw_g (lw_at lw_m4 130 rfl) rfl
theorem q956 : (Jvm.Cond.lays "TwoSlips$Bad" "java/lang/Throwable" "backtrace" "Ljava/lang/Object;") ∈ lw_all := lw_g (lw_at lw_m4 131 rfl) rfl
theorem q958 : (Jvm.Cond.instanceMethod ({ cls := "TwoSlips$Bad", name := "<init>", desc := "(II)V" } : Jvm.MethodName)) ∈ lw_all := lw_g (lw_at lw_m4 133 rfl) rfl
theorem q959 : (Jvm.Cond.code ({ cls := "TwoSlips$Bad", name := "<init>", desc := "(II)V" } : Jvm.MethodName) prog_3_method_1_code (3 : Nat) (Option.none : Option Jvm.ClassFile.FieldType)) ∈ lw_all := lw_g (lw_at lw_m4 134 rfl) rfl
theorem q960 : (Jvm.Cond.methodLink "TwoSlips$Bad" (1 : Nat) ({ cls := "java/lang/Exception", name := "<init>", desc := "(Ljava/lang/String;Ljava/lang/Throwable;ZZ)V" } : Jvm.MethodName)) ∈ lw_all := lw_g (lw_at lw_m4 135 rfl) rfl
theorem q966 : (Jvm.Cond.fieldLink "TwoSlips$Bad" (7 : Nat) "TwoSlips$Bad" "kind" "I") ∈ lw_all := lw_g (lw_at lw_m4 141 rfl) rfl
theorem q968 : (Jvm.Cond.fieldLink "TwoSlips$Bad" (13 : Nat) "TwoSlips$Bad" "place" "I") ∈ lw_all := lw_g (lw_at lw_m4 143 rfl) rfl
theorem q970 : (Jvm.Cond.laysFinal "TwoSlips$Bad" "TwoSlips$Bad" "kind" "I") ∈ lw_all := lw_g (lw_at lw_m4 145 rfl) rfl
theorem q971 : (Jvm.Cond.soleField "TwoSlips$Bad" "kind") ∈ lw_all := lw_g (lw_at lw_m4 146 rfl) rfl
theorem q972 : (Jvm.Cond.laysFinal "TwoSlips$Bad" "TwoSlips$Bad" "place" "I") ∈ lw_all := lw_g (lw_at lw_m4 147 rfl) rfl
theorem q973 : (Jvm.Cond.soleField "TwoSlips$Bad" "place") ∈ lw_all := lw_g (lw_at lw_m4 148 rfl) rfl
theorem q974 : (Jvm.Cond.lays "TwoSlips$Bad" "java/lang/Throwable" "depth" "I") ∈ lw_all := lw_g (lw_at lw_m4 149 rfl) rfl
theorem q975 : (Jvm.Cond.superclass "TwoSlips$Bad" "java/lang/Exception") ∈ lw_all := lw_g (lw_at lw_m4 150 rfl) rfl
theorem q1158 : (Jvm.Cond.selects "TwoSlips$Bad" ({ cls := "java/lang/Object", name := "getClass", desc := "()Ljava/lang/Class;" } : Jvm.MethodName) ({ cls := "java/lang/Object", name := "getClass", desc := "()Ljava/lang/Class;" } : Jvm.MethodName)) ∈ lw_all := lw_g (lw_at lw_m5 93 rfl) rfl
theorem q2437 : (Jvm.Cond.castable "TwoSlips$Bad" "java/lang/Object") ∈ lw_tbl := lw_at lw_m10 172 rfl
theorem in_X12 : ∀ w ∈ wsX120, w ∈ lw_all := lw_in wsX120 [952, 953, 954, 955, 956, 974, 970, 972] (by decide +kernel) (by decide +kernel)

/-! TwoSlips$Speaker -/
set_option maxRecDepth 100000
def RX13 : String := "TwoSlips$Speaker"
def TX13 : u_T := fun k => match k with
  | 0 => ("TwoSlips$Speaker", "kind", "I", true)
  | 1 => ("TwoSlips$Speaker", "sight", "LTwoSlips$Sight;", true)
  | 2 => ("TwoSlips$Speaker", "isLiar", "Z", false)
  | _ => ("TwoSlips$Speaker", "isDeaf", "Z", false)
def tyX13 : Nat → FieldType := fun k => match k with
  | 0 => .int
  | 1 => .object "TwoSlips$Sight"
  | 2 => .boolean
  | _ => .boolean
abbrev wsX130 : List Cond := u_ws RX13 TX13 4
theorem nmX13 : ∀ a, a < 4 → ∀ b, b < 4 → a ≠ b → (TX13 a).2.1 ≠ (TX13 b).2.1 := by decide +kernel
theorem tyX13_ok : ∀ k, k < 4 → parseFieldDescriptor (TX13 k).2.2.1 = some (tyX13 k) := by decide +kernel
abbrev cX13_init : ByteArray := prog_25_method_1_code
def yX13_init : MethodName := ⟨RX13, "<init>", "(I)V"⟩
def dkwX13_init_0 : List UInt8 := [42, 183, 0, 1, 42, 27, 181, 0, 7, 42, 27, 184, 0, 13, 181, 0, 19, 177]
abbrev dktX13_init_0 : List UInt8 := dkwX13_init_0 ++ []
theorem dksX13_init_0 : cX13_init.data.toList.drop 0 = dktX13_init_0 := by decide +kernel
theorem dX13_init_0 : decode cX13_init 0 = .ok (.aload_n 0, 1) := dk_42 (dk_at dksX13_init_0 0 rfl rfl)
theorem dX13_init_1 : decode cX13_init 1 = .ok (.invokespecial 1, 3) := dk_183 0 1 (dk_at dksX13_init_0 1 rfl rfl)
theorem dX13_init_4 : decode cX13_init 4 = .ok (.aload_n 0, 1) := dk_42 (dk_at dksX13_init_0 4 rfl rfl)
theorem dX13_init_5 : decode cX13_init 5 = .ok (.iload_n 1, 1) := dk_27 (dk_at dksX13_init_0 5 rfl rfl)
theorem dX13_init_6 : decode cX13_init 6 = .ok (.putfield 7, 3) := dk_181 0 7 (dk_at dksX13_init_0 6 rfl rfl)
theorem dX13_init_9 : decode cX13_init 9 = .ok (.aload_n 0, 1) := dk_42 (dk_at dksX13_init_0 9 rfl rfl)
theorem dX13_init_10 : decode cX13_init 10 = .ok (.iload_n 1, 1) := dk_27 (dk_at dksX13_init_0 10 rfl rfl)
theorem dX13_init_11 : decode cX13_init 11 = .ok (.invokestatic 13, 3) := dk_184 0 13 (dk_at dksX13_init_0 11 rfl rfl)
theorem dX13_init_14 : decode cX13_init 14 = .ok (.putfield 19, 3) := dk_181 0 19 (dk_at dksX13_init_0 14 rfl rfl)
theorem dX13_init_17 : decode cX13_init 17 = .ok (.return_, 1) := dk_177 (dk_at dksX13_init_0 17 rfl rfl)
theorem q131 : (Jvm.Cond.initialized "TwoSlips$Speaker") ∈ lw_all := lw_g (lw_at lw_m1 26 rfl) rfl
theorem q1045 : (Jvm.Cond.instantiable "TwoSlips$Speaker" (4 : Nat)) ∈ lw_all := lw_g (lw_at lw_m4 220 rfl) rfl
theorem q1047 : (Jvm.Cond.instanceMethod ({ cls := "TwoSlips$Speaker", name := "<init>", desc := "(I)V" } : Jvm.MethodName)) ∈ lw_all := lw_g (lw_at lw_m4 222 rfl) rfl
theorem q1048 : (Jvm.Cond.code ({ cls := "TwoSlips$Speaker", name := "<init>", desc := "(I)V" } : Jvm.MethodName) prog_25_method_1_code (2 : Nat) (Option.none : Option Jvm.ClassFile.FieldType)) ∈ lw_all := lw_g (lw_at lw_m4 223 rfl) rfl
theorem q1049 : (Jvm.Cond.methodLink "TwoSlips$Speaker" (1 : Nat) ({ cls := "java/lang/Object", name := "<init>", desc := "()V" } : Jvm.MethodName)) ∈ lw_all := lw_g (lw_at lw_m4 224 rfl) rfl
theorem q1050 : (Jvm.Cond.methodLinkNest "TwoSlips$Speaker" (13 : Nat) ({ cls := "TwoSlips", name := "sight", desc := "(I)LTwoSlips$Sight;" } : Jvm.MethodName) "TwoSlips") ∈ lw_tbl := lw_at lw_m4 225 rfl
theorem q1105 : (Jvm.Cond.fieldLink "TwoSlips$Speaker" (7 : Nat) "TwoSlips$Speaker" "kind" "I") ∈ lw_all := lw_g (lw_at lw_m5 40 rfl) rfl
theorem q1107 : (Jvm.Cond.fieldLink "TwoSlips$Speaker" (19 : Nat) "TwoSlips$Speaker" "sight" "LTwoSlips$Sight;") ∈ lw_all := lw_g (lw_at lw_m5 42 rfl) rfl
theorem q1115 : (Jvm.Cond.laysFinal "TwoSlips$Speaker" "TwoSlips$Speaker" "kind" "I") ∈ lw_all := lw_g (lw_at lw_m5 50 rfl) rfl
theorem q1116 : (Jvm.Cond.soleField "TwoSlips$Speaker" "kind") ∈ lw_all := lw_g (lw_at lw_m5 51 rfl) rfl
theorem q1117 : (Jvm.Cond.laysFinal "TwoSlips$Speaker" "TwoSlips$Speaker" "sight" "LTwoSlips$Sight;") ∈ lw_all := lw_g (lw_at lw_m5 52 rfl) rfl
theorem q1118 : (Jvm.Cond.soleField "TwoSlips$Speaker" "sight") ∈ lw_all := lw_g (lw_at lw_m5 53 rfl) rfl
theorem q1119 : (Jvm.Cond.lays "TwoSlips$Speaker" "TwoSlips$Speaker" "isLiar" "Z") ∈ lw_all := lw_g (lw_at lw_m5 54 rfl) rfl
theorem q1120 : (Jvm.Cond.soleField "TwoSlips$Speaker" "isLiar") ∈ lw_all := lw_g (lw_at lw_m5 55 rfl) rfl
theorem q1121 : (Jvm.Cond.lays "TwoSlips$Speaker" "TwoSlips$Speaker" "isDeaf" "Z") ∈ lw_all := lw_g (lw_at lw_m5 56 rfl) rfl
theorem q1122 : (Jvm.Cond.soleField "TwoSlips$Speaker" "isDeaf") ∈ lw_all := lw_g (lw_at lw_m5 57 rfl) rfl
theorem q1123 : (Jvm.Cond.superclass "TwoSlips$Speaker" "java/lang/Object") ∈ lw_all := lw_g (lw_at lw_m5 58 rfl) rfl
theorem q1176 : (Jvm.Cond.selects "TwoSlips$Speaker" ({ cls := "java/lang/Object", name := "getClass", desc := "()Ljava/lang/Class;" } : Jvm.MethodName) ({ cls := "java/lang/Object", name := "getClass", desc := "()Ljava/lang/Class;" } : Jvm.MethodName)) ∈ lw_all := lw_g (lw_at lw_m5 111 rfl) rfl
theorem q2438 : (Jvm.Cond.castable "TwoSlips$Speaker" "java/lang/Object") ∈ lw_tbl := lw_at lw_m10 173 rfl
theorem in_X13 : ∀ w ∈ wsX130, w ∈ lw_all := lw_in wsX130 [1115, 1117, 1119, 1121] (by decide +kernel) (by decide +kernel)

/-! TwoSlips$Sight -/
set_option maxRecDepth 100000
def RX14 : String := "TwoSlips$Sight"
abbrev cX14_init : ByteArray := prog_23_method_1_code
def yX14_init : MethodName := ⟨RX14, "<init>", "()V"⟩
theorem dX14_init_0 : decode cX14_init 0 = .ok (.aload_n 0, 1) := by decide +kernel
theorem dX14_init_1 : decode cX14_init 1 = .ok (.invokespecial 1, 3) := by decide +kernel
theorem dX14_init_4 : decode cX14_init 4 = .ok (.return_, 1) := by decide +kernel
theorem q132 : (Jvm.Cond.initialized "TwoSlips$Sight") ∈ lw_all := lw_g (lw_at lw_m1 27 rfl) rfl
theorem q545 : (Jvm.Cond.declares ({ cls := "TwoSlips$Sight", name := "slip", desc := "(II)I" } : Jvm.MethodName)) ∈ lw_tbl := lw_at lw_m2 200 rfl
theorem q546 : (Jvm.Cond.sameMethod "TwoSlips$Sight" "TwoSlips$Sight" "slip" "(II)I") ∈ lw_all := lw_g (lw_at lw_m2 201 rfl) rfl
theorem q1059 : (Jvm.Cond.instanceMethod ({ cls := "TwoSlips$Sight", name := "<init>", desc := "()V" } : Jvm.MethodName)) ∈ lw_all := lw_g (lw_at lw_m4 234 rfl) rfl
theorem q1060 : (Jvm.Cond.code ({ cls := "TwoSlips$Sight", name := "<init>", desc := "()V" } : Jvm.MethodName) prog_23_method_1_code (1 : Nat) (Option.none : Option Jvm.ClassFile.FieldType)) ∈ lw_all := lw_g (lw_at lw_m4 235 rfl) rfl
theorem q1061 : (Jvm.Cond.methodLink "TwoSlips$Sight" (1 : Nat) ({ cls := "java/lang/Object", name := "<init>", desc := "()V" } : Jvm.MethodName)) ∈ lw_all := lw_g (lw_at lw_m4 236 rfl) rfl

/-! TwoSlips$Sum -/
set_option maxRecDepth 100000
def RX15 : String := "TwoSlips$Sum"
abbrev cX15_slip : ByteArray := prog_27_method_2_code
def yX15_slip : MethodName := ⟨RX15, "slip", "(II)I"⟩
def dkwX15_slip_0 : List UInt8 := [27, 28, 96, 172]
abbrev dktX15_slip_0 : List UInt8 := dkwX15_slip_0 ++ []
theorem dksX15_slip_0 : cX15_slip.data.toList.drop 0 = dktX15_slip_0 := by decide +kernel
theorem dX15_slip_0 : decode cX15_slip 0 = .ok (.iload_n 1, 1) := dk_27 (dk_at dksX15_slip_0 0 rfl rfl)
theorem dX15_slip_1 : decode cX15_slip 1 = .ok (.iload_n 2, 1) := dk_28 (dk_at dksX15_slip_0 1 rfl rfl)
theorem dX15_slip_2 : decode cX15_slip 2 = .ok (.iadd, 1) := dk_96 (dk_at dksX15_slip_0 2 rfl rfl)
theorem dX15_slip_3 : decode cX15_slip 3 = .ok (.ireturn, 1) := dk_172 (dk_at dksX15_slip_0 3 rfl rfl)
abbrev cX15_init : ByteArray := prog_27_method_1_code
def yX15_init : MethodName := ⟨RX15, "<init>", "()V"⟩
theorem dX15_init_0 : decode cX15_init 0 = .ok (.aload_n 0, 1) := by decide +kernel
theorem dX15_init_1 : decode cX15_init 1 = .ok (.invokespecial 1, 3) := by decide +kernel
theorem dX15_init_4 : decode cX15_init 4 = .ok (.return_, 1) := by decide +kernel
theorem q133 : (Jvm.Cond.initialized "TwoSlips$Sum") ∈ lw_all := lw_g (lw_at lw_m1 28 rfl) rfl
theorem q568 : (Jvm.Cond.instanceMethod ({ cls := "TwoSlips$Sum", name := "slip", desc := "(II)I" } : Jvm.MethodName)) ∈ lw_all := lw_g (lw_at lw_m2 223 rfl) rfl
theorem q569 : (Jvm.Cond.code ({ cls := "TwoSlips$Sum", name := "slip", desc := "(II)I" } : Jvm.MethodName) prog_27_method_2_code (3 : Nat) (Option.some Jvm.ClassFile.FieldType.int)) ∈ lw_all := lw_g (lw_at lw_m2 224 rfl) rfl
theorem q573 : (Jvm.Cond.selects "TwoSlips$Sum" ({ cls := "TwoSlips$Sight", name := "slip", desc := "(II)I" } : Jvm.MethodName) ({ cls := "TwoSlips$Sum", name := "slip", desc := "(II)I" } : Jvm.MethodName)) ∈ lw_all := lw_g (lw_at lw_m2 228 rfl) rfl
theorem q1054 : (Jvm.Cond.instantiable "TwoSlips$Sum" (0 : Nat)) ∈ lw_all := lw_g (lw_at lw_m4 229 rfl) rfl
theorem q1056 : (Jvm.Cond.instanceMethod ({ cls := "TwoSlips$Sum", name := "<init>", desc := "()V" } : Jvm.MethodName)) ∈ lw_all := lw_g (lw_at lw_m4 231 rfl) rfl
theorem q1057 : (Jvm.Cond.code ({ cls := "TwoSlips$Sum", name := "<init>", desc := "()V" } : Jvm.MethodName) prog_27_method_1_code (1 : Nat) (Option.none : Option Jvm.ClassFile.FieldType)) ∈ lw_all := lw_g (lw_at lw_m4 232 rfl) rfl
theorem q1058 : (Jvm.Cond.methodLinkNest "TwoSlips$Sum" (1 : Nat) ({ cls := "TwoSlips$Sight", name := "<init>", desc := "()V" } : Jvm.MethodName) "TwoSlips") ∈ lw_tbl := lw_at lw_m4 233 rfl
theorem q1062 : (Jvm.Cond.superclass "TwoSlips$Sum" "TwoSlips$Sight") ∈ lw_all := lw_g (lw_at lw_m4 237 rfl) rfl
theorem q1178 : (Jvm.Cond.selects "TwoSlips$Sum" ({ cls := "java/lang/Object", name := "getClass", desc := "()Ljava/lang/Class;" } : Jvm.MethodName) ({ cls := "java/lang/Object", name := "getClass", desc := "()Ljava/lang/Class;" } : Jvm.MethodName)) ∈ lw_all := lw_g (lw_at lw_m5 113 rfl) rfl
theorem q2420 : (Jvm.Cond.sameMethod "TwoSlips$Sum" "TwoSlips$Sum" "slip" "(II)I") ∈ lw_all := lw_g (lw_at lw_m10 155 rfl) rfl
theorem q2439 : (Jvm.Cond.castable "TwoSlips$Sum" "java/lang/Object") ∈ lw_tbl := lw_at lw_m10 174 rfl

/-! TwoSlips$Product -/
set_option maxRecDepth 100000
def RX16 : String := "TwoSlips$Product"
abbrev cX16_slip : ByteArray := prog_15_method_2_code
def yX16_slip : MethodName := ⟨RX16, "slip", "(II)I"⟩
def dkwX16_slip_0 : List UInt8 := [27, 28, 104, 172]
abbrev dktX16_slip_0 : List UInt8 := dkwX16_slip_0 ++ []
theorem dksX16_slip_0 : cX16_slip.data.toList.drop 0 = dktX16_slip_0 := by decide +kernel
theorem dX16_slip_0 : decode cX16_slip 0 = .ok (.iload_n 1, 1) := dk_27 (dk_at dksX16_slip_0 0 rfl rfl)
theorem dX16_slip_1 : decode cX16_slip 1 = .ok (.iload_n 2, 1) := dk_28 (dk_at dksX16_slip_0 1 rfl rfl)
theorem dX16_slip_2 : decode cX16_slip 2 = .ok (.imul, 1) := dk_104 (dk_at dksX16_slip_0 2 rfl rfl)
theorem dX16_slip_3 : decode cX16_slip 3 = .ok (.ireturn, 1) := dk_172 (dk_at dksX16_slip_0 3 rfl rfl)
abbrev cX16_init : ByteArray := prog_15_method_1_code
def yX16_init : MethodName := ⟨RX16, "<init>", "()V"⟩
theorem dX16_init_0 : decode cX16_init 0 = .ok (.aload_n 0, 1) := by decide +kernel
theorem dX16_init_1 : decode cX16_init 1 = .ok (.invokespecial 1, 3) := by decide +kernel
theorem dX16_init_4 : decode cX16_init 4 = .ok (.return_, 1) := by decide +kernel
theorem q134 : (Jvm.Cond.initialized "TwoSlips$Product") ∈ lw_all := lw_g (lw_at lw_m1 29 rfl) rfl
theorem q560 : (Jvm.Cond.selects "TwoSlips$Product" ({ cls := "TwoSlips$Sight", name := "slip", desc := "(II)I" } : Jvm.MethodName) ({ cls := "TwoSlips$Product", name := "slip", desc := "(II)I" } : Jvm.MethodName)) ∈ lw_all := lw_g (lw_at lw_m2 215 rfl) rfl
theorem q561 : (Jvm.Cond.instanceMethod ({ cls := "TwoSlips$Product", name := "slip", desc := "(II)I" } : Jvm.MethodName)) ∈ lw_all := lw_g (lw_at lw_m2 216 rfl) rfl
theorem q562 : (Jvm.Cond.code ({ cls := "TwoSlips$Product", name := "slip", desc := "(II)I" } : Jvm.MethodName) prog_15_method_2_code (3 : Nat) (Option.some Jvm.ClassFile.FieldType.int)) ∈ lw_all := lw_g (lw_at lw_m2 217 rfl) rfl
theorem q1064 : (Jvm.Cond.instantiable "TwoSlips$Product" (0 : Nat)) ∈ lw_all := lw_g (lw_at lw_m4 239 rfl) rfl
theorem q1066 : (Jvm.Cond.instanceMethod ({ cls := "TwoSlips$Product", name := "<init>", desc := "()V" } : Jvm.MethodName)) ∈ lw_all := lw_g (lw_at lw_m5 1 rfl) rfl
theorem q1067 : (Jvm.Cond.code ({ cls := "TwoSlips$Product", name := "<init>", desc := "()V" } : Jvm.MethodName) prog_15_method_1_code (1 : Nat) (Option.none : Option Jvm.ClassFile.FieldType)) ∈ lw_all := lw_g (lw_at lw_m5 2 rfl) rfl
theorem q1068 : (Jvm.Cond.methodLinkNest "TwoSlips$Product" (1 : Nat) ({ cls := "TwoSlips$Sight", name := "<init>", desc := "()V" } : Jvm.MethodName) "TwoSlips") ∈ lw_tbl := lw_at lw_m5 3 rfl
theorem q1069 : (Jvm.Cond.superclass "TwoSlips$Product" "TwoSlips$Sight") ∈ lw_all := lw_g (lw_at lw_m5 4 rfl) rfl
theorem q1169 : (Jvm.Cond.selects "TwoSlips$Product" ({ cls := "java/lang/Object", name := "getClass", desc := "()Ljava/lang/Class;" } : Jvm.MethodName) ({ cls := "java/lang/Object", name := "getClass", desc := "()Ljava/lang/Class;" } : Jvm.MethodName)) ∈ lw_all := lw_g (lw_at lw_m5 104 rfl) rfl
theorem q2440 : (Jvm.Cond.castable "TwoSlips$Product" "java/lang/Object") ∈ lw_tbl := lw_at lw_m10 175 rfl

/-! TwoSlips$Less -/
set_option maxRecDepth 100000
def RX17 : String := "TwoSlips$Less"
abbrev cX17_slip : ByteArray := prog_9_method_2_code
def yX17_slip : MethodName := ⟨RX17, "slip", "(II)I"⟩
theorem dX17_slip_0 : decode cX17_slip 0 = .ok (.iload_n 1, 1) := by decide +kernel
theorem dX17_slip_1 : decode cX17_slip 1 = .ok (.ireturn, 1) := by decide +kernel
abbrev cX17_init : ByteArray := prog_9_method_1_code
def yX17_init : MethodName := ⟨RX17, "<init>", "()V"⟩
theorem dX17_init_0 : decode cX17_init 0 = .ok (.aload_n 0, 1) := by decide +kernel
theorem dX17_init_1 : decode cX17_init 1 = .ok (.invokespecial 1, 3) := by decide +kernel
theorem dX17_init_4 : decode cX17_init 4 = .ok (.return_, 1) := by decide +kernel
theorem q135 : (Jvm.Cond.initialized "TwoSlips$Less") ∈ lw_all := lw_g (lw_at lw_m1 30 rfl) rfl
theorem q556 : (Jvm.Cond.instanceMethod ({ cls := "TwoSlips$Less", name := "slip", desc := "(II)I" } : Jvm.MethodName)) ∈ lw_all := lw_g (lw_at lw_m2 211 rfl) rfl
theorem q557 : (Jvm.Cond.code ({ cls := "TwoSlips$Less", name := "slip", desc := "(II)I" } : Jvm.MethodName) prog_9_method_2_code (3 : Nat) (Option.some Jvm.ClassFile.FieldType.int)) ∈ lw_all := lw_g (lw_at lw_m2 212 rfl) rfl
theorem q559 : (Jvm.Cond.selects "TwoSlips$Less" ({ cls := "TwoSlips$Sight", name := "slip", desc := "(II)I" } : Jvm.MethodName) ({ cls := "TwoSlips$Less", name := "slip", desc := "(II)I" } : Jvm.MethodName)) ∈ lw_all := lw_g (lw_at lw_m2 214 rfl) rfl
theorem q1076 : (Jvm.Cond.instanceMethod ({ cls := "TwoSlips$Less", name := "<init>", desc := "()V" } : Jvm.MethodName)) ∈ lw_all := lw_g (lw_at lw_m5 11 rfl) rfl
theorem q1077 : (Jvm.Cond.code ({ cls := "TwoSlips$Less", name := "<init>", desc := "()V" } : Jvm.MethodName) prog_9_method_1_code (1 : Nat) (Option.none : Option Jvm.ClassFile.FieldType)) ∈ lw_all := lw_g (lw_at lw_m5 12 rfl) rfl
theorem q1078 : (Jvm.Cond.methodLinkNest "TwoSlips$Less" (1 : Nat) ({ cls := "TwoSlips$Sight", name := "<init>", desc := "()V" } : Jvm.MethodName) "TwoSlips") ∈ lw_tbl := lw_at lw_m5 13 rfl
theorem q1080 : (Jvm.Cond.instantiable "TwoSlips$Less" (0 : Nat)) ∈ lw_all := lw_g (lw_at lw_m5 15 rfl) rfl
theorem q1082 : (Jvm.Cond.superclass "TwoSlips$Less" "TwoSlips$Sight") ∈ lw_all := lw_g (lw_at lw_m5 17 rfl) rfl
theorem q1164 : (Jvm.Cond.selects "TwoSlips$Less" ({ cls := "java/lang/Object", name := "getClass", desc := "()Ljava/lang/Class;" } : Jvm.MethodName) ({ cls := "java/lang/Object", name := "getClass", desc := "()Ljava/lang/Class;" } : Jvm.MethodName)) ∈ lw_all := lw_g (lw_at lw_m5 99 rfl) rfl
theorem q2419 : (Jvm.Cond.sameMethod "TwoSlips$Less" "TwoSlips$Less" "slip" "(II)I") ∈ lw_all := lw_g (lw_at lw_m10 154 rfl) rfl
theorem q2442 : (Jvm.Cond.castable "TwoSlips$Less" "java/lang/Object") ∈ lw_tbl := lw_at lw_m10 177 rfl

/-! TwoSlips$Greater -/
set_option maxRecDepth 100000
def RX18 : String := "TwoSlips$Greater"
abbrev cX18_slip : ByteArray := prog_7_method_2_code
def yX18_slip : MethodName := ⟨RX18, "slip", "(II)I"⟩
def dkwX18_slip_0 : List UInt8 := [42, 28, 27, 183, 0, 7, 172]
abbrev dktX18_slip_0 : List UInt8 := dkwX18_slip_0 ++ []
theorem dksX18_slip_0 : cX18_slip.data.toList.drop 0 = dktX18_slip_0 := by decide +kernel
theorem dX18_slip_0 : decode cX18_slip 0 = .ok (.aload_n 0, 1) := dk_42 (dk_at dksX18_slip_0 0 rfl rfl)
theorem dX18_slip_1 : decode cX18_slip 1 = .ok (.iload_n 2, 1) := dk_28 (dk_at dksX18_slip_0 1 rfl rfl)
theorem dX18_slip_2 : decode cX18_slip 2 = .ok (.iload_n 1, 1) := dk_27 (dk_at dksX18_slip_0 2 rfl rfl)
theorem dX18_slip_3 : decode cX18_slip 3 = .ok (.invokespecial 7, 3) := dk_183 0 7 (dk_at dksX18_slip_0 3 rfl rfl)
theorem dX18_slip_6 : decode cX18_slip 6 = .ok (.ireturn, 1) := dk_172 (dk_at dksX18_slip_0 6 rfl rfl)
abbrev cX18_init : ByteArray := prog_7_method_1_code
def yX18_init : MethodName := ⟨RX18, "<init>", "()V"⟩
theorem dX18_init_0 : decode cX18_init 0 = .ok (.aload_n 0, 1) := by decide +kernel
theorem dX18_init_1 : decode cX18_init 1 = .ok (.invokespecial 1, 3) := by decide +kernel
theorem dX18_init_4 : decode cX18_init 4 = .ok (.return_, 1) := by decide +kernel
theorem q136 : (Jvm.Cond.initialized "TwoSlips$Greater") ∈ lw_all := lw_g (lw_at lw_m1 31 rfl) rfl
theorem q552 : (Jvm.Cond.instanceMethod ({ cls := "TwoSlips$Greater", name := "slip", desc := "(II)I" } : Jvm.MethodName)) ∈ lw_all := lw_g (lw_at lw_m2 207 rfl) rfl
theorem q553 : (Jvm.Cond.code ({ cls := "TwoSlips$Greater", name := "slip", desc := "(II)I" } : Jvm.MethodName) prog_7_method_2_code (3 : Nat) (Option.some Jvm.ClassFile.FieldType.int)) ∈ lw_all := lw_g (lw_at lw_m2 208 rfl) rfl
theorem q554 : (Jvm.Cond.methodLink "TwoSlips$Greater" (7 : Nat) ({ cls := "TwoSlips$Less", name := "slip", desc := "(II)I" } : Jvm.MethodName)) ∈ lw_all := lw_g (lw_at lw_m2 209 rfl) rfl
theorem q555 : (Jvm.Cond.superclass "TwoSlips$Greater" "TwoSlips$Less") ∈ lw_all := lw_g (lw_at lw_m2 210 rfl) rfl
theorem q558 : (Jvm.Cond.selects "TwoSlips$Greater" ({ cls := "TwoSlips$Sight", name := "slip", desc := "(II)I" } : Jvm.MethodName) ({ cls := "TwoSlips$Greater", name := "slip", desc := "(II)I" } : Jvm.MethodName)) ∈ lw_all := lw_g (lw_at lw_m2 213 rfl) rfl
theorem q1071 : (Jvm.Cond.instantiable "TwoSlips$Greater" (0 : Nat)) ∈ lw_all := lw_g (lw_at lw_m5 6 rfl) rfl
theorem q1073 : (Jvm.Cond.instanceMethod ({ cls := "TwoSlips$Greater", name := "<init>", desc := "()V" } : Jvm.MethodName)) ∈ lw_all := lw_g (lw_at lw_m5 8 rfl) rfl
theorem q1074 : (Jvm.Cond.code ({ cls := "TwoSlips$Greater", name := "<init>", desc := "()V" } : Jvm.MethodName) prog_7_method_1_code (1 : Nat) (Option.none : Option Jvm.ClassFile.FieldType)) ∈ lw_all := lw_g (lw_at lw_m5 9 rfl) rfl
theorem q1075 : (Jvm.Cond.methodLinkNest "TwoSlips$Greater" (1 : Nat) ({ cls := "TwoSlips$Less", name := "<init>", desc := "()V" } : Jvm.MethodName) "TwoSlips") ∈ lw_tbl := lw_at lw_m5 10 rfl
theorem q1162 : (Jvm.Cond.selects "TwoSlips$Greater" ({ cls := "java/lang/Object", name := "getClass", desc := "()Ljava/lang/Class;" } : Jvm.MethodName) ({ cls := "java/lang/Object", name := "getClass", desc := "()Ljava/lang/Class;" } : Jvm.MethodName)) ∈ lw_all := lw_g (lw_at lw_m5 97 rfl) rfl
theorem q2418 : (Jvm.Cond.sameMethod "TwoSlips$Greater" "TwoSlips$Greater" "slip" "(II)I") ∈ lw_all := lw_g (lw_at lw_m10 153 rfl) rfl
theorem q2441 : (Jvm.Cond.castable "TwoSlips$Greater" "java/lang/Object") ∈ lw_tbl := lw_at lw_m10 176 rfl

/-! TwoSlips$Difference -/
set_option maxRecDepth 100000
def RX19 : String := "TwoSlips$Difference"
abbrev cX19_slip : ByteArray := prog_5_method_2_code
def yX19_slip : MethodName := ⟨RX19, "slip", "(II)I"⟩
def dkwX19_slip_0 : List UInt8 := [42, 27, 28, 183, 0, 7, 27, 100, 172]
abbrev dktX19_slip_0 : List UInt8 := dkwX19_slip_0 ++ []
theorem dksX19_slip_0 : cX19_slip.data.toList.drop 0 = dktX19_slip_0 := by decide +kernel
theorem dX19_slip_0 : decode cX19_slip 0 = .ok (.aload_n 0, 1) := dk_42 (dk_at dksX19_slip_0 0 rfl rfl)
theorem dX19_slip_1 : decode cX19_slip 1 = .ok (.iload_n 1, 1) := dk_27 (dk_at dksX19_slip_0 1 rfl rfl)
theorem dX19_slip_2 : decode cX19_slip 2 = .ok (.iload_n 2, 1) := dk_28 (dk_at dksX19_slip_0 2 rfl rfl)
theorem dX19_slip_3 : decode cX19_slip 3 = .ok (.invokespecial 7, 3) := dk_183 0 7 (dk_at dksX19_slip_0 3 rfl rfl)
theorem dX19_slip_6 : decode cX19_slip 6 = .ok (.iload_n 1, 1) := dk_27 (dk_at dksX19_slip_0 6 rfl rfl)
theorem dX19_slip_7 : decode cX19_slip 7 = .ok (.isub, 1) := dk_100 (dk_at dksX19_slip_0 7 rfl rfl)
theorem dX19_slip_8 : decode cX19_slip 8 = .ok (.ireturn, 1) := dk_172 (dk_at dksX19_slip_0 8 rfl rfl)
abbrev cX19_init : ByteArray := prog_5_method_1_code
def yX19_init : MethodName := ⟨RX19, "<init>", "()V"⟩
theorem dX19_init_0 : decode cX19_init 0 = .ok (.aload_n 0, 1) := by decide +kernel
theorem dX19_init_1 : decode cX19_init 1 = .ok (.invokespecial 1, 3) := by decide +kernel
theorem dX19_init_4 : decode cX19_init 4 = .ok (.return_, 1) := by decide +kernel
theorem q137 : (Jvm.Cond.initialized "TwoSlips$Difference") ∈ lw_all := lw_g (lw_at lw_m1 32 rfl) rfl
theorem q547 : (Jvm.Cond.selects "TwoSlips$Difference" ({ cls := "TwoSlips$Sight", name := "slip", desc := "(II)I" } : Jvm.MethodName) ({ cls := "TwoSlips$Difference", name := "slip", desc := "(II)I" } : Jvm.MethodName)) ∈ lw_all := lw_g (lw_at lw_m2 202 rfl) rfl
theorem q548 : (Jvm.Cond.instanceMethod ({ cls := "TwoSlips$Difference", name := "slip", desc := "(II)I" } : Jvm.MethodName)) ∈ lw_all := lw_g (lw_at lw_m2 203 rfl) rfl
theorem q549 : (Jvm.Cond.code ({ cls := "TwoSlips$Difference", name := "slip", desc := "(II)I" } : Jvm.MethodName) prog_5_method_2_code (3 : Nat) (Option.some Jvm.ClassFile.FieldType.int)) ∈ lw_all := lw_g (lw_at lw_m2 204 rfl) rfl
theorem q550 : (Jvm.Cond.methodLink "TwoSlips$Difference" (7 : Nat) ({ cls := "TwoSlips$Greater", name := "slip", desc := "(II)I" } : Jvm.MethodName)) ∈ lw_all := lw_g (lw_at lw_m2 205 rfl) rfl
theorem q551 : (Jvm.Cond.superclass "TwoSlips$Difference" "TwoSlips$Greater") ∈ lw_all := lw_g (lw_at lw_m2 206 rfl) rfl
theorem q1084 : (Jvm.Cond.instantiable "TwoSlips$Difference" (0 : Nat)) ∈ lw_all := lw_g (lw_at lw_m5 19 rfl) rfl
theorem q1086 : (Jvm.Cond.instanceMethod ({ cls := "TwoSlips$Difference", name := "<init>", desc := "()V" } : Jvm.MethodName)) ∈ lw_all := lw_g (lw_at lw_m5 21 rfl) rfl
theorem q1087 : (Jvm.Cond.code ({ cls := "TwoSlips$Difference", name := "<init>", desc := "()V" } : Jvm.MethodName) prog_5_method_1_code (1 : Nat) (Option.none : Option Jvm.ClassFile.FieldType)) ∈ lw_all := lw_g (lw_at lw_m5 22 rfl) rfl
theorem q1088 : (Jvm.Cond.methodLinkNest "TwoSlips$Difference" (1 : Nat) ({ cls := "TwoSlips$Greater", name := "<init>", desc := "()V" } : Jvm.MethodName) "TwoSlips") ∈ lw_tbl := lw_at lw_m5 23 rfl
theorem q1160 : (Jvm.Cond.selects "TwoSlips$Difference" ({ cls := "java/lang/Object", name := "getClass", desc := "()Ljava/lang/Class;" } : Jvm.MethodName) ({ cls := "java/lang/Object", name := "getClass", desc := "()Ljava/lang/Class;" } : Jvm.MethodName)) ∈ lw_all := lw_g (lw_at lw_m5 95 rfl) rfl
theorem q2443 : (Jvm.Cond.castable "TwoSlips$Difference" "java/lang/Object") ∈ lw_tbl := lw_at lw_m10 178 rfl

/-! TwoSlips$Squares -/
set_option maxRecDepth 100000
def RX20 : String := "TwoSlips$Squares"
abbrev cX20_slip : ByteArray := prog_26_method_2_code
def yX20_slip : MethodName := ⟨RX20, "slip", "(II)I"⟩
def dkwX20_slip_0 : List UInt8 := [27, 27, 104, 28, 28, 104, 96, 172]
abbrev dktX20_slip_0 : List UInt8 := dkwX20_slip_0 ++ []
theorem dksX20_slip_0 : cX20_slip.data.toList.drop 0 = dktX20_slip_0 := by decide +kernel
theorem dX20_slip_0 : decode cX20_slip 0 = .ok (.iload_n 1, 1) := dk_27 (dk_at dksX20_slip_0 0 rfl rfl)
theorem dX20_slip_1 : decode cX20_slip 1 = .ok (.iload_n 1, 1) := dk_27 (dk_at dksX20_slip_0 1 rfl rfl)
theorem dX20_slip_2 : decode cX20_slip 2 = .ok (.imul, 1) := dk_104 (dk_at dksX20_slip_0 2 rfl rfl)
theorem dX20_slip_3 : decode cX20_slip 3 = .ok (.iload_n 2, 1) := dk_28 (dk_at dksX20_slip_0 3 rfl rfl)
theorem dX20_slip_4 : decode cX20_slip 4 = .ok (.iload_n 2, 1) := dk_28 (dk_at dksX20_slip_0 4 rfl rfl)
theorem dX20_slip_5 : decode cX20_slip 5 = .ok (.imul, 1) := dk_104 (dk_at dksX20_slip_0 5 rfl rfl)
theorem dX20_slip_6 : decode cX20_slip 6 = .ok (.iadd, 1) := dk_96 (dk_at dksX20_slip_0 6 rfl rfl)
theorem dX20_slip_7 : decode cX20_slip 7 = .ok (.ireturn, 1) := dk_172 (dk_at dksX20_slip_0 7 rfl rfl)
abbrev cX20_init : ByteArray := prog_26_method_1_code
def yX20_init : MethodName := ⟨RX20, "<init>", "()V"⟩
theorem dX20_init_0 : decode cX20_init 0 = .ok (.aload_n 0, 1) := by decide +kernel
theorem dX20_init_1 : decode cX20_init 1 = .ok (.invokespecial 1, 3) := by decide +kernel
theorem dX20_init_4 : decode cX20_init 4 = .ok (.return_, 1) := by decide +kernel
theorem q138 : (Jvm.Cond.initialized "TwoSlips$Squares") ∈ lw_all := lw_g (lw_at lw_m1 33 rfl) rfl
theorem q570 : (Jvm.Cond.selects "TwoSlips$Squares" ({ cls := "TwoSlips$Sight", name := "slip", desc := "(II)I" } : Jvm.MethodName) ({ cls := "TwoSlips$Squares", name := "slip", desc := "(II)I" } : Jvm.MethodName)) ∈ lw_all := lw_g (lw_at lw_m2 225 rfl) rfl
theorem q571 : (Jvm.Cond.instanceMethod ({ cls := "TwoSlips$Squares", name := "slip", desc := "(II)I" } : Jvm.MethodName)) ∈ lw_all := lw_g (lw_at lw_m2 226 rfl) rfl
theorem q572 : (Jvm.Cond.code ({ cls := "TwoSlips$Squares", name := "slip", desc := "(II)I" } : Jvm.MethodName) prog_26_method_2_code (3 : Nat) (Option.some Jvm.ClassFile.FieldType.int)) ∈ lw_all := lw_g (lw_at lw_m2 227 rfl) rfl
theorem q1090 : (Jvm.Cond.instantiable "TwoSlips$Squares" (0 : Nat)) ∈ lw_all := lw_g (lw_at lw_m5 25 rfl) rfl
theorem q1092 : (Jvm.Cond.instanceMethod ({ cls := "TwoSlips$Squares", name := "<init>", desc := "()V" } : Jvm.MethodName)) ∈ lw_all := lw_g (lw_at lw_m5 27 rfl) rfl
theorem q1093 : (Jvm.Cond.code ({ cls := "TwoSlips$Squares", name := "<init>", desc := "()V" } : Jvm.MethodName) prog_26_method_1_code (1 : Nat) (Option.none : Option Jvm.ClassFile.FieldType)) ∈ lw_all := lw_g (lw_at lw_m5 28 rfl) rfl
theorem q1094 : (Jvm.Cond.methodLinkNest "TwoSlips$Squares" (1 : Nat) ({ cls := "TwoSlips$Sight", name := "<init>", desc := "()V" } : Jvm.MethodName) "TwoSlips") ∈ lw_tbl := lw_at lw_m5 29 rfl
theorem q1095 : (Jvm.Cond.superclass "TwoSlips$Squares" "TwoSlips$Sight") ∈ lw_all := lw_g (lw_at lw_m5 30 rfl) rfl
theorem q1177 : (Jvm.Cond.selects "TwoSlips$Squares" ({ cls := "java/lang/Object", name := "getClass", desc := "()Ljava/lang/Class;" } : Jvm.MethodName) ({ cls := "java/lang/Object", name := "getClass", desc := "()Ljava/lang/Class;" } : Jvm.MethodName)) ∈ lw_all := lw_g (lw_at lw_m5 112 rfl) rfl
theorem q2444 : (Jvm.Cond.castable "TwoSlips$Squares" "java/lang/Object") ∈ lw_tbl := lw_at lw_m10 179 rfl

/-! TwoSlips$Rest -/
set_option maxRecDepth 100000
def RX21 : String := "TwoSlips$Rest"
def TX21 : u_T := fun k => match k with
  | _ => ("TwoSlips$Rest", "by", "I", true)
def tyX21 : Nat → FieldType := fun k => match k with
  | _ => .int
abbrev wsX210 : List Cond := u_ws RX21 TX21 1
theorem nmX21 : ∀ a, a < 1 → ∀ b, b < 1 → a ≠ b → (TX21 a).2.1 ≠ (TX21 b).2.1 := by decide +kernel
theorem tyX21_ok : ∀ k, k < 1 → parseFieldDescriptor (TX21 k).2.2.1 = some (tyX21 k) := by decide +kernel
abbrev cX21_slip : ByteArray := prog_17_method_2_code
def yX21_slip : MethodName := ⟨RX21, "slip", "(II)I"⟩
def dkwX21_slip_0 : List UInt8 := [42, 27, 28, 183, 0, 13, 42, 180, 0, 7, 112, 172]
abbrev dktX21_slip_0 : List UInt8 := dkwX21_slip_0 ++ []
theorem dksX21_slip_0 : cX21_slip.data.toList.drop 0 = dktX21_slip_0 := by decide +kernel
theorem dX21_slip_0 : decode cX21_slip 0 = .ok (.aload_n 0, 1) := dk_42 (dk_at dksX21_slip_0 0 rfl rfl)
theorem dX21_slip_1 : decode cX21_slip 1 = .ok (.iload_n 1, 1) := dk_27 (dk_at dksX21_slip_0 1 rfl rfl)
theorem dX21_slip_2 : decode cX21_slip 2 = .ok (.iload_n 2, 1) := dk_28 (dk_at dksX21_slip_0 2 rfl rfl)
theorem dX21_slip_3 : decode cX21_slip 3 = .ok (.invokespecial 13, 3) := dk_183 0 13 (dk_at dksX21_slip_0 3 rfl rfl)
theorem dX21_slip_6 : decode cX21_slip 6 = .ok (.aload_n 0, 1) := dk_42 (dk_at dksX21_slip_0 6 rfl rfl)
theorem dX21_slip_7 : decode cX21_slip 7 = .ok (.getfield 7, 3) := dk_180 0 7 (dk_at dksX21_slip_0 7 rfl rfl)
theorem dX21_slip_10 : decode cX21_slip 10 = .ok (.irem, 1) := dk_112 (dk_at dksX21_slip_0 10 rfl rfl)
theorem dX21_slip_11 : decode cX21_slip 11 = .ok (.ireturn, 1) := dk_172 (dk_at dksX21_slip_0 11 rfl rfl)
abbrev cX21_init : ByteArray := prog_17_method_1_code
def yX21_init : MethodName := ⟨RX21, "<init>", "(I)V"⟩
def dkwX21_init_0 : List UInt8 := [42, 183, 0, 1, 42, 27, 181, 0, 7, 177]
abbrev dktX21_init_0 : List UInt8 := dkwX21_init_0 ++ []
theorem dksX21_init_0 : cX21_init.data.toList.drop 0 = dktX21_init_0 := by decide +kernel
theorem dX21_init_0 : decode cX21_init 0 = .ok (.aload_n 0, 1) := dk_42 (dk_at dksX21_init_0 0 rfl rfl)
theorem dX21_init_1 : decode cX21_init 1 = .ok (.invokespecial 1, 3) := dk_183 0 1 (dk_at dksX21_init_0 1 rfl rfl)
theorem dX21_init_4 : decode cX21_init 4 = .ok (.aload_n 0, 1) := dk_42 (dk_at dksX21_init_0 4 rfl rfl)
theorem dX21_init_5 : decode cX21_init 5 = .ok (.iload_n 1, 1) := dk_27 (dk_at dksX21_init_0 5 rfl rfl)
theorem dX21_init_6 : decode cX21_init 6 = .ok (.putfield 7, 3) := dk_181 0 7 (dk_at dksX21_init_0 6 rfl rfl)
theorem dX21_init_9 : decode cX21_init 9 = .ok (.return_, 1) := dk_177 (dk_at dksX21_init_0 9 rfl rfl)
theorem q139 : (Jvm.Cond.initialized "TwoSlips$Rest") ∈ lw_all := lw_g (lw_at lw_m1 34 rfl) rfl
theorem q563 : (Jvm.Cond.selects "TwoSlips$Rest" ({ cls := "TwoSlips$Sight", name := "slip", desc := "(II)I" } : Jvm.MethodName) ({ cls := "TwoSlips$Rest", name := "slip", desc := "(II)I" } : Jvm.MethodName)) ∈ lw_all := lw_g (lw_at lw_m2 218 rfl) rfl
theorem q564 : (Jvm.Cond.instanceMethod ({ cls := "TwoSlips$Rest", name := "slip", desc := "(II)I" } : Jvm.MethodName)) ∈ lw_all := lw_g (lw_at lw_m2 219 rfl) rfl
theorem q565 : (Jvm.Cond.code ({ cls := "TwoSlips$Rest", name := "slip", desc := "(II)I" } : Jvm.MethodName) prog_17_method_2_code (3 : Nat) (Option.some Jvm.ClassFile.FieldType.int)) ∈ lw_all := lw_g (lw_at lw_m2 220 rfl) rfl
theorem q566 : (Jvm.Cond.methodLink "TwoSlips$Rest" (13 : Nat) ({ cls := "TwoSlips$Sum", name := "slip", desc := "(II)I" } : Jvm.MethodName)) ∈ lw_all := lw_g (lw_at lw_m2 221 rfl) rfl
theorem q567 : (Jvm.Cond.superclass "TwoSlips$Rest" "TwoSlips$Sum") ∈ lw_all := lw_g (lw_at lw_m2 222 rfl) rfl
theorem q1097 : (Jvm.Cond.instantiable "TwoSlips$Rest" (1 : Nat)) ∈ lw_all := lw_g (lw_at lw_m5 32 rfl) rfl
theorem q1099 : (Jvm.Cond.instanceMethod ({ cls := "TwoSlips$Rest", name := "<init>", desc := "(I)V" } : Jvm.MethodName)) ∈ lw_all := lw_g (lw_at lw_m5 34 rfl) rfl
theorem q1100 : (Jvm.Cond.code ({ cls := "TwoSlips$Rest", name := "<init>", desc := "(I)V" } : Jvm.MethodName) prog_17_method_1_code (2 : Nat) (Option.none : Option Jvm.ClassFile.FieldType)) ∈ lw_all := lw_g (lw_at lw_m5 35 rfl) rfl
theorem q1101 : (Jvm.Cond.methodLinkNest "TwoSlips$Rest" (1 : Nat) ({ cls := "TwoSlips$Sum", name := "<init>", desc := "()V" } : Jvm.MethodName) "TwoSlips") ∈ lw_tbl := lw_at lw_m5 36 rfl
theorem q1102 : (Jvm.Cond.fieldLink "TwoSlips$Rest" (7 : Nat) "TwoSlips$Rest" "by" "I") ∈ lw_all := lw_g (lw_at lw_m5 37 rfl) rfl
theorem q1103 : (Jvm.Cond.laysFinal "TwoSlips$Rest" "TwoSlips$Rest" "by" "I") ∈ lw_all := lw_g (lw_at lw_m5 38 rfl) rfl
theorem q1104 : (Jvm.Cond.soleField "TwoSlips$Rest" "by") ∈ lw_all := lw_g (lw_at lw_m5 39 rfl) rfl
theorem q1171 : (Jvm.Cond.selects "TwoSlips$Rest" ({ cls := "java/lang/Object", name := "getClass", desc := "()Ljava/lang/Class;" } : Jvm.MethodName) ({ cls := "java/lang/Object", name := "getClass", desc := "()Ljava/lang/Class;" } : Jvm.MethodName)) ∈ lw_all := lw_g (lw_at lw_m5 106 rfl) rfl
theorem q2445 : (Jvm.Cond.castable "TwoSlips$Rest" "java/lang/Object") ∈ lw_tbl := lw_at lw_m10 180 rfl
theorem in_X21 : ∀ w ∈ wsX210, w ∈ lw_all := lw_in wsX210 [1103] (by decide +kernel) (by decide +kernel)

/-! TwoSlips$Turn -/
set_option maxRecDepth 100000
def RX22 : String := "TwoSlips$Turn"
def TX22 : u_T := fun k => match k with
  | 0 => ("TwoSlips$Turn", "speaker", "I", true)
  | _ => ("TwoSlips$Turn", "saying", "LTwoSlips$Saying;", true)
def tyX22 : Nat → FieldType := fun k => match k with
  | 0 => .int
  | _ => .object "TwoSlips$Saying"
abbrev wsX220 : List Cond := u_ws RX22 TX22 2
theorem nmX22 : ∀ a, a < 2 → ∀ b, b < 2 → a ≠ b → (TX22 a).2.1 ≠ (TX22 b).2.1 := by decide +kernel
theorem tyX22_ok : ∀ k, k < 2 → parseFieldDescriptor (TX22 k).2.2.1 = some (tyX22 k) := by decide +kernel
abbrev cX22_init : ByteArray := prog_30_method_1_code
def yX22_init : MethodName := ⟨RX22, "<init>", "(ILTwoSlips$Saying;)V"⟩
def dkwX22_init_0 : List UInt8 := [42, 183, 0, 1, 42, 27, 181, 0, 7, 42, 44, 181, 0, 13, 177]
abbrev dktX22_init_0 : List UInt8 := dkwX22_init_0 ++ []
theorem dksX22_init_0 : cX22_init.data.toList.drop 0 = dktX22_init_0 := by decide +kernel
theorem dX22_init_0 : decode cX22_init 0 = .ok (.aload_n 0, 1) := dk_42 (dk_at dksX22_init_0 0 rfl rfl)
theorem dX22_init_1 : decode cX22_init 1 = .ok (.invokespecial 1, 3) := dk_183 0 1 (dk_at dksX22_init_0 1 rfl rfl)
theorem dX22_init_4 : decode cX22_init 4 = .ok (.aload_n 0, 1) := dk_42 (dk_at dksX22_init_0 4 rfl rfl)
theorem dX22_init_5 : decode cX22_init 5 = .ok (.iload_n 1, 1) := dk_27 (dk_at dksX22_init_0 5 rfl rfl)
theorem dX22_init_6 : decode cX22_init 6 = .ok (.putfield 7, 3) := dk_181 0 7 (dk_at dksX22_init_0 6 rfl rfl)
theorem dX22_init_9 : decode cX22_init 9 = .ok (.aload_n 0, 1) := dk_42 (dk_at dksX22_init_0 9 rfl rfl)
theorem dX22_init_10 : decode cX22_init 10 = .ok (.aload_n 2, 1) := dk_44 (dk_at dksX22_init_0 10 rfl rfl)
theorem dX22_init_11 : decode cX22_init 11 = .ok (.putfield 13, 3) := dk_181 0 13 (dk_at dksX22_init_0 11 rfl rfl)
theorem dX22_init_14 : decode cX22_init 14 = .ok (.return_, 1) := dk_177 (dk_at dksX22_init_0 14 rfl rfl)
theorem q143 : (Jvm.Cond.initialized "TwoSlips$Turn") ∈ lw_all := lw_g (lw_at lw_m1 38 rfl) rfl
theorem q1181 : (Jvm.Cond.selects "TwoSlips$Turn" ({ cls := "java/lang/Object", name := "getClass", desc := "()Ljava/lang/Class;" } : Jvm.MethodName) ({ cls := "java/lang/Object", name := "getClass", desc := "()Ljava/lang/Class;" } : Jvm.MethodName)) ∈ lw_all := lw_g (lw_at lw_m5 116 rfl) rfl
theorem q1213 : (Jvm.Cond.instantiable "TwoSlips$Turn" (2 : Nat)) ∈ lw_all := lw_g (lw_at lw_m5 148 rfl) rfl
theorem q1340 : (Jvm.Cond.instanceMethod ({ cls := "TwoSlips$Turn", name := "<init>", desc := "(ILTwoSlips$Saying;)V" } : Jvm.MethodName)) ∈ lw_all := lw_g (lw_at lw_m6 35 rfl) rfl
theorem q1341 : (Jvm.Cond.code ({ cls := "TwoSlips$Turn", name := "<init>", desc := "(ILTwoSlips$Saying;)V" } : Jvm.MethodName) prog_30_method_1_code (3 : Nat) (Option.none : Option Jvm.ClassFile.FieldType)) ∈ lw_all := lw_g (lw_at lw_m6 36 rfl) rfl
theorem q1342 : (Jvm.Cond.methodLink "TwoSlips$Turn" (1 : Nat) ({ cls := "java/lang/Object", name := "<init>", desc := "()V" } : Jvm.MethodName)) ∈ lw_all := lw_g (lw_at lw_m6 37 rfl) rfl
theorem q1343 : (Jvm.Cond.fieldLink "TwoSlips$Turn" (7 : Nat) "TwoSlips$Turn" "speaker" "I") ∈ lw_all := lw_g (lw_at lw_m6 38 rfl) rfl
theorem q1347 : (Jvm.Cond.fieldLink "TwoSlips$Turn" (13 : Nat) "TwoSlips$Turn" "saying" "LTwoSlips$Saying;") ∈ lw_all := lw_g (lw_at lw_m6 42 rfl) rfl
theorem q1351 : (Jvm.Cond.laysFinal "TwoSlips$Turn" "TwoSlips$Turn" "speaker" "I") ∈ lw_all := lw_g (lw_at lw_m6 46 rfl) rfl
theorem q1352 : (Jvm.Cond.soleField "TwoSlips$Turn" "speaker") ∈ lw_all := lw_g (lw_at lw_m6 47 rfl) rfl
theorem q1353 : (Jvm.Cond.laysFinal "TwoSlips$Turn" "TwoSlips$Turn" "saying" "LTwoSlips$Saying;") ∈ lw_all := lw_g (lw_at lw_m6 48 rfl) rfl
theorem q1354 : (Jvm.Cond.soleField "TwoSlips$Turn" "saying") ∈ lw_all := lw_g (lw_at lw_m6 49 rfl) rfl
theorem q1355 : (Jvm.Cond.superclass "TwoSlips$Turn" "java/lang/Object") ∈ lw_all := lw_g (lw_at lw_m6 50 rfl) rfl
theorem q2446 : (Jvm.Cond.castable "TwoSlips$Turn" "java/lang/Object") ∈ lw_tbl := lw_at lw_m10 181 rfl
theorem in_X22 : ∀ w ∈ wsX220, w ∈ lw_all := lw_in wsX220 [1351, 1353] (by decide +kernel) (by decide +kernel)

/-! TwoSlips$Saying -/
set_option maxRecDepth 100000
def RX23 : String := "TwoSlips$Saying"
abbrev cX23_init : ByteArray := prog_20_method_1_code
def yX23_init : MethodName := ⟨RX23, "<init>", "()V"⟩
theorem dX23_init_0 : decode cX23_init 0 = .ok (.aload_n 0, 1) := by decide +kernel
theorem dX23_init_1 : decode cX23_init 1 = .ok (.invokespecial 1, 3) := by decide +kernel
theorem dX23_init_4 : decode cX23_init 4 = .ok (.return_, 1) := by decide +kernel
theorem q144 : (Jvm.Cond.initialized "TwoSlips$Saying") ∈ lw_all := lw_g (lw_at lw_m1 39 rfl) rfl
theorem q607 : (Jvm.Cond.declares ({ cls := "TwoSlips$Saying", name := "fill", desc := "(LTwoSlips$Course;I[J)V" } : Jvm.MethodName)) ∈ lw_tbl := lw_at lw_m3 22 rfl
theorem q608 : (Jvm.Cond.sameMethod "TwoSlips$Saying" "TwoSlips$Saying" "fill" "(LTwoSlips$Course;I[J)V") ∈ lw_all := lw_g (lw_at lw_m3 23 rfl) rfl
theorem q1245 : (Jvm.Cond.instanceMethod ({ cls := "TwoSlips$Saying", name := "<init>", desc := "()V" } : Jvm.MethodName)) ∈ lw_all := lw_g (lw_at lw_m5 180 rfl) rfl
theorem q1246 : (Jvm.Cond.code ({ cls := "TwoSlips$Saying", name := "<init>", desc := "()V" } : Jvm.MethodName) prog_20_method_1_code (1 : Nat) (Option.none : Option Jvm.ClassFile.FieldType)) ∈ lw_all := lw_g (lw_at lw_m5 181 rfl) rfl
theorem q1247 : (Jvm.Cond.methodLink "TwoSlips$Saying" (1 : Nat) ({ cls := "java/lang/Object", name := "<init>", desc := "()V" } : Jvm.MethodName)) ∈ lw_all := lw_g (lw_at lw_m5 182 rfl) rfl

/-! TwoSlips$Not -/
set_option maxRecDepth 100000
def RX24 : String := "TwoSlips$Not"
def TX24 : u_T := fun k => match k with
  | _ => ("TwoSlips$Not", "in", "LTwoSlips$Saying;", true)
def tyX24 : Nat → FieldType := fun k => match k with
  | _ => .object "TwoSlips$Saying"
abbrev wsX240 : List Cond := u_ws RX24 TX24 1
theorem nmX24 : ∀ a, a < 1 → ∀ b, b < 1 → a ≠ b → (TX24 a).2.1 ≠ (TX24 b).2.1 := by decide +kernel
theorem tyX24_ok : ∀ k, k < 1 → parseFieldDescriptor (TX24 k).2.2.1 = some (tyX24 k) := by decide +kernel
abbrev cX24_fill : ByteArray := prog_11_method_2_code
def yX24_fill : MethodName := ⟨RX24, "fill", "(LTwoSlips$Course;I[J)V"⟩
def dkwX24_fill_1 : List UInt8 := [21, 4, 47, 20, 0, 19, 131, 43, 180, 0, 21, 21, 4, 47, 127, 80, 132, 4, 1, 167, 255, 226, 177]
abbrev dktX24_fill_1 : List UInt8 := dkwX24_fill_1 ++ []
def dkwX24_fill_0 : List UInt8 := [42, 180, 0, 9, 43, 28, 45, 182, 0, 15, 3, 54, 4, 21, 4, 16, 29, 162, 0, 29, 45, 21, 4, 45]
abbrev dktX24_fill_0 : List UInt8 := dkwX24_fill_0 ++ dktX24_fill_1
theorem dksX24_fill_0 : cX24_fill.data.toList.drop 0 = dktX24_fill_0 := by decide +kernel
theorem dksX24_fill_1 : cX24_fill.data.toList.drop 24 = dktX24_fill_1 := dk_seg dksX24_fill_0 24 rfl rfl
theorem dX24_fill_0 : decode cX24_fill 0 = .ok (.aload_n 0, 1) := dk_42 (dk_at dksX24_fill_0 0 rfl rfl)
theorem dX24_fill_1 : decode cX24_fill 1 = .ok (.getfield 9, 3) := dk_180 0 9 (dk_at dksX24_fill_0 1 rfl rfl)
theorem dX24_fill_4 : decode cX24_fill 4 = .ok (.aload_n 1, 1) := dk_43 (dk_at dksX24_fill_0 4 rfl rfl)
theorem dX24_fill_5 : decode cX24_fill 5 = .ok (.iload_n 2, 1) := dk_28 (dk_at dksX24_fill_0 5 rfl rfl)
theorem dX24_fill_6 : decode cX24_fill 6 = .ok (.aload_n 3, 1) := dk_45 (dk_at dksX24_fill_0 6 rfl rfl)
theorem dX24_fill_7 : decode cX24_fill 7 = .ok (.invokevirtual 15, 3) := dk_182 0 15 (dk_at dksX24_fill_0 7 rfl rfl)
theorem dX24_fill_10 : decode cX24_fill 10 = .ok (.iconst 0, 1) := dk_3 (dk_at dksX24_fill_0 10 rfl rfl)
theorem dX24_fill_11 : decode cX24_fill 11 = .ok (.istore 4, 2) := dk_54 4 (dk_at dksX24_fill_0 11 rfl rfl)
theorem dX24_fill_13 : decode cX24_fill 13 = .ok (.iload 4, 2) := dk_21 4 (dk_at dksX24_fill_0 13 rfl rfl)
theorem dX24_fill_15 : decode cX24_fill 15 = .ok (.bipush 29, 2) := dk_16 29 (dk_at dksX24_fill_0 15 rfl rfl)
theorem dX24_fill_17 : decode cX24_fill 17 = .ok (.if_icmp .ge 29, 3) := dk_162 0 29 (dk_at dksX24_fill_0 17 rfl rfl)
theorem dX24_fill_20 : decode cX24_fill 20 = .ok (.aload_n 3, 1) := dk_45 (dk_at dksX24_fill_0 20 rfl rfl)
theorem dX24_fill_21 : decode cX24_fill 21 = .ok (.iload 4, 2) := dk_21 4 (dk_at dksX24_fill_0 21 rfl rfl)
theorem dX24_fill_23 : decode cX24_fill 23 = .ok (.aload_n 3, 1) := dk_45 (dk_at dksX24_fill_0 23 rfl rfl)
theorem dX24_fill_24 : decode cX24_fill 24 = .ok (.iload 4, 2) := dk_21 4 (dk_at dksX24_fill_1 0 rfl rfl)
theorem dX24_fill_26 : decode cX24_fill 26 = .ok (.laload, 1) := dk_47 (dk_at dksX24_fill_1 2 rfl rfl)
theorem dX24_fill_27 : decode cX24_fill 27 = .ok (.ldc2_w 19, 3) := dk_20 0 19 (dk_at dksX24_fill_1 3 rfl rfl)
theorem dX24_fill_30 : decode cX24_fill 30 = .ok (.lxor, 1) := dk_131 (dk_at dksX24_fill_1 6 rfl rfl)
theorem dX24_fill_31 : decode cX24_fill 31 = .ok (.aload_n 1, 1) := dk_43 (dk_at dksX24_fill_1 7 rfl rfl)
theorem dX24_fill_32 : decode cX24_fill 32 = .ok (.getfield 21, 3) := dk_180 0 21 (dk_at dksX24_fill_1 8 rfl rfl)
theorem dX24_fill_35 : decode cX24_fill 35 = .ok (.iload 4, 2) := dk_21 4 (dk_at dksX24_fill_1 11 rfl rfl)
theorem dX24_fill_37 : decode cX24_fill 37 = .ok (.laload, 1) := dk_47 (dk_at dksX24_fill_1 13 rfl rfl)
theorem dX24_fill_38 : decode cX24_fill 38 = .ok (.land, 1) := dk_127 (dk_at dksX24_fill_1 14 rfl rfl)
theorem dX24_fill_39 : decode cX24_fill 39 = .ok (.lastore, 1) := dk_80 (dk_at dksX24_fill_1 15 rfl rfl)
theorem dX24_fill_40 : decode cX24_fill 40 = .ok (.iinc 4 1, 3) := dk_132 4 1 (dk_at dksX24_fill_1 16 rfl rfl)
theorem dX24_fill_43 : decode cX24_fill 43 = .ok (.goto (-30), 3) := dk_167 255 226 (dk_at dksX24_fill_1 19 rfl rfl)
theorem dX24_fill_46 : decode cX24_fill 46 = .ok (.return_, 1) := dk_177 (dk_at dksX24_fill_1 22 rfl rfl)
abbrev cX24_init : ByteArray := prog_11_method_1_code
def yX24_init : MethodName := ⟨RX24, "<init>", "(LTwoSlips$Saying;)V"⟩
def dkwX24_init_0 : List UInt8 := [42, 183, 0, 3, 42, 43, 181, 0, 9, 177]
abbrev dktX24_init_0 : List UInt8 := dkwX24_init_0 ++ []
theorem dksX24_init_0 : cX24_init.data.toList.drop 0 = dktX24_init_0 := by decide +kernel
theorem dX24_init_0 : decode cX24_init 0 = .ok (.aload_n 0, 1) := dk_42 (dk_at dksX24_init_0 0 rfl rfl)
theorem dX24_init_1 : decode cX24_init 1 = .ok (.invokespecial 3, 3) := dk_183 0 3 (dk_at dksX24_init_0 1 rfl rfl)
theorem dX24_init_4 : decode cX24_init 4 = .ok (.aload_n 0, 1) := dk_42 (dk_at dksX24_init_0 4 rfl rfl)
theorem dX24_init_5 : decode cX24_init 5 = .ok (.aload_n 1, 1) := dk_43 (dk_at dksX24_init_0 5 rfl rfl)
theorem dX24_init_6 : decode cX24_init 6 = .ok (.putfield 9, 3) := dk_181 0 9 (dk_at dksX24_init_0 6 rfl rfl)
theorem dX24_init_9 : decode cX24_init 9 = .ok (.return_, 1) := dk_177 (dk_at dksX24_init_0 9 rfl rfl)
theorem q145 : (Jvm.Cond.initialized "TwoSlips$Not") ∈ lw_all := lw_g (lw_at lw_m1 40 rfl) rfl
theorem q265 : (Jvm.Cond.fieldLinkNest "TwoSlips$Not" (21 : Nat) "TwoSlips$Course" "all" "[J" "TwoSlips") ∈ lw_tbl := lw_at lw_m1 160 rfl
theorem q649 : (Jvm.Cond.selects "TwoSlips$Not" ({ cls := "TwoSlips$Saying", name := "fill", desc := "(LTwoSlips$Course;I[J)V" } : Jvm.MethodName) ({ cls := "TwoSlips$Not", name := "fill", desc := "(LTwoSlips$Course;I[J)V" } : Jvm.MethodName)) ∈ lw_all := lw_g (lw_at lw_m3 64 rfl) rfl
theorem q650 : (Jvm.Cond.instanceMethod ({ cls := "TwoSlips$Not", name := "fill", desc := "(LTwoSlips$Course;I[J)V" } : Jvm.MethodName)) ∈ lw_all := lw_g (lw_at lw_m3 65 rfl) rfl
theorem q651 : (Jvm.Cond.code ({ cls := "TwoSlips$Not", name := "fill", desc := "(LTwoSlips$Course;I[J)V" } : Jvm.MethodName) prog_11_method_2_code (5 : Nat) (Option.none : Option Jvm.ClassFile.FieldType)) ∈ lw_all := lw_g (lw_at lw_m3 66 rfl) rfl
theorem q652 : (Jvm.Cond.methodLink "TwoSlips$Not" (15 : Nat) ({ cls := "TwoSlips$Saying", name := "fill", desc := "(LTwoSlips$Course;I[J)V" } : Jvm.MethodName)) ∈ lw_all := lw_g (lw_at lw_m3 67 rfl) rfl
theorem q670 : (Jvm.Cond.constantLong "TwoSlips$Not" (19 : Nat) (-1 : Int64)) ∈ lw_all := lw_g (lw_at lw_m3 85 rfl) rfl
theorem q1166 : (Jvm.Cond.selects "TwoSlips$Not" ({ cls := "java/lang/Object", name := "getClass", desc := "()Ljava/lang/Class;" } : Jvm.MethodName) ({ cls := "java/lang/Object", name := "getClass", desc := "()Ljava/lang/Class;" } : Jvm.MethodName)) ∈ lw_all := lw_g (lw_at lw_m5 101 rfl) rfl
theorem q1240 : (Jvm.Cond.instantiable "TwoSlips$Not" (1 : Nat)) ∈ lw_all := lw_g (lw_at lw_m5 175 rfl) rfl
theorem q1242 : (Jvm.Cond.instanceMethod ({ cls := "TwoSlips$Not", name := "<init>", desc := "(LTwoSlips$Saying;)V" } : Jvm.MethodName)) ∈ lw_all := lw_g (lw_at lw_m5 177 rfl) rfl
theorem q1243 : (Jvm.Cond.code ({ cls := "TwoSlips$Not", name := "<init>", desc := "(LTwoSlips$Saying;)V" } : Jvm.MethodName) prog_11_method_1_code (2 : Nat) (Option.none : Option Jvm.ClassFile.FieldType)) ∈ lw_all := lw_g (lw_at lw_m5 178 rfl) rfl
theorem q1244 : (Jvm.Cond.methodLinkNest "TwoSlips$Not" (3 : Nat) ({ cls := "TwoSlips$Saying", name := "<init>", desc := "()V" } : Jvm.MethodName) "TwoSlips") ∈ lw_tbl := lw_at lw_m5 179 rfl
theorem q1248 : (Jvm.Cond.fieldLink "TwoSlips$Not" (9 : Nat) "TwoSlips$Not" "in" "LTwoSlips$Saying;") ∈ lw_all := lw_g (lw_at lw_m5 183 rfl) rfl
theorem q1249 : (Jvm.Cond.laysFinal "TwoSlips$Not" "TwoSlips$Not" "in" "LTwoSlips$Saying;") ∈ lw_all := lw_g (lw_at lw_m5 184 rfl) rfl
theorem q1250 : (Jvm.Cond.soleField "TwoSlips$Not" "in") ∈ lw_all := lw_g (lw_at lw_m5 185 rfl) rfl
theorem q1251 : (Jvm.Cond.superclass "TwoSlips$Not" "TwoSlips$Saying") ∈ lw_all := lw_g (lw_at lw_m5 186 rfl) rfl
theorem q2447 : (Jvm.Cond.castable "TwoSlips$Not" "java/lang/Object") ∈ lw_tbl := lw_at lw_m10 182 rfl
theorem in_X24 : ∀ w ∈ wsX240, w ∈ lw_all := lw_in wsX240 [1249] (by decide +kernel) (by decide +kernel)

/-! TwoSlips$Knows -/
set_option maxRecDepth 100000
def RX25 : String := "TwoSlips$Knows"
def TX25 : u_T := fun k => match k with
  | _ => ("TwoSlips$Knows", "speaker", "I", true)
def tyX25 : Nat → FieldType := fun k => match k with
  | _ => .int
abbrev wsX250 : List Cond := u_ws RX25 TX25 1
theorem nmX25 : ∀ a, a < 1 → ∀ b, b < 1 → a ≠ b → (TX25 a).2.1 ≠ (TX25 b).2.1 := by decide +kernel
theorem tyX25_ok : ∀ k, k < 1 → parseFieldDescriptor (TX25 k).2.2.1 = some (tyX25 k) := by decide +kernel
abbrev cX25_fill : ByteArray := prog_8_method_2_code
def yX25_fill : MethodName := ⟨RX25, "fill", "(LTwoSlips$Course;I[J)V"⟩
def dkwX25_fill_0 : List UInt8 := [43, 42, 180, 0, 7, 43, 42, 180, 0, 7, 28, 182, 0, 13, 45, 182, 0, 19, 177]
abbrev dktX25_fill_0 : List UInt8 := dkwX25_fill_0 ++ []
theorem dksX25_fill_0 : cX25_fill.data.toList.drop 0 = dktX25_fill_0 := by decide +kernel
theorem dX25_fill_0 : decode cX25_fill 0 = .ok (.aload_n 1, 1) := dk_43 (dk_at dksX25_fill_0 0 rfl rfl)
theorem dX25_fill_1 : decode cX25_fill 1 = .ok (.aload_n 0, 1) := dk_42 (dk_at dksX25_fill_0 1 rfl rfl)
theorem dX25_fill_2 : decode cX25_fill 2 = .ok (.getfield 7, 3) := dk_180 0 7 (dk_at dksX25_fill_0 2 rfl rfl)
theorem dX25_fill_5 : decode cX25_fill 5 = .ok (.aload_n 1, 1) := dk_43 (dk_at dksX25_fill_0 5 rfl rfl)
theorem dX25_fill_6 : decode cX25_fill 6 = .ok (.aload_n 0, 1) := dk_42 (dk_at dksX25_fill_0 6 rfl rfl)
theorem dX25_fill_7 : decode cX25_fill 7 = .ok (.getfield 7, 3) := dk_180 0 7 (dk_at dksX25_fill_0 7 rfl rfl)
theorem dX25_fill_10 : decode cX25_fill 10 = .ok (.iload_n 2, 1) := dk_28 (dk_at dksX25_fill_0 10 rfl rfl)
theorem dX25_fill_11 : decode cX25_fill 11 = .ok (.invokevirtual 13, 3) := dk_182 0 13 (dk_at dksX25_fill_0 11 rfl rfl)
theorem dX25_fill_14 : decode cX25_fill 14 = .ok (.aload_n 3, 1) := dk_45 (dk_at dksX25_fill_0 14 rfl rfl)
theorem dX25_fill_15 : decode cX25_fill 15 = .ok (.invokevirtual 19, 3) := dk_182 0 19 (dk_at dksX25_fill_0 15 rfl rfl)
theorem dX25_fill_18 : decode cX25_fill 18 = .ok (.return_, 1) := dk_177 (dk_at dksX25_fill_0 18 rfl rfl)
abbrev cX25_init : ByteArray := prog_8_method_1_code
def yX25_init : MethodName := ⟨RX25, "<init>", "(I)V"⟩
def dkwX25_init_0 : List UInt8 := [42, 183, 0, 1, 42, 27, 181, 0, 7, 177]
abbrev dktX25_init_0 : List UInt8 := dkwX25_init_0 ++ []
theorem dksX25_init_0 : cX25_init.data.toList.drop 0 = dktX25_init_0 := by decide +kernel
theorem dX25_init_0 : decode cX25_init 0 = .ok (.aload_n 0, 1) := dk_42 (dk_at dksX25_init_0 0 rfl rfl)
theorem dX25_init_1 : decode cX25_init 1 = .ok (.invokespecial 1, 3) := dk_183 0 1 (dk_at dksX25_init_0 1 rfl rfl)
theorem dX25_init_4 : decode cX25_init 4 = .ok (.aload_n 0, 1) := dk_42 (dk_at dksX25_init_0 4 rfl rfl)
theorem dX25_init_5 : decode cX25_init 5 = .ok (.iload_n 1, 1) := dk_27 (dk_at dksX25_init_0 5 rfl rfl)
theorem dX25_init_6 : decode cX25_init 6 = .ok (.putfield 7, 3) := dk_181 0 7 (dk_at dksX25_init_0 6 rfl rfl)
theorem dX25_init_9 : decode cX25_init 9 = .ok (.return_, 1) := dk_177 (dk_at dksX25_init_0 9 rfl rfl)
theorem q146 : (Jvm.Cond.initialized "TwoSlips$Knows") ∈ lw_all := lw_g (lw_at lw_m1 41 rfl) rfl
theorem q627 : (Jvm.Cond.selects "TwoSlips$Knows" ({ cls := "TwoSlips$Saying", name := "fill", desc := "(LTwoSlips$Course;I[J)V" } : Jvm.MethodName) ({ cls := "TwoSlips$Knows", name := "fill", desc := "(LTwoSlips$Course;I[J)V" } : Jvm.MethodName)) ∈ lw_all := lw_g (lw_at lw_m3 42 rfl) rfl
theorem q628 : (Jvm.Cond.instanceMethod ({ cls := "TwoSlips$Knows", name := "fill", desc := "(LTwoSlips$Course;I[J)V" } : Jvm.MethodName)) ∈ lw_all := lw_g (lw_at lw_m3 43 rfl) rfl
theorem q629 : (Jvm.Cond.code ({ cls := "TwoSlips$Knows", name := "fill", desc := "(LTwoSlips$Course;I[J)V" } : Jvm.MethodName) prog_8_method_2_code (4 : Nat) (Option.none : Option Jvm.ClassFile.FieldType)) ∈ lw_all := lw_g (lw_at lw_m3 44 rfl) rfl
theorem q630 : (Jvm.Cond.methodLink "TwoSlips$Knows" (13 : Nat) ({ cls := "TwoSlips$Course", name := "heard", desc := "(II)I" } : Jvm.MethodName)) ∈ lw_all := lw_g (lw_at lw_m3 45 rfl) rfl
theorem q631 : (Jvm.Cond.methodLink "TwoSlips$Knows" (19 : Nat) ({ cls := "TwoSlips$Course", name := "knows", desc := "(II[J)V" } : Jvm.MethodName)) ∈ lw_all := lw_g (lw_at lw_m3 46 rfl) rfl
theorem q1163 : (Jvm.Cond.selects "TwoSlips$Knows" ({ cls := "java/lang/Object", name := "getClass", desc := "()Ljava/lang/Class;" } : Jvm.MethodName) ({ cls := "java/lang/Object", name := "getClass", desc := "()Ljava/lang/Class;" } : Jvm.MethodName)) ∈ lw_all := lw_g (lw_at lw_m5 98 rfl) rfl
theorem q1254 : (Jvm.Cond.instantiable "TwoSlips$Knows" (1 : Nat)) ∈ lw_all := lw_g (lw_at lw_m5 189 rfl) rfl
theorem q1256 : (Jvm.Cond.instanceMethod ({ cls := "TwoSlips$Knows", name := "<init>", desc := "(I)V" } : Jvm.MethodName)) ∈ lw_all := lw_g (lw_at lw_m5 191 rfl) rfl
theorem q1257 : (Jvm.Cond.code ({ cls := "TwoSlips$Knows", name := "<init>", desc := "(I)V" } : Jvm.MethodName) prog_8_method_1_code (2 : Nat) (Option.none : Option Jvm.ClassFile.FieldType)) ∈ lw_all := lw_g (lw_at lw_m5 192 rfl) rfl
theorem q1258 : (Jvm.Cond.methodLinkNest "TwoSlips$Knows" (1 : Nat) ({ cls := "TwoSlips$Saying", name := "<init>", desc := "()V" } : Jvm.MethodName) "TwoSlips") ∈ lw_tbl := lw_at lw_m5 193 rfl
theorem q1259 : (Jvm.Cond.fieldLink "TwoSlips$Knows" (7 : Nat) "TwoSlips$Knows" "speaker" "I") ∈ lw_all := lw_g (lw_at lw_m5 194 rfl) rfl
theorem q1260 : (Jvm.Cond.laysFinal "TwoSlips$Knows" "TwoSlips$Knows" "speaker" "I") ∈ lw_all := lw_g (lw_at lw_m5 195 rfl) rfl
theorem q1261 : (Jvm.Cond.soleField "TwoSlips$Knows" "speaker") ∈ lw_all := lw_g (lw_at lw_m5 196 rfl) rfl
theorem q1262 : (Jvm.Cond.superclass "TwoSlips$Knows" "TwoSlips$Saying") ∈ lw_all := lw_g (lw_at lw_m5 197 rfl) rfl
theorem q2448 : (Jvm.Cond.castable "TwoSlips$Knows" "java/lang/Object") ∈ lw_tbl := lw_at lw_m10 183 rfl
theorem in_X25 : ∀ w ∈ wsX250, w ∈ lw_all := lw_in wsX250 [1260] (by decide +kernel) (by decide +kernel)

/-! TwoSlips$Sees -/
set_option maxRecDepth 100000
def RX26 : String := "TwoSlips$Sees"
def TX26 : u_T := fun k => match k with
  | 0 => ("TwoSlips$Sees", "speaker", "I", true)
  | _ => ("TwoSlips$Sees", "in", "LTwoSlips$Saying;", true)
def tyX26 : Nat → FieldType := fun k => match k with
  | 0 => .int
  | _ => .object "TwoSlips$Saying"
abbrev wsX260 : List Cond := u_ws RX26 TX26 2
theorem nmX26 : ∀ a, a < 2 → ∀ b, b < 2 → a ≠ b → (TX26 a).2.1 ≠ (TX26 b).2.1 := by decide +kernel
theorem tyX26_ok : ∀ k, k < 2 → parseFieldDescriptor (TX26 k).2.2.1 = some (tyX26 k) := by decide +kernel
abbrev cX26_fill : ByteArray := prog_21_method_2_code
def yX26_fill : MethodName := ⟨RX26, "fill", "(LTwoSlips$Course;I[J)V"⟩
def dkwX26_fill_0 : List UInt8 := [43, 42, 180, 0, 7, 42, 180, 0, 13, 28, 45, 182, 0, 17, 177]
abbrev dktX26_fill_0 : List UInt8 := dkwX26_fill_0 ++ []
theorem dksX26_fill_0 : cX26_fill.data.toList.drop 0 = dktX26_fill_0 := by decide +kernel
theorem dX26_fill_0 : decode cX26_fill 0 = .ok (.aload_n 1, 1) := dk_43 (dk_at dksX26_fill_0 0 rfl rfl)
theorem dX26_fill_1 : decode cX26_fill 1 = .ok (.aload_n 0, 1) := dk_42 (dk_at dksX26_fill_0 1 rfl rfl)
theorem dX26_fill_2 : decode cX26_fill 2 = .ok (.getfield 7, 3) := dk_180 0 7 (dk_at dksX26_fill_0 2 rfl rfl)
theorem dX26_fill_5 : decode cX26_fill 5 = .ok (.aload_n 0, 1) := dk_42 (dk_at dksX26_fill_0 5 rfl rfl)
theorem dX26_fill_6 : decode cX26_fill 6 = .ok (.getfield 13, 3) := dk_180 0 13 (dk_at dksX26_fill_0 6 rfl rfl)
theorem dX26_fill_9 : decode cX26_fill 9 = .ok (.iload_n 2, 1) := dk_28 (dk_at dksX26_fill_0 9 rfl rfl)
theorem dX26_fill_10 : decode cX26_fill 10 = .ok (.aload_n 3, 1) := dk_45 (dk_at dksX26_fill_0 10 rfl rfl)
theorem dX26_fill_11 : decode cX26_fill 11 = .ok (.invokevirtual 17, 3) := dk_182 0 17 (dk_at dksX26_fill_0 11 rfl rfl)
theorem dX26_fill_14 : decode cX26_fill 14 = .ok (.return_, 1) := dk_177 (dk_at dksX26_fill_0 14 rfl rfl)
abbrev cX26_init : ByteArray := prog_21_method_1_code
def yX26_init : MethodName := ⟨RX26, "<init>", "(ILTwoSlips$Saying;)V"⟩
def dkwX26_init_0 : List UInt8 := [42, 183, 0, 1, 42, 27, 181, 0, 7, 42, 44, 181, 0, 13, 177]
abbrev dktX26_init_0 : List UInt8 := dkwX26_init_0 ++ []
theorem dksX26_init_0 : cX26_init.data.toList.drop 0 = dktX26_init_0 := by decide +kernel
theorem dX26_init_0 : decode cX26_init 0 = .ok (.aload_n 0, 1) := dk_42 (dk_at dksX26_init_0 0 rfl rfl)
theorem dX26_init_1 : decode cX26_init 1 = .ok (.invokespecial 1, 3) := dk_183 0 1 (dk_at dksX26_init_0 1 rfl rfl)
theorem dX26_init_4 : decode cX26_init 4 = .ok (.aload_n 0, 1) := dk_42 (dk_at dksX26_init_0 4 rfl rfl)
theorem dX26_init_5 : decode cX26_init 5 = .ok (.iload_n 1, 1) := dk_27 (dk_at dksX26_init_0 5 rfl rfl)
theorem dX26_init_6 : decode cX26_init 6 = .ok (.putfield 7, 3) := dk_181 0 7 (dk_at dksX26_init_0 6 rfl rfl)
theorem dX26_init_9 : decode cX26_init 9 = .ok (.aload_n 0, 1) := dk_42 (dk_at dksX26_init_0 9 rfl rfl)
theorem dX26_init_10 : decode cX26_init 10 = .ok (.aload_n 2, 1) := dk_44 (dk_at dksX26_init_0 10 rfl rfl)
theorem dX26_init_11 : decode cX26_init 11 = .ok (.putfield 13, 3) := dk_181 0 13 (dk_at dksX26_init_0 11 rfl rfl)
theorem dX26_init_14 : decode cX26_init 14 = .ok (.return_, 1) := dk_177 (dk_at dksX26_init_0 14 rfl rfl)
theorem q147 : (Jvm.Cond.initialized "TwoSlips$Sees") ∈ lw_all := lw_g (lw_at lw_m1 42 rfl) rfl
theorem q656 : (Jvm.Cond.instanceMethod ({ cls := "TwoSlips$Sees", name := "fill", desc := "(LTwoSlips$Course;I[J)V" } : Jvm.MethodName)) ∈ lw_all := lw_g (lw_at lw_m3 71 rfl) rfl
theorem q657 : (Jvm.Cond.code ({ cls := "TwoSlips$Sees", name := "fill", desc := "(LTwoSlips$Course;I[J)V" } : Jvm.MethodName) prog_21_method_2_code (4 : Nat) (Option.none : Option Jvm.ClassFile.FieldType)) ∈ lw_all := lw_g (lw_at lw_m3 72 rfl) rfl
theorem q658 : (Jvm.Cond.methodLink "TwoSlips$Sees" (17 : Nat) ({ cls := "TwoSlips$Course", name := "sees", desc := "(ILTwoSlips$Saying;I[J)V" } : Jvm.MethodName)) ∈ lw_all := lw_g (lw_at lw_m3 73 rfl) rfl
theorem q673 : (Jvm.Cond.selects "TwoSlips$Sees" ({ cls := "TwoSlips$Saying", name := "fill", desc := "(LTwoSlips$Course;I[J)V" } : Jvm.MethodName) ({ cls := "TwoSlips$Sees", name := "fill", desc := "(LTwoSlips$Course;I[J)V" } : Jvm.MethodName)) ∈ lw_all := lw_g (lw_at lw_m3 88 rfl) rfl
theorem q1173 : (Jvm.Cond.selects "TwoSlips$Sees" ({ cls := "java/lang/Object", name := "getClass", desc := "()Ljava/lang/Class;" } : Jvm.MethodName) ({ cls := "java/lang/Object", name := "getClass", desc := "()Ljava/lang/Class;" } : Jvm.MethodName)) ∈ lw_all := lw_g (lw_at lw_m5 108 rfl) rfl
theorem q1265 : (Jvm.Cond.instantiable "TwoSlips$Sees" (2 : Nat)) ∈ lw_all := lw_g (lw_at lw_m5 200 rfl) rfl
theorem q1267 : (Jvm.Cond.instanceMethod ({ cls := "TwoSlips$Sees", name := "<init>", desc := "(ILTwoSlips$Saying;)V" } : Jvm.MethodName)) ∈ lw_all := lw_g (lw_at lw_m5 202 rfl) rfl
theorem q1268 : (Jvm.Cond.code ({ cls := "TwoSlips$Sees", name := "<init>", desc := "(ILTwoSlips$Saying;)V" } : Jvm.MethodName) prog_21_method_1_code (3 : Nat) (Option.none : Option Jvm.ClassFile.FieldType)) ∈ lw_all := lw_g (lw_at lw_m5 203 rfl) rfl
theorem q1269 : (Jvm.Cond.methodLinkNest "TwoSlips$Sees" (1 : Nat) ({ cls := "TwoSlips$Saying", name := "<init>", desc := "()V" } : Jvm.MethodName) "TwoSlips") ∈ lw_tbl := lw_at lw_m5 204 rfl
theorem q1270 : (Jvm.Cond.fieldLink "TwoSlips$Sees" (7 : Nat) "TwoSlips$Sees" "speaker" "I") ∈ lw_all := lw_g (lw_at lw_m5 205 rfl) rfl
theorem q1271 : (Jvm.Cond.fieldLink "TwoSlips$Sees" (13 : Nat) "TwoSlips$Sees" "in" "LTwoSlips$Saying;") ∈ lw_all := lw_g (lw_at lw_m5 206 rfl) rfl
theorem q1272 : (Jvm.Cond.laysFinal "TwoSlips$Sees" "TwoSlips$Sees" "speaker" "I") ∈ lw_all := lw_g (lw_at lw_m5 207 rfl) rfl
theorem q1273 : (Jvm.Cond.soleField "TwoSlips$Sees" "speaker") ∈ lw_all := lw_g (lw_at lw_m5 208 rfl) rfl
theorem q1274 : (Jvm.Cond.laysFinal "TwoSlips$Sees" "TwoSlips$Sees" "in" "LTwoSlips$Saying;") ∈ lw_all := lw_g (lw_at lw_m5 209 rfl) rfl
theorem q1275 : (Jvm.Cond.soleField "TwoSlips$Sees" "in") ∈ lw_all := lw_g (lw_at lw_m5 210 rfl) rfl
theorem q1276 : (Jvm.Cond.superclass "TwoSlips$Sees" "TwoSlips$Saying") ∈ lw_all := lw_g (lw_at lw_m5 211 rfl) rfl
theorem q2449 : (Jvm.Cond.castable "TwoSlips$Sees" "java/lang/Object") ∈ lw_tbl := lw_at lw_m10 184 rfl
theorem in_X26 : ∀ w ∈ wsX260, w ∈ lw_all := lw_in wsX260 [1272, 1274] (by decide +kernel) (by decide +kernel)

/-! TwoSlips$Was -/
set_option maxRecDepth 100000
def RX27 : String := "TwoSlips$Was"
def TX27 : u_T := fun k => match k with
  | 0 => ("TwoSlips$Was", "turns", "I", true)
  | _ => ("TwoSlips$Was", "in", "LTwoSlips$Saying;", true)
def tyX27 : Nat → FieldType := fun k => match k with
  | 0 => .int
  | _ => .object "TwoSlips$Saying"
abbrev wsX270 : List Cond := u_ws RX27 TX27 2
theorem nmX27 : ∀ a, a < 2 → ∀ b, b < 2 → a ≠ b → (TX27 a).2.1 ≠ (TX27 b).2.1 := by decide +kernel
theorem tyX27_ok : ∀ k, k < 2 → parseFieldDescriptor (TX27 k).2.2.1 = some (tyX27 k) := by decide +kernel
abbrev cX27_fill : ByteArray := prog_31_method_2_code
def yX27_fill : MethodName := ⟨RX27, "fill", "(LTwoSlips$Course;I[J)V"⟩
def dkwX27_fill_0 : List UInt8 := [42, 180, 0, 13, 43, 28, 42, 180, 0, 7, 184, 0, 17, 45, 182, 0, 23, 177]
abbrev dktX27_fill_0 : List UInt8 := dkwX27_fill_0 ++ []
theorem dksX27_fill_0 : cX27_fill.data.toList.drop 0 = dktX27_fill_0 := by decide +kernel
theorem dX27_fill_0 : decode cX27_fill 0 = .ok (.aload_n 0, 1) := dk_42 (dk_at dksX27_fill_0 0 rfl rfl)
theorem dX27_fill_1 : decode cX27_fill 1 = .ok (.getfield 13, 3) := dk_180 0 13 (dk_at dksX27_fill_0 1 rfl rfl)
theorem dX27_fill_4 : decode cX27_fill 4 = .ok (.aload_n 1, 1) := dk_43 (dk_at dksX27_fill_0 4 rfl rfl)
theorem dX27_fill_5 : decode cX27_fill 5 = .ok (.iload_n 2, 1) := dk_28 (dk_at dksX27_fill_0 5 rfl rfl)
theorem dX27_fill_6 : decode cX27_fill 6 = .ok (.aload_n 0, 1) := dk_42 (dk_at dksX27_fill_0 6 rfl rfl)
theorem dX27_fill_7 : decode cX27_fill 7 = .ok (.getfield 7, 3) := dk_180 0 7 (dk_at dksX27_fill_0 7 rfl rfl)
theorem dX27_fill_10 : decode cX27_fill 10 = .ok (.invokestatic 17, 3) := dk_184 0 17 (dk_at dksX27_fill_0 10 rfl rfl)
theorem dX27_fill_13 : decode cX27_fill 13 = .ok (.aload_n 3, 1) := dk_45 (dk_at dksX27_fill_0 13 rfl rfl)
theorem dX27_fill_14 : decode cX27_fill 14 = .ok (.invokevirtual 23, 3) := dk_182 0 23 (dk_at dksX27_fill_0 14 rfl rfl)
theorem dX27_fill_17 : decode cX27_fill 17 = .ok (.return_, 1) := dk_177 (dk_at dksX27_fill_0 17 rfl rfl)
abbrev cX27_init : ByteArray := prog_31_method_1_code
def yX27_init : MethodName := ⟨RX27, "<init>", "(ILTwoSlips$Saying;)V"⟩
def dkwX27_init_0 : List UInt8 := [42, 183, 0, 1, 42, 27, 181, 0, 7, 42, 44, 181, 0, 13, 177]
abbrev dktX27_init_0 : List UInt8 := dkwX27_init_0 ++ []
theorem dksX27_init_0 : cX27_init.data.toList.drop 0 = dktX27_init_0 := by decide +kernel
theorem dX27_init_0 : decode cX27_init 0 = .ok (.aload_n 0, 1) := dk_42 (dk_at dksX27_init_0 0 rfl rfl)
theorem dX27_init_1 : decode cX27_init 1 = .ok (.invokespecial 1, 3) := dk_183 0 1 (dk_at dksX27_init_0 1 rfl rfl)
theorem dX27_init_4 : decode cX27_init 4 = .ok (.aload_n 0, 1) := dk_42 (dk_at dksX27_init_0 4 rfl rfl)
theorem dX27_init_5 : decode cX27_init 5 = .ok (.iload_n 1, 1) := dk_27 (dk_at dksX27_init_0 5 rfl rfl)
theorem dX27_init_6 : decode cX27_init 6 = .ok (.putfield 7, 3) := dk_181 0 7 (dk_at dksX27_init_0 6 rfl rfl)
theorem dX27_init_9 : decode cX27_init 9 = .ok (.aload_n 0, 1) := dk_42 (dk_at dksX27_init_0 9 rfl rfl)
theorem dX27_init_10 : decode cX27_init 10 = .ok (.aload_n 2, 1) := dk_44 (dk_at dksX27_init_0 10 rfl rfl)
theorem dX27_init_11 : decode cX27_init 11 = .ok (.putfield 13, 3) := dk_181 0 13 (dk_at dksX27_init_0 11 rfl rfl)
theorem dX27_init_14 : decode cX27_init 14 = .ok (.return_, 1) := dk_177 (dk_at dksX27_init_0 14 rfl rfl)
theorem q148 : (Jvm.Cond.initialized "TwoSlips$Was") ∈ lw_all := lw_g (lw_at lw_m1 43 rfl) rfl
theorem q659 : (Jvm.Cond.instanceMethod ({ cls := "TwoSlips$Was", name := "fill", desc := "(LTwoSlips$Course;I[J)V" } : Jvm.MethodName)) ∈ lw_all := lw_g (lw_at lw_m3 74 rfl) rfl
theorem q660 : (Jvm.Cond.code ({ cls := "TwoSlips$Was", name := "fill", desc := "(LTwoSlips$Course;I[J)V" } : Jvm.MethodName) prog_31_method_2_code (4 : Nat) (Option.none : Option Jvm.ClassFile.FieldType)) ∈ lw_all := lw_g (lw_at lw_m3 75 rfl) rfl
theorem q661 : (Jvm.Cond.methodLink "TwoSlips$Was" (17 : Nat) ({ cls := "java/lang/Math", name := "min", desc := "(II)I" } : Jvm.MethodName)) ∈ lw_all := lw_g (lw_at lw_m3 76 rfl) rfl
theorem q664 : (Jvm.Cond.methodLink "TwoSlips$Was" (23 : Nat) ({ cls := "TwoSlips$Saying", name := "fill", desc := "(LTwoSlips$Course;I[J)V" } : Jvm.MethodName)) ∈ lw_all := lw_g (lw_at lw_m3 79 rfl) rfl
theorem q674 : (Jvm.Cond.selects "TwoSlips$Was" ({ cls := "TwoSlips$Saying", name := "fill", desc := "(LTwoSlips$Course;I[J)V" } : Jvm.MethodName) ({ cls := "TwoSlips$Was", name := "fill", desc := "(LTwoSlips$Course;I[J)V" } : Jvm.MethodName)) ∈ lw_all := lw_g (lw_at lw_m3 89 rfl) rfl
theorem q1182 : (Jvm.Cond.selects "TwoSlips$Was" ({ cls := "java/lang/Object", name := "getClass", desc := "()Ljava/lang/Class;" } : Jvm.MethodName) ({ cls := "java/lang/Object", name := "getClass", desc := "()Ljava/lang/Class;" } : Jvm.MethodName)) ∈ lw_all := lw_g (lw_at lw_m5 117 rfl) rfl
theorem q1279 : (Jvm.Cond.instantiable "TwoSlips$Was" (2 : Nat)) ∈ lw_all := lw_g (lw_at lw_m5 214 rfl) rfl
theorem q1281 : (Jvm.Cond.instanceMethod ({ cls := "TwoSlips$Was", name := "<init>", desc := "(ILTwoSlips$Saying;)V" } : Jvm.MethodName)) ∈ lw_all := lw_g (lw_at lw_m5 216 rfl) rfl
theorem q1282 : (Jvm.Cond.code ({ cls := "TwoSlips$Was", name := "<init>", desc := "(ILTwoSlips$Saying;)V" } : Jvm.MethodName) prog_31_method_1_code (3 : Nat) (Option.none : Option Jvm.ClassFile.FieldType)) ∈ lw_all := lw_g (lw_at lw_m5 217 rfl) rfl
theorem q1283 : (Jvm.Cond.methodLinkNest "TwoSlips$Was" (1 : Nat) ({ cls := "TwoSlips$Saying", name := "<init>", desc := "()V" } : Jvm.MethodName) "TwoSlips") ∈ lw_tbl := lw_at lw_m5 218 rfl
theorem q1284 : (Jvm.Cond.fieldLink "TwoSlips$Was" (7 : Nat) "TwoSlips$Was" "turns" "I") ∈ lw_all := lw_g (lw_at lw_m5 219 rfl) rfl
theorem q1285 : (Jvm.Cond.fieldLink "TwoSlips$Was" (13 : Nat) "TwoSlips$Was" "in" "LTwoSlips$Saying;") ∈ lw_all := lw_g (lw_at lw_m5 220 rfl) rfl
theorem q1286 : (Jvm.Cond.laysFinal "TwoSlips$Was" "TwoSlips$Was" "turns" "I") ∈ lw_all := lw_g (lw_at lw_m5 221 rfl) rfl
theorem q1287 : (Jvm.Cond.soleField "TwoSlips$Was" "turns") ∈ lw_all := lw_g (lw_at lw_m5 222 rfl) rfl
theorem q1288 : (Jvm.Cond.laysFinal "TwoSlips$Was" "TwoSlips$Was" "in" "LTwoSlips$Saying;") ∈ lw_all := lw_g (lw_at lw_m5 223 rfl) rfl
theorem q1289 : (Jvm.Cond.soleField "TwoSlips$Was" "in") ∈ lw_all := lw_g (lw_at lw_m5 224 rfl) rfl
theorem q1290 : (Jvm.Cond.superclass "TwoSlips$Was" "TwoSlips$Saying") ∈ lw_all := lw_g (lw_at lw_m5 225 rfl) rfl
theorem q2450 : (Jvm.Cond.castable "TwoSlips$Was" "java/lang/Object") ∈ lw_tbl := lw_at lw_m10 185 rfl
theorem in_X27 : ∀ w ∈ wsX270, w ∈ lw_all := lw_in wsX270 [1286, 1288] (by decide +kernel) (by decide +kernel)

/-! TwoSlips$Plain -/
set_option maxRecDepth 100000
def RX28 : String := "TwoSlips$Plain"
abbrev cX28_fill : ByteArray := prog_14_method_3_code
def yX28_fill : MethodName := ⟨RX28, "fill", "(LTwoSlips$Course;I[J)V"⟩
def dkwX28_fill_2 : List UInt8 := [167, 255, 217, 177]
abbrev dktX28_fill_2 : List UInt8 := dkwX28_fill_2 ++ []
def dkwX28_fill_1 : List UInt8 := [46, 43, 180, 0, 23, 21, 4, 46, 182, 0, 26, 153, 0, 9, 45, 21, 4, 184, 0, 32, 132, 4, 1]
abbrev dktX28_fill_1 : List UInt8 := dkwX28_fill_1 ++ dktX28_fill_2
def dkwX28_fill_0 : List UInt8 := [45, 9, 184, 0, 7, 3, 54, 4, 21, 4, 43, 180, 0, 13, 162, 0, 36, 42, 43, 180, 0, 19, 21, 4]
abbrev dktX28_fill_0 : List UInt8 := dkwX28_fill_0 ++ dktX28_fill_1
theorem dksX28_fill_0 : cX28_fill.data.toList.drop 0 = dktX28_fill_0 := by decide +kernel
theorem dksX28_fill_1 : cX28_fill.data.toList.drop 24 = dktX28_fill_1 := dk_seg dksX28_fill_0 24 rfl rfl
theorem dksX28_fill_2 : cX28_fill.data.toList.drop 47 = dktX28_fill_2 := dk_seg dksX28_fill_1 23 rfl rfl
theorem dX28_fill_0 : decode cX28_fill 0 = .ok (.aload_n 3, 1) := dk_45 (dk_at dksX28_fill_0 0 rfl rfl)
theorem dX28_fill_1 : decode cX28_fill 1 = .ok (.lconst 0, 1) := dk_9 (dk_at dksX28_fill_0 1 rfl rfl)
theorem dX28_fill_2 : decode cX28_fill 2 = .ok (.invokestatic 7, 3) := dk_184 0 7 (dk_at dksX28_fill_0 2 rfl rfl)
theorem dX28_fill_5 : decode cX28_fill 5 = .ok (.iconst 0, 1) := dk_3 (dk_at dksX28_fill_0 5 rfl rfl)
theorem dX28_fill_6 : decode cX28_fill 6 = .ok (.istore 4, 2) := dk_54 4 (dk_at dksX28_fill_0 6 rfl rfl)
theorem dX28_fill_8 : decode cX28_fill 8 = .ok (.iload 4, 2) := dk_21 4 (dk_at dksX28_fill_0 8 rfl rfl)
theorem dX28_fill_10 : decode cX28_fill 10 = .ok (.aload_n 1, 1) := dk_43 (dk_at dksX28_fill_0 10 rfl rfl)
theorem dX28_fill_11 : decode cX28_fill 11 = .ok (.getfield 13, 3) := dk_180 0 13 (dk_at dksX28_fill_0 11 rfl rfl)
theorem dX28_fill_14 : decode cX28_fill 14 = .ok (.if_icmp .ge 36, 3) := dk_162 0 36 (dk_at dksX28_fill_0 14 rfl rfl)
theorem dX28_fill_17 : decode cX28_fill 17 = .ok (.aload_n 0, 1) := dk_42 (dk_at dksX28_fill_0 17 rfl rfl)
theorem dX28_fill_18 : decode cX28_fill 18 = .ok (.aload_n 1, 1) := dk_43 (dk_at dksX28_fill_0 18 rfl rfl)
theorem dX28_fill_19 : decode cX28_fill 19 = .ok (.getfield 19, 3) := dk_180 0 19 (dk_at dksX28_fill_0 19 rfl rfl)
theorem dX28_fill_22 : decode cX28_fill 22 = .ok (.iload 4, 2) := dk_21 4 (dk_at dksX28_fill_0 22 rfl rfl)
theorem dX28_fill_24 : decode cX28_fill 24 = .ok (.iaload, 1) := dk_46 (dk_at dksX28_fill_1 0 rfl rfl)
theorem dX28_fill_25 : decode cX28_fill 25 = .ok (.aload_n 1, 1) := dk_43 (dk_at dksX28_fill_1 1 rfl rfl)
theorem dX28_fill_26 : decode cX28_fill 26 = .ok (.getfield 23, 3) := dk_180 0 23 (dk_at dksX28_fill_1 2 rfl rfl)
theorem dX28_fill_29 : decode cX28_fill 29 = .ok (.iload 4, 2) := dk_21 4 (dk_at dksX28_fill_1 5 rfl rfl)
theorem dX28_fill_31 : decode cX28_fill 31 = .ok (.iaload, 1) := dk_46 (dk_at dksX28_fill_1 7 rfl rfl)
theorem dX28_fill_32 : decode cX28_fill 32 = .ok (.invokevirtual 26, 3) := dk_182 0 26 (dk_at dksX28_fill_1 8 rfl rfl)
theorem dX28_fill_35 : decode cX28_fill 35 = .ok (.ifCond .eq 9, 3) := dk_153 0 9 (dk_at dksX28_fill_1 11 rfl rfl)
theorem dX28_fill_38 : decode cX28_fill 38 = .ok (.aload_n 3, 1) := dk_45 (dk_at dksX28_fill_1 14 rfl rfl)
theorem dX28_fill_39 : decode cX28_fill 39 = .ok (.iload 4, 2) := dk_21 4 (dk_at dksX28_fill_1 15 rfl rfl)
theorem dX28_fill_41 : decode cX28_fill 41 = .ok (.invokestatic 32, 3) := dk_184 0 32 (dk_at dksX28_fill_1 17 rfl rfl)
theorem dX28_fill_44 : decode cX28_fill 44 = .ok (.iinc 4 1, 3) := dk_132 4 1 (dk_at dksX28_fill_1 20 rfl rfl)
theorem dX28_fill_47 : decode cX28_fill 47 = .ok (.goto (-39), 3) := dk_167 255 217 (dk_at dksX28_fill_2 0 rfl rfl)
theorem dX28_fill_50 : decode cX28_fill 50 = .ok (.return_, 1) := dk_177 (dk_at dksX28_fill_2 3 rfl rfl)
abbrev cX28_init : ByteArray := prog_14_method_1_code
def yX28_init : MethodName := ⟨RX28, "<init>", "()V"⟩
theorem dX28_init_0 : decode cX28_init 0 = .ok (.aload_n 0, 1) := by decide +kernel
theorem dX28_init_1 : decode cX28_init 1 = .ok (.invokespecial 1, 3) := by decide +kernel
theorem dX28_init_4 : decode cX28_init 4 = .ok (.return_, 1) := by decide +kernel
theorem q149 : (Jvm.Cond.initialized "TwoSlips$Plain") ∈ lw_all := lw_g (lw_at lw_m1 44 rfl) rfl
theorem q254 : (Jvm.Cond.fieldLinkNest "TwoSlips$Plain" (19 : Nat) "TwoSlips$Course" "x" "[I" "TwoSlips") ∈ lw_tbl := lw_at lw_m1 149 rfl
theorem q257 : (Jvm.Cond.fieldLinkNest "TwoSlips$Plain" (23 : Nat) "TwoSlips$Course" "y" "[I" "TwoSlips") ∈ lw_tbl := lw_at lw_m1 152 rfl
theorem q274 : (Jvm.Cond.fieldLinkNest "TwoSlips$Plain" (13 : Nat) "TwoSlips$Course" "many" "I" "TwoSlips") ∈ lw_tbl := lw_at lw_m1 169 rfl
theorem q610 : (Jvm.Cond.instanceMethod ({ cls := "TwoSlips$Plain", name := "fill", desc := "(LTwoSlips$Course;I[J)V" } : Jvm.MethodName)) ∈ lw_all := lw_g (lw_at lw_m3 25 rfl) rfl
theorem q611 : (Jvm.Cond.code ({ cls := "TwoSlips$Plain", name := "fill", desc := "(LTwoSlips$Course;I[J)V" } : Jvm.MethodName) prog_14_method_3_code (5 : Nat) (Option.none : Option Jvm.ClassFile.FieldType)) ∈ lw_all := lw_g (lw_at lw_m3 26 rfl) rfl
theorem q612 : (Jvm.Cond.methodLink "TwoSlips$Plain" (7 : Nat) ({ cls := "java/util/Arrays", name := "fill", desc := "([JJ)V" } : Jvm.MethodName)) ∈ lw_all := lw_g (lw_at lw_m3 27 rfl) rfl
theorem q613 : (Jvm.Cond.methodLink "TwoSlips$Plain" (26 : Nat) ({ cls := "TwoSlips$Plain", name := "is", desc := "(II)Z" } : Jvm.MethodName)) ∈ lw_all := lw_g (lw_at lw_m3 28 rfl) rfl
theorem q614 : (Jvm.Cond.declares ({ cls := "TwoSlips$Plain", name := "is", desc := "(II)Z" } : Jvm.MethodName)) ∈ lw_tbl := lw_at lw_m3 29 rfl
theorem q615 : (Jvm.Cond.sameMethod "TwoSlips$Plain" "TwoSlips$Plain" "is" "(II)Z") ∈ lw_all := lw_g (lw_at lw_m3 30 rfl) rfl
theorem q625 : (Jvm.Cond.methodLinkNest "TwoSlips$Plain" (32 : Nat) ({ cls := "TwoSlips", name := "puts", desc := "([JI)V" } : Jvm.MethodName) "TwoSlips") ∈ lw_tbl := lw_at lw_m3 40 rfl
theorem q1298 : (Jvm.Cond.instanceMethod ({ cls := "TwoSlips$Plain", name := "<init>", desc := "()V" } : Jvm.MethodName)) ∈ lw_all := lw_g (lw_at lw_m5 233 rfl) rfl
theorem q1299 : (Jvm.Cond.code ({ cls := "TwoSlips$Plain", name := "<init>", desc := "()V" } : Jvm.MethodName) prog_14_method_1_code (1 : Nat) (Option.none : Option Jvm.ClassFile.FieldType)) ∈ lw_all := lw_g (lw_at lw_m5 234 rfl) rfl
theorem q1300 : (Jvm.Cond.methodLinkNest "TwoSlips$Plain" (1 : Nat) ({ cls := "TwoSlips$Saying", name := "<init>", desc := "()V" } : Jvm.MethodName) "TwoSlips") ∈ lw_tbl := lw_at lw_m5 235 rfl

/-! TwoSlips$Even -/
set_option maxRecDepth 100000
def RX29 : String := "TwoSlips$Even"
abbrev cX29_is : ByteArray := prog_6_method_2_code
def yX29_is : MethodName := ⟨RX29, "is", "(II)Z"⟩
def dkwX29_is_0 : List UInt8 := [27, 28, 96, 5, 112, 154, 0, 7, 4, 167, 0, 4, 3, 172]
abbrev dktX29_is_0 : List UInt8 := dkwX29_is_0 ++ []
theorem dksX29_is_0 : cX29_is.data.toList.drop 0 = dktX29_is_0 := by decide +kernel
theorem dX29_is_0 : decode cX29_is 0 = .ok (.iload_n 1, 1) := dk_27 (dk_at dksX29_is_0 0 rfl rfl)
theorem dX29_is_1 : decode cX29_is 1 = .ok (.iload_n 2, 1) := dk_28 (dk_at dksX29_is_0 1 rfl rfl)
theorem dX29_is_2 : decode cX29_is 2 = .ok (.iadd, 1) := dk_96 (dk_at dksX29_is_0 2 rfl rfl)
theorem dX29_is_3 : decode cX29_is 3 = .ok (.iconst 2, 1) := dk_5 (dk_at dksX29_is_0 3 rfl rfl)
theorem dX29_is_4 : decode cX29_is 4 = .ok (.irem, 1) := dk_112 (dk_at dksX29_is_0 4 rfl rfl)
theorem dX29_is_5 : decode cX29_is 5 = .ok (.ifCond .ne 7, 3) := dk_154 0 7 (dk_at dksX29_is_0 5 rfl rfl)
theorem dX29_is_8 : decode cX29_is 8 = .ok (.iconst 1, 1) := dk_4 (dk_at dksX29_is_0 8 rfl rfl)
theorem dX29_is_9 : decode cX29_is 9 = .ok (.goto 4, 3) := dk_167 0 4 (dk_at dksX29_is_0 9 rfl rfl)
theorem dX29_is_12 : decode cX29_is 12 = .ok (.iconst 0, 1) := dk_3 (dk_at dksX29_is_0 12 rfl rfl)
theorem dX29_is_13 : decode cX29_is 13 = .ok (.ireturn, 1) := dk_172 (dk_at dksX29_is_0 13 rfl rfl)
abbrev cX29_init : ByteArray := prog_6_method_1_code
def yX29_init : MethodName := ⟨RX29, "<init>", "()V"⟩
theorem dX29_init_0 : decode cX29_init 0 = .ok (.aload_n 0, 1) := by decide +kernel
theorem dX29_init_1 : decode cX29_init 1 = .ok (.invokespecial 1, 3) := by decide +kernel
theorem dX29_init_4 : decode cX29_init 4 = .ok (.return_, 1) := by decide +kernel
theorem q150 : (Jvm.Cond.initialized "TwoSlips$Even") ∈ lw_all := lw_g (lw_at lw_m1 45 rfl) rfl
theorem q619 : (Jvm.Cond.selects "TwoSlips$Even" ({ cls := "TwoSlips$Plain", name := "is", desc := "(II)Z" } : Jvm.MethodName) ({ cls := "TwoSlips$Even", name := "is", desc := "(II)Z" } : Jvm.MethodName)) ∈ lw_all := lw_g (lw_at lw_m3 34 rfl) rfl
theorem q620 : (Jvm.Cond.instanceMethod ({ cls := "TwoSlips$Even", name := "is", desc := "(II)Z" } : Jvm.MethodName)) ∈ lw_all := lw_g (lw_at lw_m3 35 rfl) rfl
theorem q621 : (Jvm.Cond.code ({ cls := "TwoSlips$Even", name := "is", desc := "(II)Z" } : Jvm.MethodName) prog_6_method_2_code (3 : Nat) (Option.some Jvm.ClassFile.FieldType.boolean)) ∈ lw_all := lw_g (lw_at lw_m3 36 rfl) rfl
theorem q626 : (Jvm.Cond.selects "TwoSlips$Even" ({ cls := "TwoSlips$Saying", name := "fill", desc := "(LTwoSlips$Course;I[J)V" } : Jvm.MethodName) ({ cls := "TwoSlips$Plain", name := "fill", desc := "(LTwoSlips$Course;I[J)V" } : Jvm.MethodName)) ∈ lw_all := lw_g (lw_at lw_m3 41 rfl) rfl
theorem q1161 : (Jvm.Cond.selects "TwoSlips$Even" ({ cls := "java/lang/Object", name := "getClass", desc := "()Ljava/lang/Class;" } : Jvm.MethodName) ({ cls := "java/lang/Object", name := "getClass", desc := "()Ljava/lang/Class;" } : Jvm.MethodName)) ∈ lw_all := lw_g (lw_at lw_m5 96 rfl) rfl
theorem q1293 : (Jvm.Cond.instantiable "TwoSlips$Even" (0 : Nat)) ∈ lw_all := lw_g (lw_at lw_m5 228 rfl) rfl
theorem q1295 : (Jvm.Cond.instanceMethod ({ cls := "TwoSlips$Even", name := "<init>", desc := "()V" } : Jvm.MethodName)) ∈ lw_all := lw_g (lw_at lw_m5 230 rfl) rfl
theorem q1296 : (Jvm.Cond.code ({ cls := "TwoSlips$Even", name := "<init>", desc := "()V" } : Jvm.MethodName) prog_6_method_1_code (1 : Nat) (Option.none : Option Jvm.ClassFile.FieldType)) ∈ lw_all := lw_g (lw_at lw_m5 231 rfl) rfl
theorem q1297 : (Jvm.Cond.methodLinkNest "TwoSlips$Even" (1 : Nat) ({ cls := "TwoSlips$Plain", name := "<init>", desc := "()V" } : Jvm.MethodName) "TwoSlips") ∈ lw_tbl := lw_at lw_m5 232 rfl
theorem q1301 : (Jvm.Cond.superclass "TwoSlips$Even" "TwoSlips$Plain") ∈ lw_all := lw_g (lw_at lw_m5 236 rfl) rfl
theorem q2451 : (Jvm.Cond.castable "TwoSlips$Even" "java/lang/Object") ∈ lw_tbl := lw_at lw_m10 186 rfl

/-! TwoSlips$Same -/
set_option maxRecDepth 100000
def RX30 : String := "TwoSlips$Same"
abbrev cX30_is : ByteArray := prog_19_method_2_code
def yX30_is : MethodName := ⟨RX30, "is", "(II)Z"⟩
def dkwX30_is_0 : List UInt8 := [27, 28, 160, 0, 7, 4, 167, 0, 4, 3, 172]
abbrev dktX30_is_0 : List UInt8 := dkwX30_is_0 ++ []
theorem dksX30_is_0 : cX30_is.data.toList.drop 0 = dktX30_is_0 := by decide +kernel
theorem dX30_is_0 : decode cX30_is 0 = .ok (.iload_n 1, 1) := dk_27 (dk_at dksX30_is_0 0 rfl rfl)
theorem dX30_is_1 : decode cX30_is 1 = .ok (.iload_n 2, 1) := dk_28 (dk_at dksX30_is_0 1 rfl rfl)
theorem dX30_is_2 : decode cX30_is 2 = .ok (.if_icmp .ne 7, 3) := dk_160 0 7 (dk_at dksX30_is_0 2 rfl rfl)
theorem dX30_is_5 : decode cX30_is 5 = .ok (.iconst 1, 1) := dk_4 (dk_at dksX30_is_0 5 rfl rfl)
theorem dX30_is_6 : decode cX30_is 6 = .ok (.goto 4, 3) := dk_167 0 4 (dk_at dksX30_is_0 6 rfl rfl)
theorem dX30_is_9 : decode cX30_is 9 = .ok (.iconst 0, 1) := dk_3 (dk_at dksX30_is_0 9 rfl rfl)
theorem dX30_is_10 : decode cX30_is 10 = .ok (.ireturn, 1) := dk_172 (dk_at dksX30_is_0 10 rfl rfl)
abbrev cX30_init : ByteArray := prog_19_method_1_code
def yX30_init : MethodName := ⟨RX30, "<init>", "()V"⟩
theorem dX30_init_0 : decode cX30_init 0 = .ok (.aload_n 0, 1) := by decide +kernel
theorem dX30_init_1 : decode cX30_init 1 = .ok (.invokespecial 1, 3) := by decide +kernel
theorem dX30_init_4 : decode cX30_init 4 = .ok (.return_, 1) := by decide +kernel
theorem q151 : (Jvm.Cond.initialized "TwoSlips$Same") ∈ lw_all := lw_g (lw_at lw_m1 46 rfl) rfl
theorem q622 : (Jvm.Cond.selects "TwoSlips$Same" ({ cls := "TwoSlips$Plain", name := "is", desc := "(II)Z" } : Jvm.MethodName) ({ cls := "TwoSlips$Same", name := "is", desc := "(II)Z" } : Jvm.MethodName)) ∈ lw_all := lw_g (lw_at lw_m3 37 rfl) rfl
theorem q623 : (Jvm.Cond.instanceMethod ({ cls := "TwoSlips$Same", name := "is", desc := "(II)Z" } : Jvm.MethodName)) ∈ lw_all := lw_g (lw_at lw_m3 38 rfl) rfl
theorem q624 : (Jvm.Cond.code ({ cls := "TwoSlips$Same", name := "is", desc := "(II)Z" } : Jvm.MethodName) prog_19_method_2_code (3 : Nat) (Option.some Jvm.ClassFile.FieldType.boolean)) ∈ lw_all := lw_g (lw_at lw_m3 39 rfl) rfl
theorem q672 : (Jvm.Cond.selects "TwoSlips$Same" ({ cls := "TwoSlips$Saying", name := "fill", desc := "(LTwoSlips$Course;I[J)V" } : Jvm.MethodName) ({ cls := "TwoSlips$Plain", name := "fill", desc := "(LTwoSlips$Course;I[J)V" } : Jvm.MethodName)) ∈ lw_all := lw_g (lw_at lw_m3 87 rfl) rfl
theorem q1172 : (Jvm.Cond.selects "TwoSlips$Same" ({ cls := "java/lang/Object", name := "getClass", desc := "()Ljava/lang/Class;" } : Jvm.MethodName) ({ cls := "java/lang/Object", name := "getClass", desc := "()Ljava/lang/Class;" } : Jvm.MethodName)) ∈ lw_all := lw_g (lw_at lw_m5 107 rfl) rfl
theorem q1304 : (Jvm.Cond.instantiable "TwoSlips$Same" (0 : Nat)) ∈ lw_all := lw_g (lw_at lw_m5 239 rfl) rfl
theorem q1306 : (Jvm.Cond.instanceMethod ({ cls := "TwoSlips$Same", name := "<init>", desc := "()V" } : Jvm.MethodName)) ∈ lw_all := lw_g (lw_at lw_m6 1 rfl) rfl
theorem q1307 : (Jvm.Cond.code ({ cls := "TwoSlips$Same", name := "<init>", desc := "()V" } : Jvm.MethodName) prog_19_method_1_code (1 : Nat) (Option.none : Option Jvm.ClassFile.FieldType)) ∈ lw_all := lw_g (lw_at lw_m6 2 rfl) rfl
theorem q1308 : (Jvm.Cond.methodLinkNest "TwoSlips$Same" (1 : Nat) ({ cls := "TwoSlips$Plain", name := "<init>", desc := "()V" } : Jvm.MethodName) "TwoSlips") ∈ lw_tbl := lw_at lw_m6 3 rfl
theorem q1309 : (Jvm.Cond.superclass "TwoSlips$Same" "TwoSlips$Plain") ∈ lw_all := lw_g (lw_at lw_m6 4 rfl) rfl
theorem q2452 : (Jvm.Cond.castable "TwoSlips$Same" "java/lang/Object") ∈ lw_tbl := lw_at lw_m10 187 rfl

/-! TwoSlips$Above -/
set_option maxRecDepth 100000
def RX31 : String := "TwoSlips$Above"
def TX31 : u_T := fun k => match k with
  | _ => ("TwoSlips$Above", "n", "I", true)
def tyX31 : Nat → FieldType := fun k => match k with
  | _ => .int
abbrev wsX310 : List Cond := u_ws RX31 TX31 1
theorem nmX31 : ∀ a, a < 1 → ∀ b, b < 1 → a ≠ b → (TX31 a).2.1 ≠ (TX31 b).2.1 := by decide +kernel
theorem tyX31_ok : ∀ k, k < 1 → parseFieldDescriptor (TX31 k).2.2.1 = some (tyX31 k) := by decide +kernel
abbrev cX31_is : ByteArray := prog_2_method_2_code
def yX31_is : MethodName := ⟨RX31, "is", "(II)Z"⟩
def dkwX31_is_0 : List UInt8 := [27, 28, 96, 42, 180, 0, 7, 164, 0, 7, 4, 167, 0, 4, 3, 172]
abbrev dktX31_is_0 : List UInt8 := dkwX31_is_0 ++ []
theorem dksX31_is_0 : cX31_is.data.toList.drop 0 = dktX31_is_0 := by decide +kernel
theorem dX31_is_0 : decode cX31_is 0 = .ok (.iload_n 1, 1) := dk_27 (dk_at dksX31_is_0 0 rfl rfl)
theorem dX31_is_1 : decode cX31_is 1 = .ok (.iload_n 2, 1) := dk_28 (dk_at dksX31_is_0 1 rfl rfl)
theorem dX31_is_2 : decode cX31_is 2 = .ok (.iadd, 1) := dk_96 (dk_at dksX31_is_0 2 rfl rfl)
theorem dX31_is_3 : decode cX31_is 3 = .ok (.aload_n 0, 1) := dk_42 (dk_at dksX31_is_0 3 rfl rfl)
theorem dX31_is_4 : decode cX31_is 4 = .ok (.getfield 7, 3) := dk_180 0 7 (dk_at dksX31_is_0 4 rfl rfl)
theorem dX31_is_7 : decode cX31_is 7 = .ok (.if_icmp .le 7, 3) := dk_164 0 7 (dk_at dksX31_is_0 7 rfl rfl)
theorem dX31_is_10 : decode cX31_is 10 = .ok (.iconst 1, 1) := dk_4 (dk_at dksX31_is_0 10 rfl rfl)
theorem dX31_is_11 : decode cX31_is 11 = .ok (.goto 4, 3) := dk_167 0 4 (dk_at dksX31_is_0 11 rfl rfl)
theorem dX31_is_14 : decode cX31_is 14 = .ok (.iconst 0, 1) := dk_3 (dk_at dksX31_is_0 14 rfl rfl)
theorem dX31_is_15 : decode cX31_is 15 = .ok (.ireturn, 1) := dk_172 (dk_at dksX31_is_0 15 rfl rfl)
abbrev cX31_init : ByteArray := prog_2_method_1_code
def yX31_init : MethodName := ⟨RX31, "<init>", "(I)V"⟩
def dkwX31_init_0 : List UInt8 := [42, 183, 0, 1, 42, 27, 181, 0, 7, 177]
abbrev dktX31_init_0 : List UInt8 := dkwX31_init_0 ++ []
theorem dksX31_init_0 : cX31_init.data.toList.drop 0 = dktX31_init_0 := by decide +kernel
theorem dX31_init_0 : decode cX31_init 0 = .ok (.aload_n 0, 1) := dk_42 (dk_at dksX31_init_0 0 rfl rfl)
theorem dX31_init_1 : decode cX31_init 1 = .ok (.invokespecial 1, 3) := dk_183 0 1 (dk_at dksX31_init_0 1 rfl rfl)
theorem dX31_init_4 : decode cX31_init 4 = .ok (.aload_n 0, 1) := dk_42 (dk_at dksX31_init_0 4 rfl rfl)
theorem dX31_init_5 : decode cX31_init 5 = .ok (.iload_n 1, 1) := dk_27 (dk_at dksX31_init_0 5 rfl rfl)
theorem dX31_init_6 : decode cX31_init 6 = .ok (.putfield 7, 3) := dk_181 0 7 (dk_at dksX31_init_0 6 rfl rfl)
theorem dX31_init_9 : decode cX31_init 9 = .ok (.return_, 1) := dk_177 (dk_at dksX31_init_0 9 rfl rfl)
theorem q152 : (Jvm.Cond.initialized "TwoSlips$Above") ∈ lw_all := lw_g (lw_at lw_m1 47 rfl) rfl
theorem q609 : (Jvm.Cond.selects "TwoSlips$Above" ({ cls := "TwoSlips$Saying", name := "fill", desc := "(LTwoSlips$Course;I[J)V" } : Jvm.MethodName) ({ cls := "TwoSlips$Plain", name := "fill", desc := "(LTwoSlips$Course;I[J)V" } : Jvm.MethodName)) ∈ lw_all := lw_g (lw_at lw_m3 24 rfl) rfl
theorem q616 : (Jvm.Cond.selects "TwoSlips$Above" ({ cls := "TwoSlips$Plain", name := "is", desc := "(II)Z" } : Jvm.MethodName) ({ cls := "TwoSlips$Above", name := "is", desc := "(II)Z" } : Jvm.MethodName)) ∈ lw_all := lw_g (lw_at lw_m3 31 rfl) rfl
theorem q617 : (Jvm.Cond.instanceMethod ({ cls := "TwoSlips$Above", name := "is", desc := "(II)Z" } : Jvm.MethodName)) ∈ lw_all := lw_g (lw_at lw_m3 32 rfl) rfl
theorem q618 : (Jvm.Cond.code ({ cls := "TwoSlips$Above", name := "is", desc := "(II)Z" } : Jvm.MethodName) prog_2_method_2_code (3 : Nat) (Option.some Jvm.ClassFile.FieldType.boolean)) ∈ lw_all := lw_g (lw_at lw_m3 33 rfl) rfl
theorem q1157 : (Jvm.Cond.selects "TwoSlips$Above" ({ cls := "java/lang/Object", name := "getClass", desc := "()Ljava/lang/Class;" } : Jvm.MethodName) ({ cls := "java/lang/Object", name := "getClass", desc := "()Ljava/lang/Class;" } : Jvm.MethodName)) ∈ lw_all := lw_g (lw_at lw_m5 92 rfl) rfl
theorem q1312 : (Jvm.Cond.instantiable "TwoSlips$Above" (1 : Nat)) ∈ lw_all := lw_g (lw_at lw_m6 7 rfl) rfl
theorem q1314 : (Jvm.Cond.instanceMethod ({ cls := "TwoSlips$Above", name := "<init>", desc := "(I)V" } : Jvm.MethodName)) ∈ lw_all := lw_g (lw_at lw_m6 9 rfl) rfl
theorem q1315 : (Jvm.Cond.code ({ cls := "TwoSlips$Above", name := "<init>", desc := "(I)V" } : Jvm.MethodName) prog_2_method_1_code (2 : Nat) (Option.none : Option Jvm.ClassFile.FieldType)) ∈ lw_all := lw_g (lw_at lw_m6 10 rfl) rfl
theorem q1316 : (Jvm.Cond.methodLinkNest "TwoSlips$Above" (1 : Nat) ({ cls := "TwoSlips$Plain", name := "<init>", desc := "()V" } : Jvm.MethodName) "TwoSlips") ∈ lw_tbl := lw_at lw_m6 11 rfl
theorem q1317 : (Jvm.Cond.fieldLink "TwoSlips$Above" (7 : Nat) "TwoSlips$Above" "n" "I") ∈ lw_all := lw_g (lw_at lw_m6 12 rfl) rfl
theorem q1318 : (Jvm.Cond.laysFinal "TwoSlips$Above" "TwoSlips$Above" "n" "I") ∈ lw_all := lw_g (lw_at lw_m6 13 rfl) rfl
theorem q1319 : (Jvm.Cond.soleField "TwoSlips$Above" "n") ∈ lw_all := lw_g (lw_at lw_m6 14 rfl) rfl
theorem q1320 : (Jvm.Cond.superclass "TwoSlips$Above" "TwoSlips$Plain") ∈ lw_all := lw_g (lw_at lw_m6 15 rfl) rfl
theorem q2453 : (Jvm.Cond.castable "TwoSlips$Above" "java/lang/Object") ∈ lw_tbl := lw_at lw_m10 188 rfl
theorem in_X31 : ∀ w ∈ wsX310, w ∈ lw_all := lw_in wsX310 [1318] (by decide +kernel) (by decide +kernel)

/-! TwoSlips$Pair -/
set_option maxRecDepth 100000
def RX32 : String := "TwoSlips$Pair"
def TX32 : u_T := fun k => match k with
  | 0 => ("TwoSlips$Pair", "both", "Z", true)
  | 1 => ("TwoSlips$Pair", "a", "LTwoSlips$Saying;", true)
  | _ => ("TwoSlips$Pair", "b", "LTwoSlips$Saying;", true)
def tyX32 : Nat → FieldType := fun k => match k with
  | 0 => .boolean
  | 1 => .object "TwoSlips$Saying"
  | _ => .object "TwoSlips$Saying"
abbrev wsX320 : List Cond := u_ws RX32 TX32 3
theorem nmX32 : ∀ a, a < 3 → ∀ b, b < 3 → a ≠ b → (TX32 a).2.1 ≠ (TX32 b).2.1 := by decide +kernel
theorem tyX32_ok : ∀ k, k < 3 → parseFieldDescriptor (TX32 k).2.2.1 = some (tyX32 k) := by decide +kernel
abbrev cX32_fill : ByteArray := prog_13_method_2_code
def yX32_fill : MethodName := ⟨RX32, "fill", "(LTwoSlips$Course;I[J)V"⟩
def dkwX32_fill_3 : List UInt8 := [132, 5, 1, 167, 255, 212, 43, 182, 0, 32, 177]
abbrev dktX32_fill_3 : List UInt8 := dkwX32_fill_3 ++ []
def dkwX32_fill_2 : List UInt8 := [21, 5, 47, 25, 4, 21, 5, 47, 127, 167, 0, 13, 45, 21, 5, 47, 25, 4, 21, 5, 47, 129, 80]
abbrev dktX32_fill_2 : List UInt8 := dkwX32_fill_2 ++ dktX32_fill_3
def dkwX32_fill_1 : List UInt8 := [182, 0, 22, 3, 54, 5, 21, 5, 16, 29, 162, 0, 43, 45, 21, 5, 42, 180, 0, 9, 153, 0, 16, 45]
abbrev dktX32_fill_1 : List UInt8 := dkwX32_fill_1 ++ dktX32_fill_2
def dkwX32_fill_0 : List UInt8 := [42, 180, 0, 15, 43, 28, 45, 182, 0, 22, 43, 182, 0, 26, 58, 4, 42, 180, 0, 19, 43, 28, 25, 4]
abbrev dktX32_fill_0 : List UInt8 := dkwX32_fill_0 ++ dktX32_fill_1
theorem dksX32_fill_0 : cX32_fill.data.toList.drop 0 = dktX32_fill_0 := by decide +kernel
theorem dksX32_fill_1 : cX32_fill.data.toList.drop 24 = dktX32_fill_1 := dk_seg dksX32_fill_0 24 rfl rfl
theorem dksX32_fill_2 : cX32_fill.data.toList.drop 48 = dktX32_fill_2 := dk_seg dksX32_fill_1 24 rfl rfl
theorem dksX32_fill_3 : cX32_fill.data.toList.drop 71 = dktX32_fill_3 := dk_seg dksX32_fill_2 23 rfl rfl
theorem dX32_fill_0 : decode cX32_fill 0 = .ok (.aload_n 0, 1) := dk_42 (dk_at dksX32_fill_0 0 rfl rfl)
theorem dX32_fill_1 : decode cX32_fill 1 = .ok (.getfield 15, 3) := dk_180 0 15 (dk_at dksX32_fill_0 1 rfl rfl)
theorem dX32_fill_4 : decode cX32_fill 4 = .ok (.aload_n 1, 1) := dk_43 (dk_at dksX32_fill_0 4 rfl rfl)
theorem dX32_fill_5 : decode cX32_fill 5 = .ok (.iload_n 2, 1) := dk_28 (dk_at dksX32_fill_0 5 rfl rfl)
theorem dX32_fill_6 : decode cX32_fill 6 = .ok (.aload_n 3, 1) := dk_45 (dk_at dksX32_fill_0 6 rfl rfl)
theorem dX32_fill_7 : decode cX32_fill 7 = .ok (.invokevirtual 22, 3) := dk_182 0 22 (dk_at dksX32_fill_0 7 rfl rfl)
theorem dX32_fill_10 : decode cX32_fill 10 = .ok (.aload_n 1, 1) := dk_43 (dk_at dksX32_fill_0 10 rfl rfl)
theorem dX32_fill_11 : decode cX32_fill 11 = .ok (.invokevirtual 26, 3) := dk_182 0 26 (dk_at dksX32_fill_0 11 rfl rfl)
theorem dX32_fill_14 : decode cX32_fill 14 = .ok (.astore 4, 2) := dk_58 4 (dk_at dksX32_fill_0 14 rfl rfl)
theorem dX32_fill_16 : decode cX32_fill 16 = .ok (.aload_n 0, 1) := dk_42 (dk_at dksX32_fill_0 16 rfl rfl)
theorem dX32_fill_17 : decode cX32_fill 17 = .ok (.getfield 19, 3) := dk_180 0 19 (dk_at dksX32_fill_0 17 rfl rfl)
theorem dX32_fill_20 : decode cX32_fill 20 = .ok (.aload_n 1, 1) := dk_43 (dk_at dksX32_fill_0 20 rfl rfl)
theorem dX32_fill_21 : decode cX32_fill 21 = .ok (.iload_n 2, 1) := dk_28 (dk_at dksX32_fill_0 21 rfl rfl)
theorem dX32_fill_22 : decode cX32_fill 22 = .ok (.aload 4, 2) := dk_25 4 (dk_at dksX32_fill_0 22 rfl rfl)
theorem dX32_fill_24 : decode cX32_fill 24 = .ok (.invokevirtual 22, 3) := dk_182 0 22 (dk_at dksX32_fill_1 0 rfl rfl)
theorem dX32_fill_27 : decode cX32_fill 27 = .ok (.iconst 0, 1) := dk_3 (dk_at dksX32_fill_1 3 rfl rfl)
theorem dX32_fill_28 : decode cX32_fill 28 = .ok (.istore 5, 2) := dk_54 5 (dk_at dksX32_fill_1 4 rfl rfl)
theorem dX32_fill_30 : decode cX32_fill 30 = .ok (.iload 5, 2) := dk_21 5 (dk_at dksX32_fill_1 6 rfl rfl)
theorem dX32_fill_32 : decode cX32_fill 32 = .ok (.bipush 29, 2) := dk_16 29 (dk_at dksX32_fill_1 8 rfl rfl)
theorem dX32_fill_34 : decode cX32_fill 34 = .ok (.if_icmp .ge 43, 3) := dk_162 0 43 (dk_at dksX32_fill_1 10 rfl rfl)
theorem dX32_fill_37 : decode cX32_fill 37 = .ok (.aload_n 3, 1) := dk_45 (dk_at dksX32_fill_1 13 rfl rfl)
theorem dX32_fill_38 : decode cX32_fill 38 = .ok (.iload 5, 2) := dk_21 5 (dk_at dksX32_fill_1 14 rfl rfl)
theorem dX32_fill_40 : decode cX32_fill 40 = .ok (.aload_n 0, 1) := dk_42 (dk_at dksX32_fill_1 16 rfl rfl)
theorem dX32_fill_41 : decode cX32_fill 41 = .ok (.getfield 9, 3) := dk_180 0 9 (dk_at dksX32_fill_1 17 rfl rfl)
theorem dX32_fill_44 : decode cX32_fill 44 = .ok (.ifCond .eq 16, 3) := dk_153 0 16 (dk_at dksX32_fill_1 20 rfl rfl)
theorem dX32_fill_47 : decode cX32_fill 47 = .ok (.aload_n 3, 1) := dk_45 (dk_at dksX32_fill_1 23 rfl rfl)
theorem dX32_fill_48 : decode cX32_fill 48 = .ok (.iload 5, 2) := dk_21 5 (dk_at dksX32_fill_2 0 rfl rfl)
theorem dX32_fill_50 : decode cX32_fill 50 = .ok (.laload, 1) := dk_47 (dk_at dksX32_fill_2 2 rfl rfl)
theorem dX32_fill_51 : decode cX32_fill 51 = .ok (.aload 4, 2) := dk_25 4 (dk_at dksX32_fill_2 3 rfl rfl)
theorem dX32_fill_53 : decode cX32_fill 53 = .ok (.iload 5, 2) := dk_21 5 (dk_at dksX32_fill_2 5 rfl rfl)
theorem dX32_fill_55 : decode cX32_fill 55 = .ok (.laload, 1) := dk_47 (dk_at dksX32_fill_2 7 rfl rfl)
theorem dX32_fill_56 : decode cX32_fill 56 = .ok (.land, 1) := dk_127 (dk_at dksX32_fill_2 8 rfl rfl)
theorem dX32_fill_57 : decode cX32_fill 57 = .ok (.goto 13, 3) := dk_167 0 13 (dk_at dksX32_fill_2 9 rfl rfl)
theorem dX32_fill_60 : decode cX32_fill 60 = .ok (.aload_n 3, 1) := dk_45 (dk_at dksX32_fill_2 12 rfl rfl)
theorem dX32_fill_61 : decode cX32_fill 61 = .ok (.iload 5, 2) := dk_21 5 (dk_at dksX32_fill_2 13 rfl rfl)
theorem dX32_fill_63 : decode cX32_fill 63 = .ok (.laload, 1) := dk_47 (dk_at dksX32_fill_2 15 rfl rfl)
theorem dX32_fill_64 : decode cX32_fill 64 = .ok (.aload 4, 2) := dk_25 4 (dk_at dksX32_fill_2 16 rfl rfl)
theorem dX32_fill_66 : decode cX32_fill 66 = .ok (.iload 5, 2) := dk_21 5 (dk_at dksX32_fill_2 18 rfl rfl)
theorem dX32_fill_68 : decode cX32_fill 68 = .ok (.laload, 1) := dk_47 (dk_at dksX32_fill_2 20 rfl rfl)
theorem dX32_fill_69 : decode cX32_fill 69 = .ok (.lor, 1) := dk_129 (dk_at dksX32_fill_2 21 rfl rfl)
theorem dX32_fill_70 : decode cX32_fill 70 = .ok (.lastore, 1) := dk_80 (dk_at dksX32_fill_2 22 rfl rfl)
theorem dX32_fill_71 : decode cX32_fill 71 = .ok (.iinc 5 1, 3) := dk_132 5 1 (dk_at dksX32_fill_3 0 rfl rfl)
theorem dX32_fill_74 : decode cX32_fill 74 = .ok (.goto (-44), 3) := dk_167 255 212 (dk_at dksX32_fill_3 3 rfl rfl)
theorem dX32_fill_77 : decode cX32_fill 77 = .ok (.aload_n 1, 1) := dk_43 (dk_at dksX32_fill_3 6 rfl rfl)
theorem dX32_fill_78 : decode cX32_fill 78 = .ok (.invokevirtual 32, 3) := dk_182 0 32 (dk_at dksX32_fill_3 7 rfl rfl)
theorem dX32_fill_81 : decode cX32_fill 81 = .ok (.return_, 1) := dk_177 (dk_at dksX32_fill_3 10 rfl rfl)
abbrev cX32_init : ByteArray := prog_13_method_1_code
def yX32_init : MethodName := ⟨RX32, "<init>", "(ZLTwoSlips$Saying;LTwoSlips$Saying;)V"⟩
def dkwX32_init_0 : List UInt8 := [42, 183, 0, 3, 42, 27, 181, 0, 9, 42, 44, 181, 0, 15, 42, 45, 181, 0, 19, 177]
abbrev dktX32_init_0 : List UInt8 := dkwX32_init_0 ++ []
theorem dksX32_init_0 : cX32_init.data.toList.drop 0 = dktX32_init_0 := by decide +kernel
theorem dX32_init_0 : decode cX32_init 0 = .ok (.aload_n 0, 1) := dk_42 (dk_at dksX32_init_0 0 rfl rfl)
theorem dX32_init_1 : decode cX32_init 1 = .ok (.invokespecial 3, 3) := dk_183 0 3 (dk_at dksX32_init_0 1 rfl rfl)
theorem dX32_init_4 : decode cX32_init 4 = .ok (.aload_n 0, 1) := dk_42 (dk_at dksX32_init_0 4 rfl rfl)
theorem dX32_init_5 : decode cX32_init 5 = .ok (.iload_n 1, 1) := dk_27 (dk_at dksX32_init_0 5 rfl rfl)
theorem dX32_init_6 : decode cX32_init 6 = .ok (.putfield 9, 3) := dk_181 0 9 (dk_at dksX32_init_0 6 rfl rfl)
theorem dX32_init_9 : decode cX32_init 9 = .ok (.aload_n 0, 1) := dk_42 (dk_at dksX32_init_0 9 rfl rfl)
theorem dX32_init_10 : decode cX32_init 10 = .ok (.aload_n 2, 1) := dk_44 (dk_at dksX32_init_0 10 rfl rfl)
theorem dX32_init_11 : decode cX32_init 11 = .ok (.putfield 15, 3) := dk_181 0 15 (dk_at dksX32_init_0 11 rfl rfl)
theorem dX32_init_14 : decode cX32_init 14 = .ok (.aload_n 0, 1) := dk_42 (dk_at dksX32_init_0 14 rfl rfl)
theorem dX32_init_15 : decode cX32_init 15 = .ok (.aload_n 3, 1) := dk_45 (dk_at dksX32_init_0 15 rfl rfl)
theorem dX32_init_16 : decode cX32_init 16 = .ok (.putfield 19, 3) := dk_181 0 19 (dk_at dksX32_init_0 16 rfl rfl)
theorem dX32_init_19 : decode cX32_init 19 = .ok (.return_, 1) := dk_177 (dk_at dksX32_init_0 19 rfl rfl)
theorem q153 : (Jvm.Cond.initialized "TwoSlips$Pair") ∈ lw_all := lw_g (lw_at lw_m1 48 rfl) rfl
theorem q653 : (Jvm.Cond.instanceMethod ({ cls := "TwoSlips$Pair", name := "fill", desc := "(LTwoSlips$Course;I[J)V" } : Jvm.MethodName)) ∈ lw_all := lw_g (lw_at lw_m3 68 rfl) rfl
theorem q654 : (Jvm.Cond.code ({ cls := "TwoSlips$Pair", name := "fill", desc := "(LTwoSlips$Course;I[J)V" } : Jvm.MethodName) prog_13_method_2_code (6 : Nat) (Option.none : Option Jvm.ClassFile.FieldType)) ∈ lw_all := lw_g (lw_at lw_m3 69 rfl) rfl
theorem q655 : (Jvm.Cond.methodLink "TwoSlips$Pair" (22 : Nat) ({ cls := "TwoSlips$Saying", name := "fill", desc := "(LTwoSlips$Course;I[J)V" } : Jvm.MethodName)) ∈ lw_all := lw_g (lw_at lw_m3 70 rfl) rfl
theorem q665 : (Jvm.Cond.methodLink "TwoSlips$Pair" (26 : Nat) ({ cls := "TwoSlips$Course", name := "taken", desc := "()[J" } : Jvm.MethodName)) ∈ lw_all := lw_g (lw_at lw_m3 80 rfl) rfl
theorem q666 : (Jvm.Cond.methodLink "TwoSlips$Pair" (32 : Nat) ({ cls := "TwoSlips$Course", name := "given", desc := "()V" } : Jvm.MethodName)) ∈ lw_all := lw_g (lw_at lw_m3 81 rfl) rfl
theorem q671 : (Jvm.Cond.selects "TwoSlips$Pair" ({ cls := "TwoSlips$Saying", name := "fill", desc := "(LTwoSlips$Course;I[J)V" } : Jvm.MethodName) ({ cls := "TwoSlips$Pair", name := "fill", desc := "(LTwoSlips$Course;I[J)V" } : Jvm.MethodName)) ∈ lw_all := lw_g (lw_at lw_m3 86 rfl) rfl
theorem q1168 : (Jvm.Cond.selects "TwoSlips$Pair" ({ cls := "java/lang/Object", name := "getClass", desc := "()Ljava/lang/Class;" } : Jvm.MethodName) ({ cls := "java/lang/Object", name := "getClass", desc := "()Ljava/lang/Class;" } : Jvm.MethodName)) ∈ lw_all := lw_g (lw_at lw_m5 103 rfl) rfl
theorem q1323 : (Jvm.Cond.instantiable "TwoSlips$Pair" (3 : Nat)) ∈ lw_all := lw_g (lw_at lw_m6 18 rfl) rfl
theorem q1325 : (Jvm.Cond.instanceMethod ({ cls := "TwoSlips$Pair", name := "<init>", desc := "(ZLTwoSlips$Saying;LTwoSlips$Saying;)V" } : Jvm.MethodName)) ∈ lw_all := lw_g (lw_at lw_m6 20 rfl) rfl
theorem q1326 : (Jvm.Cond.code ({ cls := "TwoSlips$Pair", name := "<init>", desc := "(ZLTwoSlips$Saying;LTwoSlips$Saying;)V" } : Jvm.MethodName) prog_13_method_1_code (4 : Nat) (Option.none : Option Jvm.ClassFile.FieldType)) ∈ lw_all := lw_g (lw_at lw_m6 21 rfl) rfl
theorem q1327 : (Jvm.Cond.methodLinkNest "TwoSlips$Pair" (3 : Nat) ({ cls := "TwoSlips$Saying", name := "<init>", desc := "()V" } : Jvm.MethodName) "TwoSlips") ∈ lw_tbl := lw_at lw_m6 22 rfl
theorem q1328 : (Jvm.Cond.fieldLink "TwoSlips$Pair" (9 : Nat) "TwoSlips$Pair" "both" "Z") ∈ lw_all := lw_g (lw_at lw_m6 23 rfl) rfl
theorem q1329 : (Jvm.Cond.fieldLink "TwoSlips$Pair" (15 : Nat) "TwoSlips$Pair" "a" "LTwoSlips$Saying;") ∈ lw_all := lw_g (lw_at lw_m6 24 rfl) rfl
theorem q1330 : (Jvm.Cond.fieldLink "TwoSlips$Pair" (19 : Nat) "TwoSlips$Pair" "b" "LTwoSlips$Saying;") ∈ lw_all := lw_g (lw_at lw_m6 25 rfl) rfl
theorem q1331 : (Jvm.Cond.laysFinal "TwoSlips$Pair" "TwoSlips$Pair" "both" "Z") ∈ lw_all := lw_g (lw_at lw_m6 26 rfl) rfl
theorem q1332 : (Jvm.Cond.soleField "TwoSlips$Pair" "both") ∈ lw_all := lw_g (lw_at lw_m6 27 rfl) rfl
theorem q1333 : (Jvm.Cond.laysFinal "TwoSlips$Pair" "TwoSlips$Pair" "a" "LTwoSlips$Saying;") ∈ lw_all := lw_g (lw_at lw_m6 28 rfl) rfl
theorem q1334 : (Jvm.Cond.soleField "TwoSlips$Pair" "a") ∈ lw_all := lw_g (lw_at lw_m6 29 rfl) rfl
theorem q1335 : (Jvm.Cond.laysFinal "TwoSlips$Pair" "TwoSlips$Pair" "b" "LTwoSlips$Saying;") ∈ lw_all := lw_g (lw_at lw_m6 30 rfl) rfl
theorem q1336 : (Jvm.Cond.soleField "TwoSlips$Pair" "b") ∈ lw_all := lw_g (lw_at lw_m6 31 rfl) rfl
theorem q1337 : (Jvm.Cond.superclass "TwoSlips$Pair" "TwoSlips$Saying") ∈ lw_all := lw_g (lw_at lw_m6 32 rfl) rfl
theorem q2454 : (Jvm.Cond.castable "TwoSlips$Pair" "java/lang/Object") ∈ lw_tbl := lw_at lw_m10 189 rfl
theorem in_X32 : ∀ w ∈ wsX320, w ∈ lw_all := lw_in wsX320 [1331, 1333, 1335] (by decide +kernel) (by decide +kernel)

