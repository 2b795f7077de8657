/-! TwoSlips -/
set_option maxRecDepth 100000
def RX1 : String := "TwoSlips"
def TX1 : u_T := fun k => match k with
  | 0 => ("TwoSlips", "talk", "LTwoSlips$Talk;", false)
  | 1 => ("TwoSlips", "course", "LTwoSlips$Course;", true)
  | 2 => ("TwoSlips", "tried", "LTwoSlips$Course;", true)
  | 3 => ("TwoSlips", "isLaid", "Z", false)
  | 4 => ("TwoSlips", "images", "[LTwoSlips$Talk;", true)
  | 5 => ("TwoSlips", "tape", "[B", true)
  | 6 => ("TwoSlips", "taped", "I", false)
  | 7 => ("TwoSlips", "faultKind", "I", false)
  | 8 => ("TwoSlips", "faultAt", "I", false)
  | 9 => ("TwoSlips", "mute", "LTwoSlips$Mute;", true)
  | 10 => ("TwoSlips", "soon", "LTwoSlips$Soonest;", true)
  | 11 => ("TwoSlips", "brief", "LTwoSlips$Shortest;", true)
  | 12 => ("TwoSlips", "orders", "LTwoSlips$Orders;", true)
  | 13 => ("TwoSlips", "trays", "[LTwoSlips$Tray;", true)
  | 14 => ("TwoSlips", "answered", "[J", false)
  | _ => ("TwoSlips", "next", "[J", false)
def tyX1 : Nat → FieldType := fun k => match k with
  | 0 => .object "TwoSlips$Talk"
  | 1 => .object "TwoSlips$Course"
  | 2 => .object "TwoSlips$Course"
  | 3 => .boolean
  | 4 => .array (.object "TwoSlips$Talk")
  | 5 => .array .byte
  | 6 => .int
  | 7 => .int
  | 8 => .int
  | 9 => .object "TwoSlips$Mute"
  | 10 => .object "TwoSlips$Soonest"
  | 11 => .object "TwoSlips$Shortest"
  | 12 => .object "TwoSlips$Orders"
  | 13 => .array (.object "TwoSlips$Tray")
  | 14 => .array .long
  | _ => .array .long
abbrev wsX10 : List Cond := u_ws RX1 TX1 16
set_option maxRecDepth 100000 in
theorem nmX1 : ∀ a, a < 16 → ∀ b, b < 16 → a ≠ b → (TX1 a).2.1 ≠ (TX1 b).2.1 := by decide +kernel
set_option maxRecDepth 100000 in
theorem tyX1_ok : ∀ k, k < 16 → parseFieldDescriptor (TX1 k).2.2.1 = some (tyX1 k) := by decide +kernel
abbrev cX1_init : ByteArray := prog_1_method_5_code
def yX1_init : MethodName := ⟨RX1, "<init>", "()V"⟩
def dkwX1_init_7 : List UInt8 := [181, 0, 84, 42, 16, 29, 188, 11, 181, 0, 88, 177]
abbrev dktX1_init_7 : List UInt8 := dkwX1_init_7 ++ []
def dkwX1_init_6 : List UInt8 := [183, 0, 79, 83, 89, 6, 187, 0, 77, 89, 183, 0, 79, 83, 181, 0, 80, 42, 16, 29, 188, 11]
abbrev dktX1_init_6 : List UInt8 := dkwX1_init_6 ++ dktX1_init_7
def dkwX1_init_5 : List UInt8 := [187, 0, 77, 89, 183, 0, 79, 83, 89, 4, 187, 0, 77, 89, 183, 0, 79, 83, 89, 5, 187, 0, 77, 89]
abbrev dktX1_init_5 : List UInt8 := dkwX1_init_5 ++ dktX1_init_6
def dkwX1_init_4 : List UInt8 := [181, 0, 66, 42, 187, 0, 70, 89, 42, 183, 0, 72, 181, 0, 73, 42, 7, 189, 0, 77, 89, 3]
abbrev dktX1_init_4 : List UInt8 := dkwX1_init_4 ++ dktX1_init_5
def dkwX1_init_3 : List UInt8 := [181, 0, 52, 42, 187, 0, 56, 89, 42, 183, 0, 58, 181, 0, 59, 42, 187, 0, 63, 89, 42, 183, 0, 65]
abbrev dktX1_init_3 : List UInt8 := dkwX1_init_3 ++ dktX1_init_4
def dkwX1_init_2 : List UInt8 := [17, 3, 132, 188, 8, 181, 0, 39, 42, 2, 181, 0, 43, 42, 187, 0, 47, 89, 42, 183, 0, 49]
abbrev dktX1_init_2 : List UInt8 := dkwX1_init_2 ++ dktX1_init_3
def dkwX1_init_1 : List UInt8 := [181, 0, 28, 42, 187, 0, 25, 89, 183, 0, 27, 181, 0, 32, 42, 6, 189, 0, 16, 181, 0, 35, 42]
abbrev dktX1_init_1 : List UInt8 := dkwX1_init_1 ++ dktX1_init_2
def dkwX1_init_0 : List UInt8 := [42, 183, 0, 13, 42, 187, 0, 16, 89, 183, 0, 18, 181, 0, 19, 42, 187, 0, 25, 89, 183, 0, 27]
abbrev dktX1_init_0 : List UInt8 := dkwX1_init_0 ++ dktX1_init_1
theorem dksX1_init_0 : cX1_init.data.toList.drop 0 = dktX1_init_0 := by decide +kernel
theorem dksX1_init_1 : cX1_init.data.toList.drop 23 = dktX1_init_1 := dk_seg dksX1_init_0 23 rfl rfl
theorem dksX1_init_2 : cX1_init.data.toList.drop 46 = dktX1_init_2 := dk_seg dksX1_init_1 23 rfl rfl
theorem dksX1_init_3 : cX1_init.data.toList.drop 68 = dktX1_init_3 := dk_seg dksX1_init_2 22 rfl rfl
theorem dksX1_init_4 : cX1_init.data.toList.drop 92 = dktX1_init_4 := dk_seg dksX1_init_3 24 rfl rfl
theorem dksX1_init_5 : cX1_init.data.toList.drop 114 = dktX1_init_5 := dk_seg dksX1_init_4 22 rfl rfl
theorem dksX1_init_6 : cX1_init.data.toList.drop 138 = dktX1_init_6 := dk_seg dksX1_init_5 24 rfl rfl
theorem dksX1_init_7 : cX1_init.data.toList.drop 160 = dktX1_init_7 := dk_seg dksX1_init_6 22 rfl rfl
theorem dX1_init_0 : decode cX1_init 0 = .ok (.aload_n 0, 1) := dk_42 (dk_at dksX1_init_0 0 rfl rfl)
theorem dX1_init_1 : decode cX1_init 1 = .ok (.invokespecial 13, 3) := dk_183 0 13 (dk_at dksX1_init_0 1 rfl rfl)
theorem dX1_init_4 : decode cX1_init 4 = .ok (.aload_n 0, 1) := dk_42 (dk_at dksX1_init_0 4 rfl rfl)
theorem dX1_init_5 : decode cX1_init 5 = .ok (.new 16, 3) := dk_187 0 16 (dk_at dksX1_init_0 5 rfl rfl)
theorem dX1_init_8 : decode cX1_init 8 = .ok (.dup, 1) := dk_89 (dk_at dksX1_init_0 8 rfl rfl)
theorem dX1_init_9 : decode cX1_init 9 = .ok (.invokespecial 18, 3) := dk_183 0 18 (dk_at dksX1_init_0 9 rfl rfl)
theorem dX1_init_12 : decode cX1_init 12 = .ok (.putfield 19, 3) := dk_181 0 19 (dk_at dksX1_init_0 12 rfl rfl)
theorem dX1_init_15 : decode cX1_init 15 = .ok (.aload_n 0, 1) := dk_42 (dk_at dksX1_init_0 15 rfl rfl)
theorem dX1_init_16 : decode cX1_init 16 = .ok (.new 25, 3) := dk_187 0 25 (dk_at dksX1_init_0 16 rfl rfl)
theorem dX1_init_19 : decode cX1_init 19 = .ok (.dup, 1) := dk_89 (dk_at dksX1_init_0 19 rfl rfl)
theorem dX1_init_20 : decode cX1_init 20 = .ok (.invokespecial 27, 3) := dk_183 0 27 (dk_at dksX1_init_0 20 rfl rfl)
theorem dX1_init_23 : decode cX1_init 23 = .ok (.putfield 28, 3) := dk_181 0 28 (dk_at dksX1_init_1 0 rfl rfl)
theorem dX1_init_26 : decode cX1_init 26 = .ok (.aload_n 0, 1) := dk_42 (dk_at dksX1_init_1 3 rfl rfl)
theorem dX1_init_27 : decode cX1_init 27 = .ok (.new 25, 3) := dk_187 0 25 (dk_at dksX1_init_1 4 rfl rfl)
theorem dX1_init_30 : decode cX1_init 30 = .ok (.dup, 1) := dk_89 (dk_at dksX1_init_1 7 rfl rfl)
theorem dX1_init_31 : decode cX1_init 31 = .ok (.invokespecial 27, 3) := dk_183 0 27 (dk_at dksX1_init_1 8 rfl rfl)
theorem dX1_init_34 : decode cX1_init 34 = .ok (.putfield 32, 3) := dk_181 0 32 (dk_at dksX1_init_1 11 rfl rfl)
theorem dX1_init_37 : decode cX1_init 37 = .ok (.aload_n 0, 1) := dk_42 (dk_at dksX1_init_1 14 rfl rfl)
theorem dX1_init_38 : decode cX1_init 38 = .ok (.iconst 3, 1) := dk_6 (dk_at dksX1_init_1 15 rfl rfl)
theorem dX1_init_39 : decode cX1_init 39 = .ok (.anewarray 16, 3) := dk_189 0 16 (dk_at dksX1_init_1 16 rfl rfl)
theorem dX1_init_42 : decode cX1_init 42 = .ok (.putfield 35, 3) := dk_181 0 35 (dk_at dksX1_init_1 19 rfl rfl)
theorem dX1_init_45 : decode cX1_init 45 = .ok (.aload_n 0, 1) := dk_42 (dk_at dksX1_init_1 22 rfl rfl)
theorem dX1_init_46 : decode cX1_init 46 = .ok (.sipush 900, 3) := dk_17 3 132 (dk_at dksX1_init_2 0 rfl rfl)
theorem dX1_init_49 : decode cX1_init 49 = .ok (.newarray .byte, 2) := dk_188_8 (dk_at dksX1_init_2 3 rfl rfl)
theorem dX1_init_51 : decode cX1_init 51 = .ok (.putfield 39, 3) := dk_181 0 39 (dk_at dksX1_init_2 5 rfl rfl)
theorem dX1_init_54 : decode cX1_init 54 = .ok (.aload_n 0, 1) := dk_42 (dk_at dksX1_init_2 8 rfl rfl)
theorem dX1_init_55 : decode cX1_init 55 = .ok (.iconst (-1), 1) := dk_2 (dk_at dksX1_init_2 9 rfl rfl)
theorem dX1_init_56 : decode cX1_init 56 = .ok (.putfield 43, 3) := dk_181 0 43 (dk_at dksX1_init_2 10 rfl rfl)
theorem dX1_init_59 : decode cX1_init 59 = .ok (.aload_n 0, 1) := dk_42 (dk_at dksX1_init_2 13 rfl rfl)
theorem dX1_init_60 : decode cX1_init 60 = .ok (.new 47, 3) := dk_187 0 47 (dk_at dksX1_init_2 14 rfl rfl)
theorem dX1_init_63 : decode cX1_init 63 = .ok (.dup, 1) := dk_89 (dk_at dksX1_init_2 17 rfl rfl)
theorem dX1_init_64 : decode cX1_init 64 = .ok (.aload_n 0, 1) := dk_42 (dk_at dksX1_init_2 18 rfl rfl)
theorem dX1_init_65 : decode cX1_init 65 = .ok (.invokespecial 49, 3) := dk_183 0 49 (dk_at dksX1_init_2 19 rfl rfl)
theorem dX1_init_68 : decode cX1_init 68 = .ok (.putfield 52, 3) := dk_181 0 52 (dk_at dksX1_init_3 0 rfl rfl)
theorem dX1_init_71 : decode cX1_init 71 = .ok (.aload_n 0, 1) := dk_42 (dk_at dksX1_init_3 3 rfl rfl)
theorem dX1_init_72 : decode cX1_init 72 = .ok (.new 56, 3) := dk_187 0 56 (dk_at dksX1_init_3 4 rfl rfl)
theorem dX1_init_75 : decode cX1_init 75 = .ok (.dup, 1) := dk_89 (dk_at dksX1_init_3 7 rfl rfl)
theorem dX1_init_76 : decode cX1_init 76 = .ok (.aload_n 0, 1) := dk_42 (dk_at dksX1_init_3 8 rfl rfl)
theorem dX1_init_77 : decode cX1_init 77 = .ok (.invokespecial 58, 3) := dk_183 0 58 (dk_at dksX1_init_3 9 rfl rfl)
theorem dX1_init_80 : decode cX1_init 80 = .ok (.putfield 59, 3) := dk_181 0 59 (dk_at dksX1_init_3 12 rfl rfl)
theorem dX1_init_83 : decode cX1_init 83 = .ok (.aload_n 0, 1) := dk_42 (dk_at dksX1_init_3 15 rfl rfl)
theorem dX1_init_84 : decode cX1_init 84 = .ok (.new 63, 3) := dk_187 0 63 (dk_at dksX1_init_3 16 rfl rfl)
theorem dX1_init_87 : decode cX1_init 87 = .ok (.dup, 1) := dk_89 (dk_at dksX1_init_3 19 rfl rfl)
theorem dX1_init_88 : decode cX1_init 88 = .ok (.aload_n 0, 1) := dk_42 (dk_at dksX1_init_3 20 rfl rfl)
theorem dX1_init_89 : decode cX1_init 89 = .ok (.invokespecial 65, 3) := dk_183 0 65 (dk_at dksX1_init_3 21 rfl rfl)
theorem dX1_init_92 : decode cX1_init 92 = .ok (.putfield 66, 3) := dk_181 0 66 (dk_at dksX1_init_4 0 rfl rfl)
theorem dX1_init_95 : decode cX1_init 95 = .ok (.aload_n 0, 1) := dk_42 (dk_at dksX1_init_4 3 rfl rfl)
theorem dX1_init_96 : decode cX1_init 96 = .ok (.new 70, 3) := dk_187 0 70 (dk_at dksX1_init_4 4 rfl rfl)
theorem dX1_init_99 : decode cX1_init 99 = .ok (.dup, 1) := dk_89 (dk_at dksX1_init_4 7 rfl rfl)
theorem dX1_init_100 : decode cX1_init 100 = .ok (.aload_n 0, 1) := dk_42 (dk_at dksX1_init_4 8 rfl rfl)
theorem dX1_init_101 : decode cX1_init 101 = .ok (.invokespecial 72, 3) := dk_183 0 72 (dk_at dksX1_init_4 9 rfl rfl)
theorem dX1_init_104 : decode cX1_init 104 = .ok (.putfield 73, 3) := dk_181 0 73 (dk_at dksX1_init_4 12 rfl rfl)
theorem dX1_init_107 : decode cX1_init 107 = .ok (.aload_n 0, 1) := dk_42 (dk_at dksX1_init_4 15 rfl rfl)
theorem dX1_init_108 : decode cX1_init 108 = .ok (.iconst 4, 1) := dk_7 (dk_at dksX1_init_4 16 rfl rfl)
theorem dX1_init_109 : decode cX1_init 109 = .ok (.anewarray 77, 3) := dk_189 0 77 (dk_at dksX1_init_4 17 rfl rfl)
theorem dX1_init_112 : decode cX1_init 112 = .ok (.dup, 1) := dk_89 (dk_at dksX1_init_4 20 rfl rfl)
theorem dX1_init_113 : decode cX1_init 113 = .ok (.iconst 0, 1) := dk_3 (dk_at dksX1_init_4 21 rfl rfl)
theorem dX1_init_114 : decode cX1_init 114 = .ok (.new 77, 3) := dk_187 0 77 (dk_at dksX1_init_5 0 rfl rfl)
theorem dX1_init_117 : decode cX1_init 117 = .ok (.dup, 1) := dk_89 (dk_at dksX1_init_5 3 rfl rfl)
theorem dX1_init_118 : decode cX1_init 118 = .ok (.invokespecial 79, 3) := dk_183 0 79 (dk_at dksX1_init_5 4 rfl rfl)
theorem dX1_init_121 : decode cX1_init 121 = .ok (.aastore, 1) := dk_83 (dk_at dksX1_init_5 7 rfl rfl)
theorem dX1_init_122 : decode cX1_init 122 = .ok (.dup, 1) := dk_89 (dk_at dksX1_init_5 8 rfl rfl)
theorem dX1_init_123 : decode cX1_init 123 = .ok (.iconst 1, 1) := dk_4 (dk_at dksX1_init_5 9 rfl rfl)
theorem dX1_init_124 : decode cX1_init 124 = .ok (.new 77, 3) := dk_187 0 77 (dk_at dksX1_init_5 10 rfl rfl)
theorem dX1_init_127 : decode cX1_init 127 = .ok (.dup, 1) := dk_89 (dk_at dksX1_init_5 13 rfl rfl)
theorem dX1_init_128 : decode cX1_init 128 = .ok (.invokespecial 79, 3) := dk_183 0 79 (dk_at dksX1_init_5 14 rfl rfl)
theorem dX1_init_131 : decode cX1_init 131 = .ok (.aastore, 1) := dk_83 (dk_at dksX1_init_5 17 rfl rfl)
theorem dX1_init_132 : decode cX1_init 132 = .ok (.dup, 1) := dk_89 (dk_at dksX1_init_5 18 rfl rfl)
theorem dX1_init_133 : decode cX1_init 133 = .ok (.iconst 2, 1) := dk_5 (dk_at dksX1_init_5 19 rfl rfl)
theorem dX1_init_134 : decode cX1_init 134 = .ok (.new 77, 3) := dk_187 0 77 (dk_at dksX1_init_5 20 rfl rfl)
theorem dX1_init_137 : decode cX1_init 137 = .ok (.dup, 1) := dk_89 (dk_at dksX1_init_5 23 rfl rfl)
theorem dX1_init_138 : decode cX1_init 138 = .ok (.invokespecial 79, 3) := dk_183 0 79 (dk_at dksX1_init_6 0 rfl rfl)
theorem dX1_init_141 : decode cX1_init 141 = .ok (.aastore, 1) := dk_83 (dk_at dksX1_init_6 3 rfl rfl)
theorem dX1_init_142 : decode cX1_init 142 = .ok (.dup, 1) := dk_89 (dk_at dksX1_init_6 4 rfl rfl)
theorem dX1_init_143 : decode cX1_init 143 = .ok (.iconst 3, 1) := dk_6 (dk_at dksX1_init_6 5 rfl rfl)
theorem dX1_init_144 : decode cX1_init 144 = .ok (.new 77, 3) := dk_187 0 77 (dk_at dksX1_init_6 6 rfl rfl)
theorem dX1_init_147 : decode cX1_init 147 = .ok (.dup, 1) := dk_89 (dk_at dksX1_init_6 9 rfl rfl)
theorem dX1_init_148 : decode cX1_init 148 = .ok (.invokespecial 79, 3) := dk_183 0 79 (dk_at dksX1_init_6 10 rfl rfl)
theorem dX1_init_151 : decode cX1_init 151 = .ok (.aastore, 1) := dk_83 (dk_at dksX1_init_6 13 rfl rfl)
theorem dX1_init_152 : decode cX1_init 152 = .ok (.putfield 80, 3) := dk_181 0 80 (dk_at dksX1_init_6 14 rfl rfl)
theorem dX1_init_155 : decode cX1_init 155 = .ok (.aload_n 0, 1) := dk_42 (dk_at dksX1_init_6 17 rfl rfl)
theorem dX1_init_156 : decode cX1_init 156 = .ok (.bipush 29, 2) := dk_16 29 (dk_at dksX1_init_6 18 rfl rfl)
theorem dX1_init_158 : decode cX1_init 158 = .ok (.newarray .long, 2) := dk_188_11 (dk_at dksX1_init_6 20 rfl rfl)
theorem dX1_init_160 : decode cX1_init 160 = .ok (.putfield 84, 3) := dk_181 0 84 (dk_at dksX1_init_7 0 rfl rfl)
theorem dX1_init_163 : decode cX1_init 163 = .ok (.aload_n 0, 1) := dk_42 (dk_at dksX1_init_7 3 rfl rfl)
theorem dX1_init_164 : decode cX1_init 164 = .ok (.bipush 29, 2) := dk_16 29 (dk_at dksX1_init_7 4 rfl rfl)
theorem dX1_init_166 : decode cX1_init 166 = .ok (.newarray .long, 2) := dk_188_11 (dk_at dksX1_init_7 6 rfl rfl)
theorem dX1_init_168 : decode cX1_init 168 = .ok (.putfield 88, 3) := dk_181 0 88 (dk_at dksX1_init_7 8 rfl rfl)
theorem dX1_init_171 : decode cX1_init 171 = .ok (.return_, 1) := dk_177 (dk_at dksX1_init_7 11 rfl rfl)
abbrev cX1_feed : ByteArray := prog_1_method_11_code
def yX1_feed : MethodName := ⟨RX1, "feed", "(IIIII)I"⟩
def dkwX1_feed_2 : List UInt8 := [172]
abbrev dktX1_feed_2 : List UInt8 := dkwX1_feed_2 ++ []
def dkwX1_feed_1 : List UInt8 := [182, 0, 127, 42, 29, 182, 0, 127, 42, 21, 4, 182, 0, 127, 42, 21, 5, 182, 0, 127, 42, 180, 0, 124]
abbrev dktX1_feed_1 : List UInt8 := dkwX1_feed_1 ++ dktX1_feed_2
def dkwX1_feed_0 : List UInt8 := [42, 180, 0, 124, 16, 20, 96, 17, 3, 132, 164, 0, 5, 2, 172, 42, 27, 182, 0, 127, 42, 28]
abbrev dktX1_feed_0 : List UInt8 := dkwX1_feed_0 ++ dktX1_feed_1
theorem dksX1_feed_0 : cX1_feed.data.toList.drop 0 = dktX1_feed_0 := by decide +kernel
theorem dksX1_feed_1 : cX1_feed.data.toList.drop 22 = dktX1_feed_1 := dk_seg dksX1_feed_0 22 rfl rfl
theorem dksX1_feed_2 : cX1_feed.data.toList.drop 46 = dktX1_feed_2 := dk_seg dksX1_feed_1 24 rfl rfl
theorem dX1_feed_0 : decode cX1_feed 0 = .ok (.aload_n 0, 1) := dk_42 (dk_at dksX1_feed_0 0 rfl rfl)
theorem dX1_feed_1 : decode cX1_feed 1 = .ok (.getfield 124, 3) := dk_180 0 124 (dk_at dksX1_feed_0 1 rfl rfl)
theorem dX1_feed_4 : decode cX1_feed 4 = .ok (.bipush 20, 2) := dk_16 20 (dk_at dksX1_feed_0 4 rfl rfl)
theorem dX1_feed_6 : decode cX1_feed 6 = .ok (.iadd, 1) := dk_96 (dk_at dksX1_feed_0 6 rfl rfl)
theorem dX1_feed_7 : decode cX1_feed 7 = .ok (.sipush 900, 3) := dk_17 3 132 (dk_at dksX1_feed_0 7 rfl rfl)
theorem dX1_feed_10 : decode cX1_feed 10 = .ok (.if_icmp .le 5, 3) := dk_164 0 5 (dk_at dksX1_feed_0 10 rfl rfl)
theorem dX1_feed_13 : decode cX1_feed 13 = .ok (.iconst (-1), 1) := dk_2 (dk_at dksX1_feed_0 13 rfl rfl)
theorem dX1_feed_14 : decode cX1_feed 14 = .ok (.ireturn, 1) := dk_172 (dk_at dksX1_feed_0 14 rfl rfl)
theorem dX1_feed_15 : decode cX1_feed 15 = .ok (.aload_n 0, 1) := dk_42 (dk_at dksX1_feed_0 15 rfl rfl)
theorem dX1_feed_16 : decode cX1_feed 16 = .ok (.iload_n 1, 1) := dk_27 (dk_at dksX1_feed_0 16 rfl rfl)
theorem dX1_feed_17 : decode cX1_feed 17 = .ok (.invokevirtual 127, 3) := dk_182 0 127 (dk_at dksX1_feed_0 17 rfl rfl)
theorem dX1_feed_20 : decode cX1_feed 20 = .ok (.aload_n 0, 1) := dk_42 (dk_at dksX1_feed_0 20 rfl rfl)
theorem dX1_feed_21 : decode cX1_feed 21 = .ok (.iload_n 2, 1) := dk_28 (dk_at dksX1_feed_0 21 rfl rfl)
theorem dX1_feed_22 : decode cX1_feed 22 = .ok (.invokevirtual 127, 3) := dk_182 0 127 (dk_at dksX1_feed_1 0 rfl rfl)
theorem dX1_feed_25 : decode cX1_feed 25 = .ok (.aload_n 0, 1) := dk_42 (dk_at dksX1_feed_1 3 rfl rfl)
theorem dX1_feed_26 : decode cX1_feed 26 = .ok (.iload_n 3, 1) := dk_29 (dk_at dksX1_feed_1 4 rfl rfl)
theorem dX1_feed_27 : decode cX1_feed 27 = .ok (.invokevirtual 127, 3) := dk_182 0 127 (dk_at dksX1_feed_1 5 rfl rfl)
theorem dX1_feed_30 : decode cX1_feed 30 = .ok (.aload_n 0, 1) := dk_42 (dk_at dksX1_feed_1 8 rfl rfl)
theorem dX1_feed_31 : decode cX1_feed 31 = .ok (.iload 4, 2) := dk_21 4 (dk_at dksX1_feed_1 9 rfl rfl)
theorem dX1_feed_33 : decode cX1_feed 33 = .ok (.invokevirtual 127, 3) := dk_182 0 127 (dk_at dksX1_feed_1 11 rfl rfl)
theorem dX1_feed_36 : decode cX1_feed 36 = .ok (.aload_n 0, 1) := dk_42 (dk_at dksX1_feed_1 14 rfl rfl)
theorem dX1_feed_37 : decode cX1_feed 37 = .ok (.iload 5, 2) := dk_21 5 (dk_at dksX1_feed_1 15 rfl rfl)
theorem dX1_feed_39 : decode cX1_feed 39 = .ok (.invokevirtual 127, 3) := dk_182 0 127 (dk_at dksX1_feed_1 17 rfl rfl)
theorem dX1_feed_42 : decode cX1_feed 42 = .ok (.aload_n 0, 1) := dk_42 (dk_at dksX1_feed_1 20 rfl rfl)
theorem dX1_feed_43 : decode cX1_feed 43 = .ok (.getfield 124, 3) := dk_180 0 124 (dk_at dksX1_feed_1 21 rfl rfl)
theorem dX1_feed_46 : decode cX1_feed 46 = .ok (.ireturn, 1) := dk_172 (dk_at dksX1_feed_2 0 rfl rfl)
abbrev cX1_four : ByteArray := prog_1_method_12_code
def yX1_four : MethodName := ⟨RX1, "four", "(I)V"⟩
def dkwX1_four_1 : List UInt8 := [180, 0, 124, 4, 96, 181, 0, 124, 132, 2, 248, 167, 255, 226, 177]
abbrev dktX1_four_1 : List UInt8 := dkwX1_four_1 ++ []
def dkwX1_four_0 : List UInt8 := [16, 24, 61, 28, 155, 0, 32, 42, 180, 0, 39, 42, 180, 0, 124, 27, 28, 122, 145, 84, 42, 89]
abbrev dktX1_four_0 : List UInt8 := dkwX1_four_0 ++ dktX1_four_1
theorem dksX1_four_0 : cX1_four.data.toList.drop 0 = dktX1_four_0 := by decide +kernel
theorem dksX1_four_1 : cX1_four.data.toList.drop 22 = dktX1_four_1 := dk_seg dksX1_four_0 22 rfl rfl
theorem dX1_four_0 : decode cX1_four 0 = .ok (.bipush 24, 2) := dk_16 24 (dk_at dksX1_four_0 0 rfl rfl)
theorem dX1_four_2 : decode cX1_four 2 = .ok (.istore_n 2, 1) := dk_61 (dk_at dksX1_four_0 2 rfl rfl)
theorem dX1_four_3 : decode cX1_four 3 = .ok (.iload_n 2, 1) := dk_28 (dk_at dksX1_four_0 3 rfl rfl)
theorem dX1_four_4 : decode cX1_four 4 = .ok (.ifCond .lt 32, 3) := dk_155 0 32 (dk_at dksX1_four_0 4 rfl rfl)
theorem dX1_four_7 : decode cX1_four 7 = .ok (.aload_n 0, 1) := dk_42 (dk_at dksX1_four_0 7 rfl rfl)
theorem dX1_four_8 : decode cX1_four 8 = .ok (.getfield 39, 3) := dk_180 0 39 (dk_at dksX1_four_0 8 rfl rfl)
theorem dX1_four_11 : decode cX1_four 11 = .ok (.aload_n 0, 1) := dk_42 (dk_at dksX1_four_0 11 rfl rfl)
theorem dX1_four_12 : decode cX1_four 12 = .ok (.getfield 124, 3) := dk_180 0 124 (dk_at dksX1_four_0 12 rfl rfl)
theorem dX1_four_15 : decode cX1_four 15 = .ok (.iload_n 1, 1) := dk_27 (dk_at dksX1_four_0 15 rfl rfl)
theorem dX1_four_16 : decode cX1_four 16 = .ok (.iload_n 2, 1) := dk_28 (dk_at dksX1_four_0 16 rfl rfl)
theorem dX1_four_17 : decode cX1_four 17 = .ok (.ishr, 1) := dk_122 (dk_at dksX1_four_0 17 rfl rfl)
theorem dX1_four_18 : decode cX1_four 18 = .ok (.i2b, 1) := dk_145 (dk_at dksX1_four_0 18 rfl rfl)
theorem dX1_four_19 : decode cX1_four 19 = .ok (.bastore, 1) := dk_84 (dk_at dksX1_four_0 19 rfl rfl)
theorem dX1_four_20 : decode cX1_four 20 = .ok (.aload_n 0, 1) := dk_42 (dk_at dksX1_four_0 20 rfl rfl)
theorem dX1_four_21 : decode cX1_four 21 = .ok (.dup, 1) := dk_89 (dk_at dksX1_four_0 21 rfl rfl)
theorem dX1_four_22 : decode cX1_four 22 = .ok (.getfield 124, 3) := dk_180 0 124 (dk_at dksX1_four_1 0 rfl rfl)
theorem dX1_four_25 : decode cX1_four 25 = .ok (.iconst 1, 1) := dk_4 (dk_at dksX1_four_1 3 rfl rfl)
theorem dX1_four_26 : decode cX1_four 26 = .ok (.iadd, 1) := dk_96 (dk_at dksX1_four_1 4 rfl rfl)
theorem dX1_four_27 : decode cX1_four 27 = .ok (.putfield 124, 3) := dk_181 0 124 (dk_at dksX1_four_1 5 rfl rfl)
theorem dX1_four_30 : decode cX1_four 30 = .ok (.iinc 2 (-8), 3) := dk_132 2 248 (dk_at dksX1_four_1 8 rfl rfl)
theorem dX1_four_33 : decode cX1_four 33 = .ok (.goto (-30), 3) := dk_167 255 226 (dk_at dksX1_four_1 11 rfl rfl)
theorem dX1_four_36 : decode cX1_four 36 = .ok (.return_, 1) := dk_177 (dk_at dksX1_four_1 14 rfl rfl)
abbrev cX1_fault : ByteArray := prog_1_method_17_code
def yX1_fault : MethodName := ⟨RX1, "fault", "(I)I"⟩
def dkwX1_fault_1 : List UInt8 := [172]
abbrev dktX1_fault_1 : List UInt8 := dkwX1_fault_1 ++ []
def dkwX1_fault_0 : List UInt8 := [27, 154, 0, 10, 42, 180, 0, 159, 167, 0, 16, 27, 4, 160, 0, 10, 42, 180, 0, 43, 167, 0, 4, 2]
abbrev dktX1_fault_0 : List UInt8 := dkwX1_fault_0 ++ dktX1_fault_1
theorem dksX1_fault_0 : cX1_fault.data.toList.drop 0 = dktX1_fault_0 := by decide +kernel
theorem dksX1_fault_1 : cX1_fault.data.toList.drop 24 = dktX1_fault_1 := dk_seg dksX1_fault_0 24 rfl rfl
theorem dX1_fault_0 : decode cX1_fault 0 = .ok (.iload_n 1, 1) := dk_27 (dk_at dksX1_fault_0 0 rfl rfl)
theorem dX1_fault_1 : decode cX1_fault 1 = .ok (.ifCond .ne 10, 3) := dk_154 0 10 (dk_at dksX1_fault_0 1 rfl rfl)
theorem dX1_fault_4 : decode cX1_fault 4 = .ok (.aload_n 0, 1) := dk_42 (dk_at dksX1_fault_0 4 rfl rfl)
theorem dX1_fault_5 : decode cX1_fault 5 = .ok (.getfield 159, 3) := dk_180 0 159 (dk_at dksX1_fault_0 5 rfl rfl)
theorem dX1_fault_8 : decode cX1_fault 8 = .ok (.goto 16, 3) := dk_167 0 16 (dk_at dksX1_fault_0 8 rfl rfl)
theorem dX1_fault_11 : decode cX1_fault 11 = .ok (.iload_n 1, 1) := dk_27 (dk_at dksX1_fault_0 11 rfl rfl)
theorem dX1_fault_12 : decode cX1_fault 12 = .ok (.iconst 1, 1) := dk_4 (dk_at dksX1_fault_0 12 rfl rfl)
theorem dX1_fault_13 : decode cX1_fault 13 = .ok (.if_icmp .ne 10, 3) := dk_160 0 10 (dk_at dksX1_fault_0 13 rfl rfl)
theorem dX1_fault_16 : decode cX1_fault 16 = .ok (.aload_n 0, 1) := dk_42 (dk_at dksX1_fault_0 16 rfl rfl)
theorem dX1_fault_17 : decode cX1_fault 17 = .ok (.getfield 43, 3) := dk_180 0 43 (dk_at dksX1_fault_0 17 rfl rfl)
theorem dX1_fault_20 : decode cX1_fault 20 = .ok (.goto 4, 3) := dk_167 0 4 (dk_at dksX1_fault_0 20 rfl rfl)
theorem dX1_fault_23 : decode cX1_fault 23 = .ok (.iconst (-1), 1) := dk_2 (dk_at dksX1_fault_0 23 rfl rfl)
theorem dX1_fault_24 : decode cX1_fault 24 = .ok (.ireturn, 1) := dk_172 (dk_at dksX1_fault_1 0 rfl rfl)
abbrev cX1_pair : ByteArray := prog_1_method_23_code
def yX1_pair : MethodName := ⟨RX1, "pair", "(II)I"⟩
def dkwX1_pair_2 : List UInt8 := [21, 4, 172, 132, 4, 1, 167, 255, 211, 2, 172]
abbrev dktX1_pair_2 : List UInt8 := dkwX1_pair_2 ++ []
def dkwX1_pair_1 : List UInt8 := [27, 28, 184, 0, 225, 160, 0, 21, 45, 180, 0, 222, 21, 4, 46, 27, 28, 184, 0, 231, 160, 0, 6]
abbrev dktX1_pair_1 : List UInt8 := dkwX1_pair_1 ++ dktX1_pair_2
def dkwX1_pair_0 : List UInt8 := [42, 182, 0, 186, 78, 3, 54, 4, 21, 4, 45, 180, 0, 190, 162, 0, 42, 45, 180, 0, 218, 21, 4, 46]
abbrev dktX1_pair_0 : List UInt8 := dkwX1_pair_0 ++ dktX1_pair_1
theorem dksX1_pair_0 : cX1_pair.data.toList.drop 0 = dktX1_pair_0 := by decide +kernel
theorem dksX1_pair_1 : cX1_pair.data.toList.drop 24 = dktX1_pair_1 := dk_seg dksX1_pair_0 24 rfl rfl
theorem dksX1_pair_2 : cX1_pair.data.toList.drop 47 = dktX1_pair_2 := dk_seg dksX1_pair_1 23 rfl rfl
theorem dX1_pair_0 : decode cX1_pair 0 = .ok (.aload_n 0, 1) := dk_42 (dk_at dksX1_pair_0 0 rfl rfl)
theorem dX1_pair_1 : decode cX1_pair 1 = .ok (.invokevirtual 186, 3) := dk_182 0 186 (dk_at dksX1_pair_0 1 rfl rfl)
theorem dX1_pair_4 : decode cX1_pair 4 = .ok (.astore_n 3, 1) := dk_78 (dk_at dksX1_pair_0 4 rfl rfl)
theorem dX1_pair_5 : decode cX1_pair 5 = .ok (.iconst 0, 1) := dk_3 (dk_at dksX1_pair_0 5 rfl rfl)
theorem dX1_pair_6 : decode cX1_pair 6 = .ok (.istore 4, 2) := dk_54 4 (dk_at dksX1_pair_0 6 rfl rfl)
theorem dX1_pair_8 : decode cX1_pair 8 = .ok (.iload 4, 2) := dk_21 4 (dk_at dksX1_pair_0 8 rfl rfl)
theorem dX1_pair_10 : decode cX1_pair 10 = .ok (.aload_n 3, 1) := dk_45 (dk_at dksX1_pair_0 10 rfl rfl)
theorem dX1_pair_11 : decode cX1_pair 11 = .ok (.getfield 190, 3) := dk_180 0 190 (dk_at dksX1_pair_0 11 rfl rfl)
theorem dX1_pair_14 : decode cX1_pair 14 = .ok (.if_icmp .ge 42, 3) := dk_162 0 42 (dk_at dksX1_pair_0 14 rfl rfl)
theorem dX1_pair_17 : decode cX1_pair 17 = .ok (.aload_n 3, 1) := dk_45 (dk_at dksX1_pair_0 17 rfl rfl)
theorem dX1_pair_18 : decode cX1_pair 18 = .ok (.getfield 218, 3) := dk_180 0 218 (dk_at dksX1_pair_0 18 rfl rfl)
theorem dX1_pair_21 : decode cX1_pair 21 = .ok (.iload 4, 2) := dk_21 4 (dk_at dksX1_pair_0 21 rfl rfl)
theorem dX1_pair_23 : decode cX1_pair 23 = .ok (.iaload, 1) := dk_46 (dk_at dksX1_pair_0 23 rfl rfl)
theorem dX1_pair_24 : decode cX1_pair 24 = .ok (.iload_n 1, 1) := dk_27 (dk_at dksX1_pair_1 0 rfl rfl)
theorem dX1_pair_25 : decode cX1_pair 25 = .ok (.iload_n 2, 1) := dk_28 (dk_at dksX1_pair_1 1 rfl rfl)
theorem dX1_pair_26 : decode cX1_pair 26 = .ok (.invokestatic 225, 3) := dk_184 0 225 (dk_at dksX1_pair_1 2 rfl rfl)
theorem dX1_pair_29 : decode cX1_pair 29 = .ok (.if_icmp .ne 21, 3) := dk_160 0 21 (dk_at dksX1_pair_1 5 rfl rfl)
theorem dX1_pair_32 : decode cX1_pair 32 = .ok (.aload_n 3, 1) := dk_45 (dk_at dksX1_pair_1 8 rfl rfl)
theorem dX1_pair_33 : decode cX1_pair 33 = .ok (.getfield 222, 3) := dk_180 0 222 (dk_at dksX1_pair_1 9 rfl rfl)
theorem dX1_pair_36 : decode cX1_pair 36 = .ok (.iload 4, 2) := dk_21 4 (dk_at dksX1_pair_1 12 rfl rfl)
theorem dX1_pair_38 : decode cX1_pair 38 = .ok (.iaload, 1) := dk_46 (dk_at dksX1_pair_1 14 rfl rfl)
theorem dX1_pair_39 : decode cX1_pair 39 = .ok (.iload_n 1, 1) := dk_27 (dk_at dksX1_pair_1 15 rfl rfl)
theorem dX1_pair_40 : decode cX1_pair 40 = .ok (.iload_n 2, 1) := dk_28 (dk_at dksX1_pair_1 16 rfl rfl)
theorem dX1_pair_41 : decode cX1_pair 41 = .ok (.invokestatic 231, 3) := dk_184 0 231 (dk_at dksX1_pair_1 17 rfl rfl)
theorem dX1_pair_44 : decode cX1_pair 44 = .ok (.if_icmp .ne 6, 3) := dk_160 0 6 (dk_at dksX1_pair_1 20 rfl rfl)
theorem dX1_pair_47 : decode cX1_pair 47 = .ok (.iload 4, 2) := dk_21 4 (dk_at dksX1_pair_2 0 rfl rfl)
theorem dX1_pair_49 : decode cX1_pair 49 = .ok (.ireturn, 1) := dk_172 (dk_at dksX1_pair_2 2 rfl rfl)
theorem dX1_pair_50 : decode cX1_pair 50 = .ok (.iinc 4 1, 3) := dk_132 4 1 (dk_at dksX1_pair_2 3 rfl rfl)
theorem dX1_pair_53 : decode cX1_pair 53 = .ok (.goto (-45), 3) := dk_167 255 211 (dk_at dksX1_pair_2 6 rfl rfl)
theorem dX1_pair_56 : decode cX1_pair 56 = .ok (.iconst (-1), 1) := dk_2 (dk_at dksX1_pair_2 9 rfl rfl)
theorem dX1_pair_57 : decode cX1_pair 57 = .ok (.ireturn, 1) := dk_172 (dk_at dksX1_pair_2 10 rfl rfl)
abbrev cX1_laid : ByteArray := prog_1_method_14_code
def yX1_laid : MethodName := ⟨RX1, "laid", "()LTwoSlips$Course;"⟩
def dkwX1_laid_2 : List UInt8 := [42, 180, 0, 28, 176]
abbrev dktX1_laid_2 : List UInt8 := dkwX1_laid_2 ++ []
def dkwX1_laid_1 : List UInt8 := [180, 0, 19, 180, 0, 137, 182, 0, 140, 42, 180, 0, 28, 2, 2, 182, 0, 144, 87, 42, 4, 181, 0, 130]
abbrev dktX1_laid_1 : List UInt8 := dkwX1_laid_1 ++ dktX1_laid_2
def dkwX1_laid_0 : List UInt8 := [42, 180, 0, 130, 154, 0, 43, 42, 180, 0, 28, 42, 180, 0, 19, 42, 180, 0, 19, 180, 0, 134, 42]
abbrev dktX1_laid_0 : List UInt8 := dkwX1_laid_0 ++ dktX1_laid_1
theorem dksX1_laid_0 : cX1_laid.data.toList.drop 0 = dktX1_laid_0 := by decide +kernel
theorem dksX1_laid_1 : cX1_laid.data.toList.drop 23 = dktX1_laid_1 := dk_seg dksX1_laid_0 23 rfl rfl
theorem dksX1_laid_2 : cX1_laid.data.toList.drop 47 = dktX1_laid_2 := dk_seg dksX1_laid_1 24 rfl rfl
theorem dX1_laid_0 : decode cX1_laid 0 = .ok (.aload_n 0, 1) := dk_42 (dk_at dksX1_laid_0 0 rfl rfl)
theorem dX1_laid_1 : decode cX1_laid 1 = .ok (.getfield 130, 3) := dk_180 0 130 (dk_at dksX1_laid_0 1 rfl rfl)
theorem dX1_laid_4 : decode cX1_laid 4 = .ok (.ifCond .ne 43, 3) := dk_154 0 43 (dk_at dksX1_laid_0 4 rfl rfl)
theorem dX1_laid_7 : decode cX1_laid 7 = .ok (.aload_n 0, 1) := dk_42 (dk_at dksX1_laid_0 7 rfl rfl)
theorem dX1_laid_8 : decode cX1_laid 8 = .ok (.getfield 28, 3) := dk_180 0 28 (dk_at dksX1_laid_0 8 rfl rfl)
theorem dX1_laid_11 : decode cX1_laid 11 = .ok (.aload_n 0, 1) := dk_42 (dk_at dksX1_laid_0 11 rfl rfl)
theorem dX1_laid_12 : decode cX1_laid 12 = .ok (.getfield 19, 3) := dk_180 0 19 (dk_at dksX1_laid_0 12 rfl rfl)
theorem dX1_laid_15 : decode cX1_laid 15 = .ok (.aload_n 0, 1) := dk_42 (dk_at dksX1_laid_0 15 rfl rfl)
theorem dX1_laid_16 : decode cX1_laid 16 = .ok (.getfield 19, 3) := dk_180 0 19 (dk_at dksX1_laid_0 16 rfl rfl)
theorem dX1_laid_19 : decode cX1_laid 19 = .ok (.getfield 134, 3) := dk_180 0 134 (dk_at dksX1_laid_0 19 rfl rfl)
theorem dX1_laid_22 : decode cX1_laid 22 = .ok (.aload_n 0, 1) := dk_42 (dk_at dksX1_laid_0 22 rfl rfl)
theorem dX1_laid_23 : decode cX1_laid 23 = .ok (.getfield 19, 3) := dk_180 0 19 (dk_at dksX1_laid_1 0 rfl rfl)
theorem dX1_laid_26 : decode cX1_laid 26 = .ok (.getfield 137, 3) := dk_180 0 137 (dk_at dksX1_laid_1 3 rfl rfl)
theorem dX1_laid_29 : decode cX1_laid 29 = .ok (.invokevirtual 140, 3) := dk_182 0 140 (dk_at dksX1_laid_1 6 rfl rfl)
theorem dX1_laid_32 : decode cX1_laid 32 = .ok (.aload_n 0, 1) := dk_42 (dk_at dksX1_laid_1 9 rfl rfl)
theorem dX1_laid_33 : decode cX1_laid 33 = .ok (.getfield 28, 3) := dk_180 0 28 (dk_at dksX1_laid_1 10 rfl rfl)
theorem dX1_laid_36 : decode cX1_laid 36 = .ok (.iconst (-1), 1) := dk_2 (dk_at dksX1_laid_1 13 rfl rfl)
theorem dX1_laid_37 : decode cX1_laid 37 = .ok (.iconst (-1), 1) := dk_2 (dk_at dksX1_laid_1 14 rfl rfl)
theorem dX1_laid_38 : decode cX1_laid 38 = .ok (.invokevirtual 144, 3) := dk_182 0 144 (dk_at dksX1_laid_1 15 rfl rfl)
theorem dX1_laid_41 : decode cX1_laid 41 = .ok (.pop, 1) := dk_87 (dk_at dksX1_laid_1 18 rfl rfl)
theorem dX1_laid_42 : decode cX1_laid 42 = .ok (.aload_n 0, 1) := dk_42 (dk_at dksX1_laid_1 19 rfl rfl)
theorem dX1_laid_43 : decode cX1_laid 43 = .ok (.iconst 1, 1) := dk_4 (dk_at dksX1_laid_1 20 rfl rfl)
theorem dX1_laid_44 : decode cX1_laid 44 = .ok (.putfield 130, 3) := dk_181 0 130 (dk_at dksX1_laid_1 21 rfl rfl)
theorem dX1_laid_47 : decode cX1_laid 47 = .ok (.aload_n 0, 1) := dk_42 (dk_at dksX1_laid_2 0 rfl rfl)
theorem dX1_laid_48 : decode cX1_laid 48 = .ok (.getfield 28, 3) := dk_180 0 28 (dk_at dksX1_laid_2 1 rfl rfl)
theorem dX1_laid_51 : decode cX1_laid 51 = .ok (.areturn, 1) := dk_176 (dk_at dksX1_laid_2 4 rfl rfl)
abbrev cX1_puts : ByteArray := prog_1_method_7_code
def yX1_puts : MethodName := ⟨RX1, "puts", "([JI)V"⟩
def dkwX1_puts_0 : List UInt8 := [42, 27, 16, 6, 122, 92, 47, 10, 27, 121, 129, 80, 177]
abbrev dktX1_puts_0 : List UInt8 := dkwX1_puts_0 ++ []
theorem dksX1_puts_0 : cX1_puts.data.toList.drop 0 = dktX1_puts_0 := by decide +kernel
theorem dX1_puts_0 : decode cX1_puts 0 = .ok (.aload_n 0, 1) := dk_42 (dk_at dksX1_puts_0 0 rfl rfl)
theorem dX1_puts_1 : decode cX1_puts 1 = .ok (.iload_n 1, 1) := dk_27 (dk_at dksX1_puts_0 1 rfl rfl)
theorem dX1_puts_2 : decode cX1_puts 2 = .ok (.bipush 6, 2) := dk_16 6 (dk_at dksX1_puts_0 2 rfl rfl)
theorem dX1_puts_4 : decode cX1_puts 4 = .ok (.ishr, 1) := dk_122 (dk_at dksX1_puts_0 4 rfl rfl)
theorem dX1_puts_5 : decode cX1_puts 5 = .ok (.dup2, 1) := dk_92 (dk_at dksX1_puts_0 5 rfl rfl)
theorem dX1_puts_6 : decode cX1_puts 6 = .ok (.laload, 1) := dk_47 (dk_at dksX1_puts_0 6 rfl rfl)
theorem dX1_puts_7 : decode cX1_puts 7 = .ok (.lconst 1, 1) := dk_10 (dk_at dksX1_puts_0 7 rfl rfl)
theorem dX1_puts_8 : decode cX1_puts 8 = .ok (.iload_n 1, 1) := dk_27 (dk_at dksX1_puts_0 8 rfl rfl)
theorem dX1_puts_9 : decode cX1_puts 9 = .ok (.lshl, 1) := dk_121 (dk_at dksX1_puts_0 9 rfl rfl)
theorem dX1_puts_10 : decode cX1_puts 10 = .ok (.lor, 1) := dk_129 (dk_at dksX1_puts_0 10 rfl rfl)
theorem dX1_puts_11 : decode cX1_puts 11 = .ok (.lastore, 1) := dk_80 (dk_at dksX1_puts_0 11 rfl rfl)
theorem dX1_puts_12 : decode cX1_puts 12 = .ok (.return_, 1) := dk_177 (dk_at dksX1_puts_0 12 rfl rfl)
abbrev cX1_has : ByteArray := prog_1_method_6_code
def yX1_has : MethodName := ⟨RX1, "has", "([JI)Z"⟩
def dkwX1_has_0 : List UInt8 := [42, 27, 16, 6, 122, 47, 27, 125, 10, 127, 10, 148, 154, 0, 7, 4, 167, 0, 4, 3, 172]
abbrev dktX1_has_0 : List UInt8 := dkwX1_has_0 ++ []
theorem dksX1_has_0 : cX1_has.data.toList.drop 0 = dktX1_has_0 := by decide +kernel
theorem dX1_has_0 : decode cX1_has 0 = .ok (.aload_n 0, 1) := dk_42 (dk_at dksX1_has_0 0 rfl rfl)
theorem dX1_has_1 : decode cX1_has 1 = .ok (.iload_n 1, 1) := dk_27 (dk_at dksX1_has_0 1 rfl rfl)
theorem dX1_has_2 : decode cX1_has 2 = .ok (.bipush 6, 2) := dk_16 6 (dk_at dksX1_has_0 2 rfl rfl)
theorem dX1_has_4 : decode cX1_has 4 = .ok (.ishr, 1) := dk_122 (dk_at dksX1_has_0 4 rfl rfl)
theorem dX1_has_5 : decode cX1_has 5 = .ok (.laload, 1) := dk_47 (dk_at dksX1_has_0 5 rfl rfl)
theorem dX1_has_6 : decode cX1_has 6 = .ok (.iload_n 1, 1) := dk_27 (dk_at dksX1_has_0 6 rfl rfl)
theorem dX1_has_7 : decode cX1_has 7 = .ok (.lushr, 1) := dk_125 (dk_at dksX1_has_0 7 rfl rfl)
theorem dX1_has_8 : decode cX1_has 8 = .ok (.lconst 1, 1) := dk_10 (dk_at dksX1_has_0 8 rfl rfl)
theorem dX1_has_9 : decode cX1_has 9 = .ok (.land, 1) := dk_127 (dk_at dksX1_has_0 9 rfl rfl)
theorem dX1_has_10 : decode cX1_has 10 = .ok (.lconst 1, 1) := dk_10 (dk_at dksX1_has_0 10 rfl rfl)
theorem dX1_has_11 : decode cX1_has 11 = .ok (.lcmp, 1) := dk_148 (dk_at dksX1_has_0 11 rfl rfl)
theorem dX1_has_12 : decode cX1_has 12 = .ok (.ifCond .ne 7, 3) := dk_154 0 7 (dk_at dksX1_has_0 12 rfl rfl)
theorem dX1_has_15 : decode cX1_has 15 = .ok (.iconst 1, 1) := dk_4 (dk_at dksX1_has_0 15 rfl rfl)
theorem dX1_has_16 : decode cX1_has 16 = .ok (.goto 4, 3) := dk_167 0 4 (dk_at dksX1_has_0 16 rfl rfl)
theorem dX1_has_19 : decode cX1_has 19 = .ok (.iconst 0, 1) := dk_3 (dk_at dksX1_has_0 19 rfl rfl)
theorem dX1_has_20 : decode cX1_has 20 = .ok (.ireturn, 1) := dk_172 (dk_at dksX1_has_0 20 rfl rfl)
abbrev cX1_only : ByteArray := prog_1_method_31_code
def yX1_only : MethodName := ⟨RX1, "only", "()I"⟩
def dkwX1_only_0 : List UInt8 := [42, 182, 0, 186, 182, 1, 23, 172]
abbrev dktX1_only_0 : List UInt8 := dkwX1_only_0 ++ []
theorem dksX1_only_0 : cX1_only.data.toList.drop 0 = dktX1_only_0 := by decide +kernel
theorem dX1_only_0 : decode cX1_only 0 = .ok (.aload_n 0, 1) := dk_42 (dk_at dksX1_only_0 0 rfl rfl)
theorem dX1_only_1 : decode cX1_only 1 = .ok (.invokevirtual 186, 3) := dk_182 0 186 (dk_at dksX1_only_0 1 rfl rfl)
theorem dX1_only_4 : decode cX1_only 4 = .ok (.invokevirtual 279, 3) := dk_182 1 23 (dk_at dksX1_only_0 4 rfl rfl)
theorem dX1_only_7 : decode cX1_only 7 = .ok (.ireturn, 1) := dk_172 (dk_at dksX1_only_0 7 rfl rfl)
abbrev cX1_count : ByteArray := prog_1_method_8_code
def yX1_count : MethodName := ⟨RX1, "count", "([J)I"⟩
def dkwX1_count_1 : List UInt8 := [167, 255, 238, 27, 172]
abbrev dktX1_count_1 : List UInt8 := dkwX1_count_1 ++ []
def dkwX1_count_0 : List UInt8 := [3, 60, 3, 61, 28, 16, 29, 162, 0, 18, 27, 42, 28, 47, 184, 0, 91, 96, 60, 132, 2, 1]
abbrev dktX1_count_0 : List UInt8 := dkwX1_count_0 ++ dktX1_count_1
theorem dksX1_count_0 : cX1_count.data.toList.drop 0 = dktX1_count_0 := by decide +kernel
theorem dksX1_count_1 : cX1_count.data.toList.drop 22 = dktX1_count_1 := dk_seg dksX1_count_0 22 rfl rfl
theorem dX1_count_0 : decode cX1_count 0 = .ok (.iconst 0, 1) := dk_3 (dk_at dksX1_count_0 0 rfl rfl)
theorem dX1_count_1 : decode cX1_count 1 = .ok (.istore_n 1, 1) := dk_60 (dk_at dksX1_count_0 1 rfl rfl)
theorem dX1_count_2 : decode cX1_count 2 = .ok (.iconst 0, 1) := dk_3 (dk_at dksX1_count_0 2 rfl rfl)
theorem dX1_count_3 : decode cX1_count 3 = .ok (.istore_n 2, 1) := dk_61 (dk_at dksX1_count_0 3 rfl rfl)
theorem dX1_count_4 : decode cX1_count 4 = .ok (.iload_n 2, 1) := dk_28 (dk_at dksX1_count_0 4 rfl rfl)
theorem dX1_count_5 : decode cX1_count 5 = .ok (.bipush 29, 2) := dk_16 29 (dk_at dksX1_count_0 5 rfl rfl)
theorem dX1_count_7 : decode cX1_count 7 = .ok (.if_icmp .ge 18, 3) := dk_162 0 18 (dk_at dksX1_count_0 7 rfl rfl)
theorem dX1_count_10 : decode cX1_count 10 = .ok (.iload_n 1, 1) := dk_27 (dk_at dksX1_count_0 10 rfl rfl)
theorem dX1_count_11 : decode cX1_count 11 = .ok (.aload_n 0, 1) := dk_42 (dk_at dksX1_count_0 11 rfl rfl)
theorem dX1_count_12 : decode cX1_count 12 = .ok (.iload_n 2, 1) := dk_28 (dk_at dksX1_count_0 12 rfl rfl)
theorem dX1_count_13 : decode cX1_count 13 = .ok (.laload, 1) := dk_47 (dk_at dksX1_count_0 13 rfl rfl)
theorem dX1_count_14 : decode cX1_count 14 = .ok (.invokestatic 91, 3) := dk_184 0 91 (dk_at dksX1_count_0 14 rfl rfl)
theorem dX1_count_17 : decode cX1_count 17 = .ok (.iadd, 1) := dk_96 (dk_at dksX1_count_0 17 rfl rfl)
theorem dX1_count_18 : decode cX1_count 18 = .ok (.istore_n 1, 1) := dk_60 (dk_at dksX1_count_0 18 rfl rfl)
theorem dX1_count_19 : decode cX1_count 19 = .ok (.iinc 2 1, 3) := dk_132 2 1 (dk_at dksX1_count_0 19 rfl rfl)
theorem dX1_count_22 : decode cX1_count 22 = .ok (.goto (-18), 3) := dk_167 255 238 (dk_at dksX1_count_1 0 rfl rfl)
theorem dX1_count_25 : decode cX1_count 25 = .ok (.iload_n 1, 1) := dk_27 (dk_at dksX1_count_1 3 rfl rfl)
theorem dX1_count_26 : decode cX1_count 26 = .ok (.ireturn, 1) := dk_172 (dk_at dksX1_count_1 4 rfl rfl)
abbrev cX1_at : ByteArray := prog_1_method_9_code
def yX1_at : MethodName := ⟨RX1, "at", "([JII)I"⟩
def dkwX1_at_1 : List UInt8 := [167, 0, 13, 29, 154, 0, 6, 21, 4, 172, 132, 3, 255, 132, 4, 1, 167, 255, 221, 2, 172]
abbrev dktX1_at_1 : List UInt8 := dkwX1_at_1 ++ []
def dkwX1_at_0 : List UInt8 := [27, 62, 3, 54, 4, 21, 4, 28, 162, 0, 35, 29, 155, 0, 31, 42, 21, 4, 184, 0, 97, 154, 0, 6]
abbrev dktX1_at_0 : List UInt8 := dkwX1_at_0 ++ dktX1_at_1
theorem dksX1_at_0 : cX1_at.data.toList.drop 0 = dktX1_at_0 := by decide +kernel
theorem dksX1_at_1 : cX1_at.data.toList.drop 24 = dktX1_at_1 := dk_seg dksX1_at_0 24 rfl rfl
theorem dX1_at_0 : decode cX1_at 0 = .ok (.iload_n 1, 1) := dk_27 (dk_at dksX1_at_0 0 rfl rfl)
theorem dX1_at_1 : decode cX1_at 1 = .ok (.istore_n 3, 1) := dk_62 (dk_at dksX1_at_0 1 rfl rfl)
theorem dX1_at_2 : decode cX1_at 2 = .ok (.iconst 0, 1) := dk_3 (dk_at dksX1_at_0 2 rfl rfl)
theorem dX1_at_3 : decode cX1_at 3 = .ok (.istore 4, 2) := dk_54 4 (dk_at dksX1_at_0 3 rfl rfl)
theorem dX1_at_5 : decode cX1_at 5 = .ok (.iload 4, 2) := dk_21 4 (dk_at dksX1_at_0 5 rfl rfl)
theorem dX1_at_7 : decode cX1_at 7 = .ok (.iload_n 2, 1) := dk_28 (dk_at dksX1_at_0 7 rfl rfl)
theorem dX1_at_8 : decode cX1_at 8 = .ok (.if_icmp .ge 35, 3) := dk_162 0 35 (dk_at dksX1_at_0 8 rfl rfl)
theorem dX1_at_11 : decode cX1_at 11 = .ok (.iload_n 3, 1) := dk_29 (dk_at dksX1_at_0 11 rfl rfl)
theorem dX1_at_12 : decode cX1_at 12 = .ok (.ifCond .lt 31, 3) := dk_155 0 31 (dk_at dksX1_at_0 12 rfl rfl)
theorem dX1_at_15 : decode cX1_at 15 = .ok (.aload_n 0, 1) := dk_42 (dk_at dksX1_at_0 15 rfl rfl)
theorem dX1_at_16 : decode cX1_at 16 = .ok (.iload 4, 2) := dk_21 4 (dk_at dksX1_at_0 16 rfl rfl)
theorem dX1_at_18 : decode cX1_at 18 = .ok (.invokestatic 97, 3) := dk_184 0 97 (dk_at dksX1_at_0 18 rfl rfl)
theorem dX1_at_21 : decode cX1_at 21 = .ok (.ifCond .ne 6, 3) := dk_154 0 6 (dk_at dksX1_at_0 21 rfl rfl)
theorem dX1_at_24 : decode cX1_at 24 = .ok (.goto 13, 3) := dk_167 0 13 (dk_at dksX1_at_1 0 rfl rfl)
theorem dX1_at_27 : decode cX1_at 27 = .ok (.iload_n 3, 1) := dk_29 (dk_at dksX1_at_1 3 rfl rfl)
theorem dX1_at_28 : decode cX1_at 28 = .ok (.ifCond .ne 6, 3) := dk_154 0 6 (dk_at dksX1_at_1 4 rfl rfl)
theorem dX1_at_31 : decode cX1_at 31 = .ok (.iload 4, 2) := dk_21 4 (dk_at dksX1_at_1 7 rfl rfl)
theorem dX1_at_33 : decode cX1_at 33 = .ok (.ireturn, 1) := dk_172 (dk_at dksX1_at_1 9 rfl rfl)
theorem dX1_at_34 : decode cX1_at 34 = .ok (.iinc 3 (-1), 3) := dk_132 3 255 (dk_at dksX1_at_1 10 rfl rfl)
theorem dX1_at_37 : decode cX1_at 37 = .ok (.iinc 4 1, 3) := dk_132 4 1 (dk_at dksX1_at_1 13 rfl rfl)
theorem dX1_at_40 : decode cX1_at 40 = .ok (.goto (-35), 3) := dk_167 255 221 (dk_at dksX1_at_1 16 rfl rfl)
theorem dX1_at_43 : decode cX1_at 43 = .ok (.iconst (-1), 1) := dk_2 (dk_at dksX1_at_1 19 rfl rfl)
theorem dX1_at_44 : decode cX1_at 44 = .ok (.ireturn, 1) := dk_172 (dk_at dksX1_at_1 20 rfl rfl)
abbrev cX1_which : ByteArray := prog_1_method_50_code
def yX1_which : MethodName := ⟨RX1, "which", "()I"⟩
def dkwX1_which_1 : List UInt8 := [182, 1, 65, 4, 160, 0, 9, 4, 28, 120, 167, 0, 4, 3, 128, 60, 132, 2, 1, 167, 255, 217, 27, 172]
abbrev dktX1_which_1 : List UInt8 := dkwX1_which_1 ++ []
def dkwX1_which_0 : List UInt8 := [3, 60, 3, 61, 28, 42, 180, 0, 19, 180, 0, 196, 182, 0, 200, 162, 0, 31, 27, 42, 28, 182, 1, 117]
abbrev dktX1_which_0 : List UInt8 := dkwX1_which_0 ++ dktX1_which_1
theorem dksX1_which_0 : cX1_which.data.toList.drop 0 = dktX1_which_0 := by decide +kernel
theorem dksX1_which_1 : cX1_which.data.toList.drop 24 = dktX1_which_1 := dk_seg dksX1_which_0 24 rfl rfl
theorem dX1_which_0 : decode cX1_which 0 = .ok (.iconst 0, 1) := dk_3 (dk_at dksX1_which_0 0 rfl rfl)
theorem dX1_which_1 : decode cX1_which 1 = .ok (.istore_n 1, 1) := dk_60 (dk_at dksX1_which_0 1 rfl rfl)
theorem dX1_which_2 : decode cX1_which 2 = .ok (.iconst 0, 1) := dk_3 (dk_at dksX1_which_0 2 rfl rfl)
theorem dX1_which_3 : decode cX1_which 3 = .ok (.istore_n 2, 1) := dk_61 (dk_at dksX1_which_0 3 rfl rfl)
theorem dX1_which_4 : decode cX1_which 4 = .ok (.iload_n 2, 1) := dk_28 (dk_at dksX1_which_0 4 rfl rfl)
theorem dX1_which_5 : decode cX1_which 5 = .ok (.aload_n 0, 1) := dk_42 (dk_at dksX1_which_0 5 rfl rfl)
theorem dX1_which_6 : decode cX1_which 6 = .ok (.getfield 19, 3) := dk_180 0 19 (dk_at dksX1_which_0 6 rfl rfl)
theorem dX1_which_9 : decode cX1_which 9 = .ok (.getfield 196, 3) := dk_180 0 196 (dk_at dksX1_which_0 9 rfl rfl)
theorem dX1_which_12 : decode cX1_which 12 = .ok (.invokevirtual 200, 3) := dk_182 0 200 (dk_at dksX1_which_0 12 rfl rfl)
theorem dX1_which_15 : decode cX1_which 15 = .ok (.if_icmp .ge 31, 3) := dk_162 0 31 (dk_at dksX1_which_0 15 rfl rfl)
theorem dX1_which_18 : decode cX1_which 18 = .ok (.iload_n 1, 1) := dk_27 (dk_at dksX1_which_0 18 rfl rfl)
theorem dX1_which_19 : decode cX1_which 19 = .ok (.aload_n 0, 1) := dk_42 (dk_at dksX1_which_0 19 rfl rfl)
theorem dX1_which_20 : decode cX1_which 20 = .ok (.iload_n 2, 1) := dk_28 (dk_at dksX1_which_0 20 rfl rfl)
theorem dX1_which_21 : decode cX1_which 21 = .ok (.invokevirtual 373, 3) := dk_182 1 117 (dk_at dksX1_which_0 21 rfl rfl)
theorem dX1_which_24 : decode cX1_which 24 = .ok (.invokevirtual 321, 3) := dk_182 1 65 (dk_at dksX1_which_1 0 rfl rfl)
theorem dX1_which_27 : decode cX1_which 27 = .ok (.iconst 1, 1) := dk_4 (dk_at dksX1_which_1 3 rfl rfl)
theorem dX1_which_28 : decode cX1_which 28 = .ok (.if_icmp .ne 9, 3) := dk_160 0 9 (dk_at dksX1_which_1 4 rfl rfl)
theorem dX1_which_31 : decode cX1_which 31 = .ok (.iconst 1, 1) := dk_4 (dk_at dksX1_which_1 7 rfl rfl)
theorem dX1_which_32 : decode cX1_which 32 = .ok (.iload_n 2, 1) := dk_28 (dk_at dksX1_which_1 8 rfl rfl)
theorem dX1_which_33 : decode cX1_which 33 = .ok (.ishl, 1) := dk_120 (dk_at dksX1_which_1 9 rfl rfl)
theorem dX1_which_34 : decode cX1_which 34 = .ok (.goto 4, 3) := dk_167 0 4 (dk_at dksX1_which_1 10 rfl rfl)
theorem dX1_which_37 : decode cX1_which 37 = .ok (.iconst 0, 1) := dk_3 (dk_at dksX1_which_1 13 rfl rfl)
theorem dX1_which_38 : decode cX1_which 38 = .ok (.ior, 1) := dk_128 (dk_at dksX1_which_1 14 rfl rfl)
theorem dX1_which_39 : decode cX1_which 39 = .ok (.istore_n 1, 1) := dk_60 (dk_at dksX1_which_1 15 rfl rfl)
theorem dX1_which_40 : decode cX1_which 40 = .ok (.iinc 2 1, 3) := dk_132 2 1 (dk_at dksX1_which_1 16 rfl rfl)
theorem dX1_which_43 : decode cX1_which 43 = .ok (.goto (-39), 3) := dk_167 255 217 (dk_at dksX1_which_1 19 rfl rfl)
theorem dX1_which_46 : decode cX1_which 46 = .ok (.iload_n 1, 1) := dk_27 (dk_at dksX1_which_1 22 rfl rfl)
theorem dX1_which_47 : decode cX1_which 47 = .ok (.ireturn, 1) := dk_172 (dk_at dksX1_which_1 23 rfl rfl)
abbrev cX1_lying : ByteArray := prog_1_method_48_code
def yX1_lying : MethodName := ⟨RX1, "lying", "(I)LTwoSlips$Course;"⟩
def dkwX1_lying_1 : List UInt8 := [181, 0, 148, 42, 180, 0, 32, 176]
abbrev dktX1_lying_1 : List UInt8 := dkwX1_lying_1 ++ []
def dkwX1_lying_0 : List UInt8 := [42, 182, 1, 114, 27, 181, 0, 148, 42, 180, 0, 32, 2, 2, 182, 0, 144, 87, 42, 180, 0, 32, 2]
abbrev dktX1_lying_0 : List UInt8 := dkwX1_lying_0 ++ dktX1_lying_1
theorem dksX1_lying_0 : cX1_lying.data.toList.drop 0 = dktX1_lying_0 := by decide +kernel
theorem dksX1_lying_1 : cX1_lying.data.toList.drop 23 = dktX1_lying_1 := dk_seg dksX1_lying_0 23 rfl rfl
theorem dX1_lying_0 : decode cX1_lying 0 = .ok (.aload_n 0, 1) := dk_42 (dk_at dksX1_lying_0 0 rfl rfl)
theorem dX1_lying_1 : decode cX1_lying 1 = .ok (.invokevirtual 370, 3) := dk_182 1 114 (dk_at dksX1_lying_0 1 rfl rfl)
theorem dX1_lying_4 : decode cX1_lying 4 = .ok (.iload_n 1, 1) := dk_27 (dk_at dksX1_lying_0 4 rfl rfl)
theorem dX1_lying_5 : decode cX1_lying 5 = .ok (.putfield 148, 3) := dk_181 0 148 (dk_at dksX1_lying_0 5 rfl rfl)
theorem dX1_lying_8 : decode cX1_lying 8 = .ok (.aload_n 0, 1) := dk_42 (dk_at dksX1_lying_0 8 rfl rfl)
theorem dX1_lying_9 : decode cX1_lying 9 = .ok (.getfield 32, 3) := dk_180 0 32 (dk_at dksX1_lying_0 9 rfl rfl)
theorem dX1_lying_12 : decode cX1_lying 12 = .ok (.iconst (-1), 1) := dk_2 (dk_at dksX1_lying_0 12 rfl rfl)
theorem dX1_lying_13 : decode cX1_lying 13 = .ok (.iconst (-1), 1) := dk_2 (dk_at dksX1_lying_0 13 rfl rfl)
theorem dX1_lying_14 : decode cX1_lying 14 = .ok (.invokevirtual 144, 3) := dk_182 0 144 (dk_at dksX1_lying_0 14 rfl rfl)
theorem dX1_lying_17 : decode cX1_lying 17 = .ok (.pop, 1) := dk_87 (dk_at dksX1_lying_0 17 rfl rfl)
theorem dX1_lying_18 : decode cX1_lying 18 = .ok (.aload_n 0, 1) := dk_42 (dk_at dksX1_lying_0 18 rfl rfl)
theorem dX1_lying_19 : decode cX1_lying 19 = .ok (.getfield 32, 3) := dk_180 0 32 (dk_at dksX1_lying_0 19 rfl rfl)
theorem dX1_lying_22 : decode cX1_lying 22 = .ok (.iconst (-1), 1) := dk_2 (dk_at dksX1_lying_0 22 rfl rfl)
theorem dX1_lying_23 : decode cX1_lying 23 = .ok (.putfield 148, 3) := dk_181 0 148 (dk_at dksX1_lying_1 0 rfl rfl)
theorem dX1_lying_26 : decode cX1_lying 26 = .ok (.aload_n 0, 1) := dk_42 (dk_at dksX1_lying_1 3 rfl rfl)
theorem dX1_lying_27 : decode cX1_lying 27 = .ok (.getfield 32, 3) := dk_180 0 32 (dk_at dksX1_lying_1 4 rfl rfl)
theorem dX1_lying_30 : decode cX1_lying 30 = .ok (.areturn, 1) := dk_176 (dk_at dksX1_lying_1 7 rfl rfl)
abbrev cX1_fresh : ByteArray := prog_1_method_15_code
def yX1_fresh : MethodName := ⟨RX1, "fresh", "()LTwoSlips$Course;"⟩
def dkwX1_fresh_1 : List UInt8 := [180, 0, 19, 180, 0, 137, 182, 0, 140, 42, 180, 0, 32, 176]
abbrev dktX1_fresh_1 : List UInt8 := dkwX1_fresh_1 ++ []
def dkwX1_fresh_0 : List UInt8 := [42, 180, 0, 32, 2, 181, 0, 148, 42, 180, 0, 32, 42, 180, 0, 19, 42, 180, 0, 19, 180, 0, 134, 42]
abbrev dktX1_fresh_0 : List UInt8 := dkwX1_fresh_0 ++ dktX1_fresh_1
theorem dksX1_fresh_0 : cX1_fresh.data.toList.drop 0 = dktX1_fresh_0 := by decide +kernel
theorem dksX1_fresh_1 : cX1_fresh.data.toList.drop 24 = dktX1_fresh_1 := dk_seg dksX1_fresh_0 24 rfl rfl
theorem dX1_fresh_0 : decode cX1_fresh 0 = .ok (.aload_n 0, 1) := dk_42 (dk_at dksX1_fresh_0 0 rfl rfl)
theorem dX1_fresh_1 : decode cX1_fresh 1 = .ok (.getfield 32, 3) := dk_180 0 32 (dk_at dksX1_fresh_0 1 rfl rfl)
theorem dX1_fresh_4 : decode cX1_fresh 4 = .ok (.iconst (-1), 1) := dk_2 (dk_at dksX1_fresh_0 4 rfl rfl)
theorem dX1_fresh_5 : decode cX1_fresh 5 = .ok (.putfield 148, 3) := dk_181 0 148 (dk_at dksX1_fresh_0 5 rfl rfl)
theorem dX1_fresh_8 : decode cX1_fresh 8 = .ok (.aload_n 0, 1) := dk_42 (dk_at dksX1_fresh_0 8 rfl rfl)
theorem dX1_fresh_9 : decode cX1_fresh 9 = .ok (.getfield 32, 3) := dk_180 0 32 (dk_at dksX1_fresh_0 9 rfl rfl)
theorem dX1_fresh_12 : decode cX1_fresh 12 = .ok (.aload_n 0, 1) := dk_42 (dk_at dksX1_fresh_0 12 rfl rfl)
theorem dX1_fresh_13 : decode cX1_fresh 13 = .ok (.getfield 19, 3) := dk_180 0 19 (dk_at dksX1_fresh_0 13 rfl rfl)
theorem dX1_fresh_16 : decode cX1_fresh 16 = .ok (.aload_n 0, 1) := dk_42 (dk_at dksX1_fresh_0 16 rfl rfl)
theorem dX1_fresh_17 : decode cX1_fresh 17 = .ok (.getfield 19, 3) := dk_180 0 19 (dk_at dksX1_fresh_0 17 rfl rfl)
theorem dX1_fresh_20 : decode cX1_fresh 20 = .ok (.getfield 134, 3) := dk_180 0 134 (dk_at dksX1_fresh_0 20 rfl rfl)
theorem dX1_fresh_23 : decode cX1_fresh 23 = .ok (.aload_n 0, 1) := dk_42 (dk_at dksX1_fresh_0 23 rfl rfl)
theorem dX1_fresh_24 : decode cX1_fresh 24 = .ok (.getfield 19, 3) := dk_180 0 19 (dk_at dksX1_fresh_1 0 rfl rfl)
theorem dX1_fresh_27 : decode cX1_fresh 27 = .ok (.getfield 137, 3) := dk_180 0 137 (dk_at dksX1_fresh_1 3 rfl rfl)
theorem dX1_fresh_30 : decode cX1_fresh 30 = .ok (.invokevirtual 140, 3) := dk_182 0 140 (dk_at dksX1_fresh_1 6 rfl rfl)
theorem dX1_fresh_33 : decode cX1_fresh 33 = .ok (.aload_n 0, 1) := dk_42 (dk_at dksX1_fresh_1 9 rfl rfl)
theorem dX1_fresh_34 : decode cX1_fresh 34 = .ok (.getfield 32, 3) := dk_180 0 32 (dk_at dksX1_fresh_1 10 rfl rfl)
theorem dX1_fresh_37 : decode cX1_fresh 37 = .ok (.areturn, 1) := dk_176 (dk_at dksX1_fresh_1 13 rfl rfl)
abbrev cX1_count_2 : ByteArray := prog_1_method_61_code
def yX1_count_2 : MethodName := ⟨RX1, "count", "(I)I"⟩
def dkwX1_count_2_5 : List UInt8 := [182, 0, 186, 180, 0, 190, 172, 42, 180, 0, 124, 172, 2, 172]
abbrev dktX1_count_2_5 : List UInt8 := dkwX1_count_2_5 ++ []
def dkwX1_count_2_4 : List UInt8 := [42, 180, 0, 19, 180, 0, 196, 182, 0, 200, 172, 42, 180, 0, 19, 180, 0, 206, 182, 0, 200, 172, 42]
abbrev dktX1_count_2_4 : List UInt8 := dkwX1_count_2_4 ++ dktX1_count_2_5
def dkwX1_count_2_3 : List UInt8 := [42, 180, 0, 19, 180, 1, 176, 172, 42, 180, 0, 19, 180, 1, 179, 153, 0, 7, 4, 167, 0, 4, 3, 172]
abbrev dktX1_count_2_3 : List UInt8 := dkwX1_count_2_3 ++ dktX1_count_2_4
def dkwX1_count_2_2 : List UInt8 := [42, 180, 0, 19, 180, 0, 175, 172, 42, 180, 0, 19, 180, 0, 134, 172, 42, 180, 0, 19, 180, 0, 137, 172]
abbrev dktX1_count_2_2 : List UInt8 := dkwX1_count_2_2 ++ dktX1_count_2_3
def dkwX1_count_2_1 : List UInt8 := [170, 0, 0, 0, 0, 0, 134, 0, 0, 0, 0, 0, 0, 0, 8, 0, 0, 0, 51, 0, 0, 0, 59, 0, 0, 0, 67, 0, 0, 0, 75, 0, 0, 0, 83, 0, 0, 0, 99, 0, 0, 0, 110, 0, 0, 0, 121, 0, 0, 0, 129]
abbrev dktX1_count_2_1 : List UInt8 := dkwX1_count_2_1 ++ dktX1_count_2_2
def dkwX1_count_2_0 : List UInt8 := [27]
abbrev dktX1_count_2_0 : List UInt8 := dkwX1_count_2_0 ++ dktX1_count_2_1
theorem dksX1_count_2_0 : cX1_count_2.data.toList.drop 0 = dktX1_count_2_0 := by decide +kernel
theorem dksX1_count_2_1 : cX1_count_2.data.toList.drop 1 = dktX1_count_2_1 := dk_seg dksX1_count_2_0 1 rfl rfl
theorem dksX1_count_2_2 : cX1_count_2.data.toList.drop 52 = dktX1_count_2_2 := dk_seg dksX1_count_2_1 51 rfl rfl
theorem dksX1_count_2_3 : cX1_count_2.data.toList.drop 76 = dktX1_count_2_3 := dk_seg dksX1_count_2_2 24 rfl rfl
theorem dksX1_count_2_4 : cX1_count_2.data.toList.drop 100 = dktX1_count_2_4 := dk_seg dksX1_count_2_3 24 rfl rfl
theorem dksX1_count_2_5 : cX1_count_2.data.toList.drop 123 = dktX1_count_2_5 := dk_seg dksX1_count_2_4 23 rfl rfl
theorem dX1_count_2_0 : decode cX1_count_2 0 = .ok (.iload_n 1, 1) := dk_27 (dk_at dksX1_count_2_0 0 rfl rfl)
theorem dX1_count_2_1 : decode cX1_count_2 1 = .ok (.tableswitch 134 0 8 #[51, 59, 67, 75, 83, 99, 110, 121, 129], 51) := by decide +kernel
theorem dX1_count_2_52 : decode cX1_count_2 52 = .ok (.aload_n 0, 1) := dk_42 (dk_at dksX1_count_2_2 0 rfl rfl)
theorem dX1_count_2_53 : decode cX1_count_2 53 = .ok (.getfield 19, 3) := dk_180 0 19 (dk_at dksX1_count_2_2 1 rfl rfl)
theorem dX1_count_2_56 : decode cX1_count_2 56 = .ok (.getfield 175, 3) := dk_180 0 175 (dk_at dksX1_count_2_2 4 rfl rfl)
theorem dX1_count_2_59 : decode cX1_count_2 59 = .ok (.ireturn, 1) := dk_172 (dk_at dksX1_count_2_2 7 rfl rfl)
theorem dX1_count_2_60 : decode cX1_count_2 60 = .ok (.aload_n 0, 1) := dk_42 (dk_at dksX1_count_2_2 8 rfl rfl)
theorem dX1_count_2_61 : decode cX1_count_2 61 = .ok (.getfield 19, 3) := dk_180 0 19 (dk_at dksX1_count_2_2 9 rfl rfl)
theorem dX1_count_2_64 : decode cX1_count_2 64 = .ok (.getfield 134, 3) := dk_180 0 134 (dk_at dksX1_count_2_2 12 rfl rfl)
theorem dX1_count_2_67 : decode cX1_count_2 67 = .ok (.ireturn, 1) := dk_172 (dk_at dksX1_count_2_2 15 rfl rfl)
theorem dX1_count_2_68 : decode cX1_count_2 68 = .ok (.aload_n 0, 1) := dk_42 (dk_at dksX1_count_2_2 16 rfl rfl)
theorem dX1_count_2_69 : decode cX1_count_2 69 = .ok (.getfield 19, 3) := dk_180 0 19 (dk_at dksX1_count_2_2 17 rfl rfl)
theorem dX1_count_2_72 : decode cX1_count_2 72 = .ok (.getfield 137, 3) := dk_180 0 137 (dk_at dksX1_count_2_2 20 rfl rfl)
theorem dX1_count_2_75 : decode cX1_count_2 75 = .ok (.ireturn, 1) := dk_172 (dk_at dksX1_count_2_2 23 rfl rfl)
theorem dX1_count_2_76 : decode cX1_count_2 76 = .ok (.aload_n 0, 1) := dk_42 (dk_at dksX1_count_2_3 0 rfl rfl)
theorem dX1_count_2_77 : decode cX1_count_2 77 = .ok (.getfield 19, 3) := dk_180 0 19 (dk_at dksX1_count_2_3 1 rfl rfl)
theorem dX1_count_2_80 : decode cX1_count_2 80 = .ok (.getfield 432, 3) := dk_180 1 176 (dk_at dksX1_count_2_3 4 rfl rfl)
theorem dX1_count_2_83 : decode cX1_count_2 83 = .ok (.ireturn, 1) := dk_172 (dk_at dksX1_count_2_3 7 rfl rfl)
theorem dX1_count_2_84 : decode cX1_count_2 84 = .ok (.aload_n 0, 1) := dk_42 (dk_at dksX1_count_2_3 8 rfl rfl)
theorem dX1_count_2_85 : decode cX1_count_2 85 = .ok (.getfield 19, 3) := dk_180 0 19 (dk_at dksX1_count_2_3 9 rfl rfl)
theorem dX1_count_2_88 : decode cX1_count_2 88 = .ok (.getfield 435, 3) := dk_180 1 179 (dk_at dksX1_count_2_3 12 rfl rfl)
theorem dX1_count_2_91 : decode cX1_count_2 91 = .ok (.ifCond .eq 7, 3) := dk_153 0 7 (dk_at dksX1_count_2_3 15 rfl rfl)
theorem dX1_count_2_94 : decode cX1_count_2 94 = .ok (.iconst 1, 1) := dk_4 (dk_at dksX1_count_2_3 18 rfl rfl)
theorem dX1_count_2_95 : decode cX1_count_2 95 = .ok (.goto 4, 3) := dk_167 0 4 (dk_at dksX1_count_2_3 19 rfl rfl)
theorem dX1_count_2_98 : decode cX1_count_2 98 = .ok (.iconst 0, 1) := dk_3 (dk_at dksX1_count_2_3 22 rfl rfl)
theorem dX1_count_2_99 : decode cX1_count_2 99 = .ok (.ireturn, 1) := dk_172 (dk_at dksX1_count_2_3 23 rfl rfl)
theorem dX1_count_2_100 : decode cX1_count_2 100 = .ok (.aload_n 0, 1) := dk_42 (dk_at dksX1_count_2_4 0 rfl rfl)
theorem dX1_count_2_101 : decode cX1_count_2 101 = .ok (.getfield 19, 3) := dk_180 0 19 (dk_at dksX1_count_2_4 1 rfl rfl)
theorem dX1_count_2_104 : decode cX1_count_2 104 = .ok (.getfield 196, 3) := dk_180 0 196 (dk_at dksX1_count_2_4 4 rfl rfl)
theorem dX1_count_2_107 : decode cX1_count_2 107 = .ok (.invokevirtual 200, 3) := dk_182 0 200 (dk_at dksX1_count_2_4 7 rfl rfl)
theorem dX1_count_2_110 : decode cX1_count_2 110 = .ok (.ireturn, 1) := dk_172 (dk_at dksX1_count_2_4 10 rfl rfl)
theorem dX1_count_2_111 : decode cX1_count_2 111 = .ok (.aload_n 0, 1) := dk_42 (dk_at dksX1_count_2_4 11 rfl rfl)
theorem dX1_count_2_112 : decode cX1_count_2 112 = .ok (.getfield 19, 3) := dk_180 0 19 (dk_at dksX1_count_2_4 12 rfl rfl)
theorem dX1_count_2_115 : decode cX1_count_2 115 = .ok (.getfield 206, 3) := dk_180 0 206 (dk_at dksX1_count_2_4 15 rfl rfl)
theorem dX1_count_2_118 : decode cX1_count_2 118 = .ok (.invokevirtual 200, 3) := dk_182 0 200 (dk_at dksX1_count_2_4 18 rfl rfl)
theorem dX1_count_2_121 : decode cX1_count_2 121 = .ok (.ireturn, 1) := dk_172 (dk_at dksX1_count_2_4 21 rfl rfl)
theorem dX1_count_2_122 : decode cX1_count_2 122 = .ok (.aload_n 0, 1) := dk_42 (dk_at dksX1_count_2_4 22 rfl rfl)
theorem dX1_count_2_123 : decode cX1_count_2 123 = .ok (.invokevirtual 186, 3) := dk_182 0 186 (dk_at dksX1_count_2_5 0 rfl rfl)
theorem dX1_count_2_126 : decode cX1_count_2 126 = .ok (.getfield 190, 3) := dk_180 0 190 (dk_at dksX1_count_2_5 3 rfl rfl)
theorem dX1_count_2_129 : decode cX1_count_2 129 = .ok (.ireturn, 1) := dk_172 (dk_at dksX1_count_2_5 6 rfl rfl)
theorem dX1_count_2_130 : decode cX1_count_2 130 = .ok (.aload_n 0, 1) := dk_42 (dk_at dksX1_count_2_5 7 rfl rfl)
theorem dX1_count_2_131 : decode cX1_count_2 131 = .ok (.getfield 124, 3) := dk_180 0 124 (dk_at dksX1_count_2_5 8 rfl rfl)
theorem dX1_count_2_134 : decode cX1_count_2 134 = .ok (.ireturn, 1) := dk_172 (dk_at dksX1_count_2_5 11 rfl rfl)
theorem dX1_count_2_135 : decode cX1_count_2 135 = .ok (.iconst (-1), 1) := dk_2 (dk_at dksX1_count_2_5 12 rfl rfl)
theorem dX1_count_2_136 : decode cX1_count_2 136 = .ok (.ireturn, 1) := dk_172 (dk_at dksX1_count_2_5 13 rfl rfl)
abbrev cX1_talk : ByteArray := prog_1_method_16_code
def yX1_talk : MethodName := ⟨RX1, "talk", "(I)I"⟩
def dkwX1_talk_4 : List UInt8 := [3, 181, 0, 124, 25, 4, 191]
abbrev dktX1_talk_4 : List UInt8 := dkwX1_talk_4 ++ []
def dkwX1_talk_3 : List UInt8 := [180, 0, 183, 181, 0, 43, 16, 246, 44, 180, 0, 180, 100, 62, 42, 3, 181, 0, 124, 29, 172, 58, 4, 42]
abbrev dktX1_talk_3 : List UInt8 := dkwX1_talk_3 ++ dktX1_talk_4
def dkwX1_talk_2 : List UInt8 := [180, 0, 175, 61, 42, 3, 181, 0, 124, 28, 172, 77, 42, 44, 180, 0, 180, 181, 0, 159, 42, 44]
abbrev dktX1_talk_2 : List UInt8 := dkwX1_talk_2 ++ dktX1_talk_3
def dkwX1_talk_1 : List UInt8 := [42, 187, 0, 162, 89, 42, 180, 0, 39, 27, 183, 0, 164, 182, 0, 167, 182, 0, 171, 42, 180, 0, 19]
abbrev dktX1_talk_1 : List UInt8 := dkwX1_talk_1 ++ dktX1_talk_2
def dkwX1_talk_0 : List UInt8 := [27, 133, 9, 42, 180, 0, 124, 133, 184, 0, 151, 184, 0, 155, 42, 3, 181, 0, 159, 42, 2, 181, 0, 43]
abbrev dktX1_talk_0 : List UInt8 := dkwX1_talk_0 ++ dktX1_talk_1
theorem dksX1_talk_0 : cX1_talk.data.toList.drop 0 = dktX1_talk_0 := by decide +kernel
theorem dksX1_talk_1 : cX1_talk.data.toList.drop 24 = dktX1_talk_1 := dk_seg dksX1_talk_0 24 rfl rfl
theorem dksX1_talk_2 : cX1_talk.data.toList.drop 47 = dktX1_talk_2 := dk_seg dksX1_talk_1 23 rfl rfl
theorem dksX1_talk_3 : cX1_talk.data.toList.drop 69 = dktX1_talk_3 := dk_seg dksX1_talk_2 22 rfl rfl
theorem dksX1_talk_4 : cX1_talk.data.toList.drop 93 = dktX1_talk_4 := dk_seg dksX1_talk_3 24 rfl rfl
theorem dX1_talk_0 : decode cX1_talk 0 = .ok (.iload_n 1, 1) := dk_27 (dk_at dksX1_talk_0 0 rfl rfl)
theorem dX1_talk_1 : decode cX1_talk 1 = .ok (.i2l, 1) := dk_133 (dk_at dksX1_talk_0 1 rfl rfl)
theorem dX1_talk_2 : decode cX1_talk 2 = .ok (.lconst 0, 1) := dk_9 (dk_at dksX1_talk_0 2 rfl rfl)
theorem dX1_talk_3 : decode cX1_talk 3 = .ok (.aload_n 0, 1) := dk_42 (dk_at dksX1_talk_0 3 rfl rfl)
theorem dX1_talk_4 : decode cX1_talk 4 = .ok (.getfield 124, 3) := dk_180 0 124 (dk_at dksX1_talk_0 4 rfl rfl)
theorem dX1_talk_7 : decode cX1_talk 7 = .ok (.i2l, 1) := dk_133 (dk_at dksX1_talk_0 7 rfl rfl)
theorem dX1_talk_8 : decode cX1_talk 8 = .ok (.invokestatic 151, 3) := dk_184 0 151 (dk_at dksX1_talk_0 8 rfl rfl)
theorem dX1_talk_11 : decode cX1_talk 11 = .ok (.invokestatic 155, 3) := dk_184 0 155 (dk_at dksX1_talk_0 11 rfl rfl)
theorem dX1_talk_14 : decode cX1_talk 14 = .ok (.aload_n 0, 1) := dk_42 (dk_at dksX1_talk_0 14 rfl rfl)
theorem dX1_talk_15 : decode cX1_talk 15 = .ok (.iconst 0, 1) := dk_3 (dk_at dksX1_talk_0 15 rfl rfl)
theorem dX1_talk_16 : decode cX1_talk 16 = .ok (.putfield 159, 3) := dk_181 0 159 (dk_at dksX1_talk_0 16 rfl rfl)
theorem dX1_talk_19 : decode cX1_talk 19 = .ok (.aload_n 0, 1) := dk_42 (dk_at dksX1_talk_0 19 rfl rfl)
theorem dX1_talk_20 : decode cX1_talk 20 = .ok (.iconst (-1), 1) := dk_2 (dk_at dksX1_talk_0 20 rfl rfl)
theorem dX1_talk_21 : decode cX1_talk 21 = .ok (.putfield 43, 3) := dk_181 0 43 (dk_at dksX1_talk_0 21 rfl rfl)
theorem dX1_talk_24 : decode cX1_talk 24 = .ok (.aload_n 0, 1) := dk_42 (dk_at dksX1_talk_1 0 rfl rfl)
theorem dX1_talk_25 : decode cX1_talk 25 = .ok (.new 162, 3) := dk_187 0 162 (dk_at dksX1_talk_1 1 rfl rfl)
theorem dX1_talk_28 : decode cX1_talk 28 = .ok (.dup, 1) := dk_89 (dk_at dksX1_talk_1 4 rfl rfl)
theorem dX1_talk_29 : decode cX1_talk 29 = .ok (.aload_n 0, 1) := dk_42 (dk_at dksX1_talk_1 5 rfl rfl)
theorem dX1_talk_30 : decode cX1_talk 30 = .ok (.getfield 39, 3) := dk_180 0 39 (dk_at dksX1_talk_1 6 rfl rfl)
theorem dX1_talk_33 : decode cX1_talk 33 = .ok (.iload_n 1, 1) := dk_27 (dk_at dksX1_talk_1 9 rfl rfl)
theorem dX1_talk_34 : decode cX1_talk 34 = .ok (.invokespecial 164, 3) := dk_183 0 164 (dk_at dksX1_talk_1 10 rfl rfl)
theorem dX1_talk_37 : decode cX1_talk 37 = .ok (.invokevirtual 167, 3) := dk_182 0 167 (dk_at dksX1_talk_1 13 rfl rfl)
theorem dX1_talk_40 : decode cX1_talk 40 = .ok (.invokevirtual 171, 3) := dk_182 0 171 (dk_at dksX1_talk_1 16 rfl rfl)
theorem dX1_talk_43 : decode cX1_talk 43 = .ok (.aload_n 0, 1) := dk_42 (dk_at dksX1_talk_1 19 rfl rfl)
theorem dX1_talk_44 : decode cX1_talk 44 = .ok (.getfield 19, 3) := dk_180 0 19 (dk_at dksX1_talk_1 20 rfl rfl)
theorem dX1_talk_47 : decode cX1_talk 47 = .ok (.getfield 175, 3) := dk_180 0 175 (dk_at dksX1_talk_2 0 rfl rfl)
theorem dX1_talk_50 : decode cX1_talk 50 = .ok (.istore_n 2, 1) := dk_61 (dk_at dksX1_talk_2 3 rfl rfl)
theorem dX1_talk_51 : decode cX1_talk 51 = .ok (.aload_n 0, 1) := dk_42 (dk_at dksX1_talk_2 4 rfl rfl)
theorem dX1_talk_52 : decode cX1_talk 52 = .ok (.iconst 0, 1) := dk_3 (dk_at dksX1_talk_2 5 rfl rfl)
theorem dX1_talk_53 : decode cX1_talk 53 = .ok (.putfield 124, 3) := dk_181 0 124 (dk_at dksX1_talk_2 6 rfl rfl)
theorem dX1_talk_56 : decode cX1_talk 56 = .ok (.iload_n 2, 1) := dk_28 (dk_at dksX1_talk_2 9 rfl rfl)
theorem dX1_talk_57 : decode cX1_talk 57 = .ok (.ireturn, 1) := dk_172 (dk_at dksX1_talk_2 10 rfl rfl)
theorem dX1_talk_58 : decode cX1_talk 58 = .ok (.astore_n 2, 1) := dk_77 (dk_at dksX1_talk_2 11 rfl rfl)
theorem dX1_talk_59 : decode cX1_talk 59 = .ok (.aload_n 0, 1) := dk_42 (dk_at dksX1_talk_2 12 rfl rfl)
theorem dX1_talk_60 : decode cX1_talk 60 = .ok (.aload_n 2, 1) := dk_44 (dk_at dksX1_talk_2 13 rfl rfl)
theorem dX1_talk_61 : decode cX1_talk 61 = .ok (.getfield 180, 3) := dk_180 0 180 (dk_at dksX1_talk_2 14 rfl rfl)
theorem dX1_talk_64 : decode cX1_talk 64 = .ok (.putfield 159, 3) := dk_181 0 159 (dk_at dksX1_talk_2 17 rfl rfl)
theorem dX1_talk_67 : decode cX1_talk 67 = .ok (.aload_n 0, 1) := dk_42 (dk_at dksX1_talk_2 20 rfl rfl)
theorem dX1_talk_68 : decode cX1_talk 68 = .ok (.aload_n 2, 1) := dk_44 (dk_at dksX1_talk_2 21 rfl rfl)
theorem dX1_talk_69 : decode cX1_talk 69 = .ok (.getfield 183, 3) := dk_180 0 183 (dk_at dksX1_talk_3 0 rfl rfl)
theorem dX1_talk_72 : decode cX1_talk 72 = .ok (.putfield 43, 3) := dk_181 0 43 (dk_at dksX1_talk_3 3 rfl rfl)
theorem dX1_talk_75 : decode cX1_talk 75 = .ok (.bipush (-10), 2) := dk_16 246 (dk_at dksX1_talk_3 6 rfl rfl)
theorem dX1_talk_77 : decode cX1_talk 77 = .ok (.aload_n 2, 1) := dk_44 (dk_at dksX1_talk_3 8 rfl rfl)
theorem dX1_talk_78 : decode cX1_talk 78 = .ok (.getfield 180, 3) := dk_180 0 180 (dk_at dksX1_talk_3 9 rfl rfl)
theorem dX1_talk_81 : decode cX1_talk 81 = .ok (.isub, 1) := dk_100 (dk_at dksX1_talk_3 12 rfl rfl)
theorem dX1_talk_82 : decode cX1_talk 82 = .ok (.istore_n 3, 1) := dk_62 (dk_at dksX1_talk_3 13 rfl rfl)
theorem dX1_talk_83 : decode cX1_talk 83 = .ok (.aload_n 0, 1) := dk_42 (dk_at dksX1_talk_3 14 rfl rfl)
theorem dX1_talk_84 : decode cX1_talk 84 = .ok (.iconst 0, 1) := dk_3 (dk_at dksX1_talk_3 15 rfl rfl)
theorem dX1_talk_85 : decode cX1_talk 85 = .ok (.putfield 124, 3) := dk_181 0 124 (dk_at dksX1_talk_3 16 rfl rfl)
theorem dX1_talk_88 : decode cX1_talk 88 = .ok (.iload_n 3, 1) := dk_29 (dk_at dksX1_talk_3 19 rfl rfl)
theorem dX1_talk_89 : decode cX1_talk 89 = .ok (.ireturn, 1) := dk_172 (dk_at dksX1_talk_3 20 rfl rfl)
theorem dX1_talk_90 : decode cX1_talk 90 = .ok (.astore 4, 2) := dk_58 4 (dk_at dksX1_talk_3 21 rfl rfl)
theorem dX1_talk_92 : decode cX1_talk 92 = .ok (.aload_n 0, 1) := dk_42 (dk_at dksX1_talk_3 23 rfl rfl)
theorem dX1_talk_93 : decode cX1_talk 93 = .ok (.iconst 0, 1) := dk_3 (dk_at dksX1_talk_4 0 rfl rfl)
theorem dX1_talk_94 : decode cX1_talk 94 = .ok (.putfield 124, 3) := dk_181 0 124 (dk_at dksX1_talk_4 1 rfl rfl)
theorem dX1_talk_97 : decode cX1_talk 97 = .ok (.aload 4, 2) := dk_25 4 (dk_at dksX1_talk_4 4 rfl rfl)
theorem dX1_talk_99 : decode cX1_talk 99 = .ok (.athrow, 1) := dk_191 (dk_at dksX1_talk_4 6 rfl rfl)
abbrev cX1_isIn : ByteArray := prog_1_method_1_code
def yX1_isIn : MethodName := ⟨RX1, "isIn", "(JJJ)Z"⟩
def dkwX1_isIn_0 : List UInt8 := [30, 32, 148, 155, 0, 14, 30, 22, 4, 148, 157, 0, 7, 4, 167, 0, 4, 3, 172]
abbrev dktX1_isIn_0 : List UInt8 := dkwX1_isIn_0 ++ []
theorem dksX1_isIn_0 : cX1_isIn.data.toList.drop 0 = dktX1_isIn_0 := by decide +kernel
theorem dX1_isIn_0 : decode cX1_isIn 0 = .ok (.lload_n 0, 1) := dk_30 (dk_at dksX1_isIn_0 0 rfl rfl)
theorem dX1_isIn_1 : decode cX1_isIn 1 = .ok (.lload_n 2, 1) := dk_32 (dk_at dksX1_isIn_0 1 rfl rfl)
theorem dX1_isIn_2 : decode cX1_isIn 2 = .ok (.lcmp, 1) := dk_148 (dk_at dksX1_isIn_0 2 rfl rfl)
theorem dX1_isIn_3 : decode cX1_isIn 3 = .ok (.ifCond .lt 14, 3) := dk_155 0 14 (dk_at dksX1_isIn_0 3 rfl rfl)
theorem dX1_isIn_6 : decode cX1_isIn 6 = .ok (.lload_n 0, 1) := dk_30 (dk_at dksX1_isIn_0 6 rfl rfl)
theorem dX1_isIn_7 : decode cX1_isIn 7 = .ok (.lload 4, 2) := dk_22 4 (dk_at dksX1_isIn_0 7 rfl rfl)
theorem dX1_isIn_9 : decode cX1_isIn 9 = .ok (.lcmp, 1) := dk_148 (dk_at dksX1_isIn_0 9 rfl rfl)
theorem dX1_isIn_10 : decode cX1_isIn 10 = .ok (.ifCond .gt 7, 3) := dk_157 0 7 (dk_at dksX1_isIn_0 10 rfl rfl)
theorem dX1_isIn_13 : decode cX1_isIn 13 = .ok (.iconst 1, 1) := dk_4 (dk_at dksX1_isIn_0 13 rfl rfl)
theorem dX1_isIn_14 : decode cX1_isIn 14 = .ok (.goto 4, 3) := dk_167 0 4 (dk_at dksX1_isIn_0 14 rfl rfl)
theorem dX1_isIn_17 : decode cX1_isIn 17 = .ok (.iconst 0, 1) := dk_3 (dk_at dksX1_isIn_0 17 rfl rfl)
theorem dX1_isIn_18 : decode cX1_isIn 18 = .ok (.ireturn, 1) := dk_172 (dk_at dksX1_isIn_0 18 rfl rfl)
abbrev cX1_right : ByteArray := prog_1_method_2_code
def yX1_right : MethodName := ⟨RX1, "right", "(Z)V"⟩
def dkwX1_right_0 : List UInt8 := [26, 154, 0, 11, 187, 0, 1, 89, 183, 0, 3, 191, 177]
abbrev dktX1_right_0 : List UInt8 := dkwX1_right_0 ++ []
theorem dksX1_right_0 : cX1_right.data.toList.drop 0 = dktX1_right_0 := by decide +kernel
theorem dX1_right_0 : decode cX1_right 0 = .ok (.iload_n 0, 1) := dk_26 (dk_at dksX1_right_0 0 rfl rfl)
theorem dX1_right_1 : decode cX1_right 1 = .ok (.ifCond .ne 11, 3) := dk_154 0 11 (dk_at dksX1_right_0 1 rfl rfl)
theorem dX1_right_4 : decode cX1_right 4 = .ok (.new 1, 3) := dk_187 0 1 (dk_at dksX1_right_0 4 rfl rfl)
theorem dX1_right_7 : decode cX1_right 7 = .ok (.dup, 1) := dk_89 (dk_at dksX1_right_0 7 rfl rfl)
theorem dX1_right_8 : decode cX1_right 8 = .ok (.invokespecial 3, 3) := dk_183 0 3 (dk_at dksX1_right_0 8 rfl rfl)
theorem dX1_right_11 : decode cX1_right 11 = .ok (.athrow, 1) := dk_191 (dk_at dksX1_right_0 11 rfl rfl)
theorem dX1_right_12 : decode cX1_right 12 = .ok (.return_, 1) := dk_177 (dk_at dksX1_right_0 12 rfl rfl)
abbrev cX1_sight : ByteArray := prog_1_method_10_code
def yX1_sight : MethodName := ⟨RX1, "sight", "(I)LTwoSlips$Sight;"⟩
def dkwX1_sight_5 : List UInt8 := [183, 0, 121, 176]
abbrev dktX1_sight_5 : List UInt8 := dkwX1_sight_5 ++ []
def dkwX1_sight_4 : List UInt8 := [187, 0, 119, 89, 5, 183, 0, 121, 176, 187, 0, 119, 89, 16, 10, 183, 0, 121, 176, 187, 0, 119, 89, 4]
abbrev dktX1_sight_4 : List UInt8 := dkwX1_sight_4 ++ dktX1_sight_5
def dkwX1_sight_3 : List UInt8 := [187, 0, 110, 89, 183, 0, 112, 176, 187, 0, 113, 89, 183, 0, 115, 176, 187, 0, 116, 89, 183, 0, 118, 176]
abbrev dktX1_sight_3 : List UInt8 := dkwX1_sight_3 ++ dktX1_sight_4
def dkwX1_sight_2 : List UInt8 := [187, 0, 101, 89, 183, 0, 103, 176, 187, 0, 104, 89, 183, 0, 106, 176, 187, 0, 107, 89, 183, 0, 109, 176]
abbrev dktX1_sight_2 : List UInt8 := dkwX1_sight_2 ++ dktX1_sight_3
def dkwX1_sight_1 : List UInt8 := [170, 0, 0, 0, 0, 0, 114, 0, 0, 0, 0, 0, 0, 0, 7, 0, 0, 0, 47, 0, 0, 0, 55, 0, 0, 0, 63, 0, 0, 0, 71, 0, 0, 0, 79, 0, 0, 0, 87, 0, 0, 0, 95, 0, 0, 0, 104]
abbrev dktX1_sight_1 : List UInt8 := dkwX1_sight_1 ++ dktX1_sight_2
def dkwX1_sight_0 : List UInt8 := [26]
abbrev dktX1_sight_0 : List UInt8 := dkwX1_sight_0 ++ dktX1_sight_1
theorem dksX1_sight_0 : cX1_sight.data.toList.drop 0 = dktX1_sight_0 := by decide +kernel
theorem dksX1_sight_1 : cX1_sight.data.toList.drop 1 = dktX1_sight_1 := dk_seg dksX1_sight_0 1 rfl rfl
theorem dksX1_sight_2 : cX1_sight.data.toList.drop 48 = dktX1_sight_2 := dk_seg dksX1_sight_1 47 rfl rfl
theorem dksX1_sight_3 : cX1_sight.data.toList.drop 72 = dktX1_sight_3 := dk_seg dksX1_sight_2 24 rfl rfl
theorem dksX1_sight_4 : cX1_sight.data.toList.drop 96 = dktX1_sight_4 := dk_seg dksX1_sight_3 24 rfl rfl
theorem dksX1_sight_5 : cX1_sight.data.toList.drop 120 = dktX1_sight_5 := dk_seg dksX1_sight_4 24 rfl rfl
theorem dX1_sight_0 : decode cX1_sight 0 = .ok (.iload_n 0, 1) := dk_26 (dk_at dksX1_sight_0 0 rfl rfl)
theorem dX1_sight_1 : decode cX1_sight 1 = .ok (.tableswitch 114 0 7 #[47, 55, 63, 71, 79, 87, 95, 104], 47) := by decide +kernel
theorem dX1_sight_48 : decode cX1_sight 48 = .ok (.new 101, 3) := dk_187 0 101 (dk_at dksX1_sight_2 0 rfl rfl)
theorem dX1_sight_51 : decode cX1_sight 51 = .ok (.dup, 1) := dk_89 (dk_at dksX1_sight_2 3 rfl rfl)
theorem dX1_sight_52 : decode cX1_sight 52 = .ok (.invokespecial 103, 3) := dk_183 0 103 (dk_at dksX1_sight_2 4 rfl rfl)
theorem dX1_sight_55 : decode cX1_sight 55 = .ok (.areturn, 1) := dk_176 (dk_at dksX1_sight_2 7 rfl rfl)
theorem dX1_sight_56 : decode cX1_sight 56 = .ok (.new 104, 3) := dk_187 0 104 (dk_at dksX1_sight_2 8 rfl rfl)
theorem dX1_sight_59 : decode cX1_sight 59 = .ok (.dup, 1) := dk_89 (dk_at dksX1_sight_2 11 rfl rfl)
theorem dX1_sight_60 : decode cX1_sight 60 = .ok (.invokespecial 106, 3) := dk_183 0 106 (dk_at dksX1_sight_2 12 rfl rfl)
theorem dX1_sight_63 : decode cX1_sight 63 = .ok (.areturn, 1) := dk_176 (dk_at dksX1_sight_2 15 rfl rfl)
theorem dX1_sight_64 : decode cX1_sight 64 = .ok (.new 107, 3) := dk_187 0 107 (dk_at dksX1_sight_2 16 rfl rfl)
theorem dX1_sight_67 : decode cX1_sight 67 = .ok (.dup, 1) := dk_89 (dk_at dksX1_sight_2 19 rfl rfl)
theorem dX1_sight_68 : decode cX1_sight 68 = .ok (.invokespecial 109, 3) := dk_183 0 109 (dk_at dksX1_sight_2 20 rfl rfl)
theorem dX1_sight_71 : decode cX1_sight 71 = .ok (.areturn, 1) := dk_176 (dk_at dksX1_sight_2 23 rfl rfl)
theorem dX1_sight_72 : decode cX1_sight 72 = .ok (.new 110, 3) := dk_187 0 110 (dk_at dksX1_sight_3 0 rfl rfl)
theorem dX1_sight_75 : decode cX1_sight 75 = .ok (.dup, 1) := dk_89 (dk_at dksX1_sight_3 3 rfl rfl)
theorem dX1_sight_76 : decode cX1_sight 76 = .ok (.invokespecial 112, 3) := dk_183 0 112 (dk_at dksX1_sight_3 4 rfl rfl)
theorem dX1_sight_79 : decode cX1_sight 79 = .ok (.areturn, 1) := dk_176 (dk_at dksX1_sight_3 7 rfl rfl)
theorem dX1_sight_80 : decode cX1_sight 80 = .ok (.new 113, 3) := dk_187 0 113 (dk_at dksX1_sight_3 8 rfl rfl)
theorem dX1_sight_83 : decode cX1_sight 83 = .ok (.dup, 1) := dk_89 (dk_at dksX1_sight_3 11 rfl rfl)
theorem dX1_sight_84 : decode cX1_sight 84 = .ok (.invokespecial 115, 3) := dk_183 0 115 (dk_at dksX1_sight_3 12 rfl rfl)
theorem dX1_sight_87 : decode cX1_sight 87 = .ok (.areturn, 1) := dk_176 (dk_at dksX1_sight_3 15 rfl rfl)
theorem dX1_sight_88 : decode cX1_sight 88 = .ok (.new 116, 3) := dk_187 0 116 (dk_at dksX1_sight_3 16 rfl rfl)
theorem dX1_sight_91 : decode cX1_sight 91 = .ok (.dup, 1) := dk_89 (dk_at dksX1_sight_3 19 rfl rfl)
theorem dX1_sight_92 : decode cX1_sight 92 = .ok (.invokespecial 118, 3) := dk_183 0 118 (dk_at dksX1_sight_3 20 rfl rfl)
theorem dX1_sight_95 : decode cX1_sight 95 = .ok (.areturn, 1) := dk_176 (dk_at dksX1_sight_3 23 rfl rfl)
theorem dX1_sight_96 : decode cX1_sight 96 = .ok (.new 119, 3) := dk_187 0 119 (dk_at dksX1_sight_4 0 rfl rfl)
theorem dX1_sight_99 : decode cX1_sight 99 = .ok (.dup, 1) := dk_89 (dk_at dksX1_sight_4 3 rfl rfl)
theorem dX1_sight_100 : decode cX1_sight 100 = .ok (.iconst 2, 1) := dk_5 (dk_at dksX1_sight_4 4 rfl rfl)
theorem dX1_sight_101 : decode cX1_sight 101 = .ok (.invokespecial 121, 3) := dk_183 0 121 (dk_at dksX1_sight_4 5 rfl rfl)
theorem dX1_sight_104 : decode cX1_sight 104 = .ok (.areturn, 1) := dk_176 (dk_at dksX1_sight_4 8 rfl rfl)
theorem dX1_sight_105 : decode cX1_sight 105 = .ok (.new 119, 3) := dk_187 0 119 (dk_at dksX1_sight_4 9 rfl rfl)
theorem dX1_sight_108 : decode cX1_sight 108 = .ok (.dup, 1) := dk_89 (dk_at dksX1_sight_4 12 rfl rfl)
theorem dX1_sight_109 : decode cX1_sight 109 = .ok (.bipush 10, 2) := dk_16 10 (dk_at dksX1_sight_4 13 rfl rfl)
theorem dX1_sight_111 : decode cX1_sight 111 = .ok (.invokespecial 121, 3) := dk_183 0 121 (dk_at dksX1_sight_4 15 rfl rfl)
theorem dX1_sight_114 : decode cX1_sight 114 = .ok (.areturn, 1) := dk_176 (dk_at dksX1_sight_4 18 rfl rfl)
theorem dX1_sight_115 : decode cX1_sight 115 = .ok (.new 119, 3) := dk_187 0 119 (dk_at dksX1_sight_4 19 rfl rfl)
theorem dX1_sight_118 : decode cX1_sight 118 = .ok (.dup, 1) := dk_89 (dk_at dksX1_sight_4 22 rfl rfl)
theorem dX1_sight_119 : decode cX1_sight 119 = .ok (.iconst 1, 1) := dk_4 (dk_at dksX1_sight_4 23 rfl rfl)
theorem dX1_sight_120 : decode cX1_sight 120 = .ok (.invokespecial 121, 3) := dk_183 0 121 (dk_at dksX1_sight_5 0 rfl rfl)
theorem dX1_sight_123 : decode cX1_sight 123 = .ok (.areturn, 1) := dk_176 (dk_at dksX1_sight_5 3 rfl rfl)
abbrev cX1_begins : ByteArray := prog_1_method_13_code
def yX1_begins : MethodName := ⟨RX1, "begins", "(LTwoSlips$Talk;)V"⟩
def dkwX1_begins_0 : List UInt8 := [42, 43, 181, 0, 19, 42, 3, 181, 0, 130, 177]
abbrev dktX1_begins_0 : List UInt8 := dkwX1_begins_0 ++ []
theorem dksX1_begins_0 : cX1_begins.data.toList.drop 0 = dktX1_begins_0 := by decide +kernel
theorem dX1_begins_0 : decode cX1_begins 0 = .ok (.aload_n 0, 1) := dk_42 (dk_at dksX1_begins_0 0 rfl rfl)
theorem dX1_begins_1 : decode cX1_begins 1 = .ok (.aload_n 1, 1) := dk_43 (dk_at dksX1_begins_0 1 rfl rfl)
theorem dX1_begins_2 : decode cX1_begins 2 = .ok (.putfield 19, 3) := dk_181 0 19 (dk_at dksX1_begins_0 2 rfl rfl)
theorem dX1_begins_5 : decode cX1_begins 5 = .ok (.aload_n 0, 1) := dk_42 (dk_at dksX1_begins_0 5 rfl rfl)
theorem dX1_begins_6 : decode cX1_begins 6 = .ok (.iconst 0, 1) := dk_3 (dk_at dksX1_begins_0 6 rfl rfl)
theorem dX1_begins_7 : decode cX1_begins 7 = .ok (.putfield 130, 3) := dk_181 0 130 (dk_at dksX1_begins_0 7 rfl rfl)
theorem dX1_begins_10 : decode cX1_begins 10 = .ok (.return_, 1) := dk_177 (dk_at dksX1_begins_0 10 rfl rfl)
abbrev cX1_world : ByteArray := prog_1_method_22_code
def yX1_world : MethodName := ⟨RX1, "world", "(II)I"⟩
def dkwX1_world_2 : List UInt8 := [172]
abbrev dktX1_world_2 : List UInt8 := dkwX1_world_2 ++ []
def dkwX1_world_1 : List UInt8 := [154, 0, 15, 42, 180, 0, 28, 180, 0, 218, 27, 46, 167, 0, 12, 42, 180, 0, 28, 180, 0, 222, 27, 46]
abbrev dktX1_world_1 : List UInt8 := dkwX1_world_1 ++ dktX1_world_2
def dkwX1_world_0 : List UInt8 := [42, 27, 182, 0, 215, 28, 153, 0, 8, 28, 4, 160, 0, 7, 4, 167, 0, 4, 3, 184, 0, 155, 28]
abbrev dktX1_world_0 : List UInt8 := dkwX1_world_0 ++ dktX1_world_1
theorem dksX1_world_0 : cX1_world.data.toList.drop 0 = dktX1_world_0 := by decide +kernel
theorem dksX1_world_1 : cX1_world.data.toList.drop 23 = dktX1_world_1 := dk_seg dksX1_world_0 23 rfl rfl
theorem dksX1_world_2 : cX1_world.data.toList.drop 47 = dktX1_world_2 := dk_seg dksX1_world_1 24 rfl rfl
theorem dX1_world_0 : decode cX1_world 0 = .ok (.aload_n 0, 1) := dk_42 (dk_at dksX1_world_0 0 rfl rfl)
theorem dX1_world_1 : decode cX1_world 1 = .ok (.iload_n 1, 1) := dk_27 (dk_at dksX1_world_0 1 rfl rfl)
theorem dX1_world_2 : decode cX1_world 2 = .ok (.invokevirtual 215, 3) := dk_182 0 215 (dk_at dksX1_world_0 2 rfl rfl)
theorem dX1_world_5 : decode cX1_world 5 = .ok (.iload_n 2, 1) := dk_28 (dk_at dksX1_world_0 5 rfl rfl)
theorem dX1_world_6 : decode cX1_world 6 = .ok (.ifCond .eq 8, 3) := dk_153 0 8 (dk_at dksX1_world_0 6 rfl rfl)
theorem dX1_world_9 : decode cX1_world 9 = .ok (.iload_n 2, 1) := dk_28 (dk_at dksX1_world_0 9 rfl rfl)
theorem dX1_world_10 : decode cX1_world 10 = .ok (.iconst 1, 1) := dk_4 (dk_at dksX1_world_0 10 rfl rfl)
theorem dX1_world_11 : decode cX1_world 11 = .ok (.if_icmp .ne 7, 3) := dk_160 0 7 (dk_at dksX1_world_0 11 rfl rfl)
theorem dX1_world_14 : decode cX1_world 14 = .ok (.iconst 1, 1) := dk_4 (dk_at dksX1_world_0 14 rfl rfl)
theorem dX1_world_15 : decode cX1_world 15 = .ok (.goto 4, 3) := dk_167 0 4 (dk_at dksX1_world_0 15 rfl rfl)
theorem dX1_world_18 : decode cX1_world 18 = .ok (.iconst 0, 1) := dk_3 (dk_at dksX1_world_0 18 rfl rfl)
theorem dX1_world_19 : decode cX1_world 19 = .ok (.invokestatic 155, 3) := dk_184 0 155 (dk_at dksX1_world_0 19 rfl rfl)
theorem dX1_world_22 : decode cX1_world 22 = .ok (.iload_n 2, 1) := dk_28 (dk_at dksX1_world_0 22 rfl rfl)
theorem dX1_world_23 : decode cX1_world 23 = .ok (.ifCond .ne 15, 3) := dk_154 0 15 (dk_at dksX1_world_1 0 rfl rfl)
theorem dX1_world_26 : decode cX1_world 26 = .ok (.aload_n 0, 1) := dk_42 (dk_at dksX1_world_1 3 rfl rfl)
theorem dX1_world_27 : decode cX1_world 27 = .ok (.getfield 28, 3) := dk_180 0 28 (dk_at dksX1_world_1 4 rfl rfl)
theorem dX1_world_30 : decode cX1_world 30 = .ok (.getfield 218, 3) := dk_180 0 218 (dk_at dksX1_world_1 7 rfl rfl)
theorem dX1_world_33 : decode cX1_world 33 = .ok (.iload_n 1, 1) := dk_27 (dk_at dksX1_world_1 10 rfl rfl)
theorem dX1_world_34 : decode cX1_world 34 = .ok (.iaload, 1) := dk_46 (dk_at dksX1_world_1 11 rfl rfl)
theorem dX1_world_35 : decode cX1_world 35 = .ok (.goto 12, 3) := dk_167 0 12 (dk_at dksX1_world_1 12 rfl rfl)
theorem dX1_world_38 : decode cX1_world 38 = .ok (.aload_n 0, 1) := dk_42 (dk_at dksX1_world_1 15 rfl rfl)
theorem dX1_world_39 : decode cX1_world 39 = .ok (.getfield 28, 3) := dk_180 0 28 (dk_at dksX1_world_1 16 rfl rfl)
theorem dX1_world_42 : decode cX1_world 42 = .ok (.getfield 222, 3) := dk_180 0 222 (dk_at dksX1_world_1 19 rfl rfl)
theorem dX1_world_45 : decode cX1_world 45 = .ok (.iload_n 1, 1) := dk_27 (dk_at dksX1_world_1 22 rfl rfl)
theorem dX1_world_46 : decode cX1_world 46 = .ok (.iaload, 1) := dk_46 (dk_at dksX1_world_1 23 rfl rfl)
theorem dX1_world_47 : decode cX1_world 47 = .ok (.ireturn, 1) := dk_172 (dk_at dksX1_world_2 0 rfl rfl)
abbrev cX1_mustWorld : ByteArray := prog_1_method_18_code
def yX1_mustWorld : MethodName := ⟨RX1, "mustWorld", "(I)V"⟩
def dkwX1_mustWorld_0 : List UInt8 := [27, 133, 9, 42, 182, 0, 186, 180, 0, 190, 4, 100, 133, 184, 0, 151, 184, 0, 193, 177]
abbrev dktX1_mustWorld_0 : List UInt8 := dkwX1_mustWorld_0 ++ []
theorem dksX1_mustWorld_0 : cX1_mustWorld.data.toList.drop 0 = dktX1_mustWorld_0 := by decide +kernel
theorem dX1_mustWorld_0 : decode cX1_mustWorld 0 = .ok (.iload_n 1, 1) := dk_27 (dk_at dksX1_mustWorld_0 0 rfl rfl)
theorem dX1_mustWorld_1 : decode cX1_mustWorld 1 = .ok (.i2l, 1) := dk_133 (dk_at dksX1_mustWorld_0 1 rfl rfl)
theorem dX1_mustWorld_2 : decode cX1_mustWorld 2 = .ok (.lconst 0, 1) := dk_9 (dk_at dksX1_mustWorld_0 2 rfl rfl)
theorem dX1_mustWorld_3 : decode cX1_mustWorld 3 = .ok (.aload_n 0, 1) := dk_42 (dk_at dksX1_mustWorld_0 3 rfl rfl)
theorem dX1_mustWorld_4 : decode cX1_mustWorld 4 = .ok (.invokevirtual 186, 3) := dk_182 0 186 (dk_at dksX1_mustWorld_0 4 rfl rfl)
theorem dX1_mustWorld_7 : decode cX1_mustWorld 7 = .ok (.getfield 190, 3) := dk_180 0 190 (dk_at dksX1_mustWorld_0 7 rfl rfl)
theorem dX1_mustWorld_10 : decode cX1_mustWorld 10 = .ok (.iconst 1, 1) := dk_4 (dk_at dksX1_mustWorld_0 10 rfl rfl)
theorem dX1_mustWorld_11 : decode cX1_mustWorld 11 = .ok (.isub, 1) := dk_100 (dk_at dksX1_mustWorld_0 11 rfl rfl)
theorem dX1_mustWorld_12 : decode cX1_mustWorld 12 = .ok (.i2l, 1) := dk_133 (dk_at dksX1_mustWorld_0 12 rfl rfl)
theorem dX1_mustWorld_13 : decode cX1_mustWorld 13 = .ok (.invokestatic 151, 3) := dk_184 0 151 (dk_at dksX1_mustWorld_0 13 rfl rfl)
theorem dX1_mustWorld_16 : decode cX1_mustWorld 16 = .ok (.invokestatic 193, 3) := dk_184 0 193 (dk_at dksX1_mustWorld_0 16 rfl rfl)
theorem dX1_mustWorld_19 : decode cX1_mustWorld 19 = .ok (.return_, 1) := dk_177 (dk_at dksX1_mustWorld_0 19 rfl rfl)
abbrev cX1_there : ByteArray := prog_1_method_4_code
def yX1_there : MethodName := ⟨RX1, "there", "(Z)V"⟩
def dkwX1_there_0 : List UInt8 := [26, 154, 0, 11, 187, 0, 10, 89, 183, 0, 12, 191, 177]
abbrev dktX1_there_0 : List UInt8 := dkwX1_there_0 ++ []
theorem dksX1_there_0 : cX1_there.data.toList.drop 0 = dktX1_there_0 := by decide +kernel
theorem dX1_there_0 : decode cX1_there 0 = .ok (.iload_n 0, 1) := dk_26 (dk_at dksX1_there_0 0 rfl rfl)
theorem dX1_there_1 : decode cX1_there 1 = .ok (.ifCond .ne 11, 3) := dk_154 0 11 (dk_at dksX1_there_0 1 rfl rfl)
theorem dX1_there_4 : decode cX1_there 4 = .ok (.new 10, 3) := dk_187 0 10 (dk_at dksX1_there_0 4 rfl rfl)
theorem dX1_there_7 : decode cX1_there 7 = .ok (.dup, 1) := dk_89 (dk_at dksX1_there_0 7 rfl rfl)
theorem dX1_there_8 : decode cX1_there 8 = .ok (.invokespecial 12, 3) := dk_183 0 12 (dk_at dksX1_there_0 8 rfl rfl)
theorem dX1_there_11 : decode cX1_there 11 = .ok (.athrow, 1) := dk_191 (dk_at dksX1_there_0 11 rfl rfl)
theorem dX1_there_12 : decode cX1_there 12 = .ok (.return_, 1) := dk_177 (dk_at dksX1_there_0 12 rfl rfl)
abbrev cX1_told : ByteArray := prog_1_method_24_code
def yX1_told : MethodName := ⟨RX1, "told", "(II)I"⟩
def dkwX1_told_0 : List UInt8 := [42, 27, 182, 0, 234, 42, 28, 182, 0, 215, 42, 180, 0, 28, 180, 0, 237, 27, 50, 28, 46, 172]
abbrev dktX1_told_0 : List UInt8 := dkwX1_told_0 ++ []
theorem dksX1_told_0 : cX1_told.data.toList.drop 0 = dktX1_told_0 := by decide +kernel
theorem dX1_told_0 : decode cX1_told 0 = .ok (.aload_n 0, 1) := dk_42 (dk_at dksX1_told_0 0 rfl rfl)
theorem dX1_told_1 : decode cX1_told 1 = .ok (.iload_n 1, 1) := dk_27 (dk_at dksX1_told_0 1 rfl rfl)
theorem dX1_told_2 : decode cX1_told 2 = .ok (.invokevirtual 234, 3) := dk_182 0 234 (dk_at dksX1_told_0 2 rfl rfl)
theorem dX1_told_5 : decode cX1_told 5 = .ok (.aload_n 0, 1) := dk_42 (dk_at dksX1_told_0 5 rfl rfl)
theorem dX1_told_6 : decode cX1_told 6 = .ok (.iload_n 2, 1) := dk_28 (dk_at dksX1_told_0 6 rfl rfl)
theorem dX1_told_7 : decode cX1_told 7 = .ok (.invokevirtual 215, 3) := dk_182 0 215 (dk_at dksX1_told_0 7 rfl rfl)
theorem dX1_told_10 : decode cX1_told 10 = .ok (.aload_n 0, 1) := dk_42 (dk_at dksX1_told_0 10 rfl rfl)
theorem dX1_told_11 : decode cX1_told 11 = .ok (.getfield 28, 3) := dk_180 0 28 (dk_at dksX1_told_0 11 rfl rfl)
theorem dX1_told_14 : decode cX1_told 14 = .ok (.getfield 237, 3) := dk_180 0 237 (dk_at dksX1_told_0 14 rfl rfl)
theorem dX1_told_17 : decode cX1_told 17 = .ok (.iload_n 1, 1) := dk_27 (dk_at dksX1_told_0 17 rfl rfl)
theorem dX1_told_18 : decode cX1_told 18 = .ok (.aaload, 1) := dk_50 (dk_at dksX1_told_0 18 rfl rfl)
theorem dX1_told_19 : decode cX1_told 19 = .ok (.iload_n 2, 1) := dk_28 (dk_at dksX1_told_0 19 rfl rfl)
theorem dX1_told_20 : decode cX1_told 20 = .ok (.iaload, 1) := dk_46 (dk_at dksX1_told_0 20 rfl rfl)
theorem dX1_told_21 : decode cX1_told 21 = .ok (.ireturn, 1) := dk_172 (dk_at dksX1_told_0 21 rfl rfl)
abbrev cX1_mustSpeaker : ByteArray := prog_1_method_19_code
def yX1_mustSpeaker : MethodName := ⟨RX1, "mustSpeaker", "(I)V"⟩
def dkwX1_mustSpeaker_0 : List UInt8 := [27, 133, 9, 42, 180, 0, 19, 180, 0, 196, 182, 0, 200, 4, 100, 133, 184, 0, 151, 184, 0, 193, 177]
abbrev dktX1_mustSpeaker_0 : List UInt8 := dkwX1_mustSpeaker_0 ++ []
theorem dksX1_mustSpeaker_0 : cX1_mustSpeaker.data.toList.drop 0 = dktX1_mustSpeaker_0 := by decide +kernel
theorem dX1_mustSpeaker_0 : decode cX1_mustSpeaker 0 = .ok (.iload_n 1, 1) := dk_27 (dk_at dksX1_mustSpeaker_0 0 rfl rfl)
theorem dX1_mustSpeaker_1 : decode cX1_mustSpeaker 1 = .ok (.i2l, 1) := dk_133 (dk_at dksX1_mustSpeaker_0 1 rfl rfl)
theorem dX1_mustSpeaker_2 : decode cX1_mustSpeaker 2 = .ok (.lconst 0, 1) := dk_9 (dk_at dksX1_mustSpeaker_0 2 rfl rfl)
theorem dX1_mustSpeaker_3 : decode cX1_mustSpeaker 3 = .ok (.aload_n 0, 1) := dk_42 (dk_at dksX1_mustSpeaker_0 3 rfl rfl)
theorem dX1_mustSpeaker_4 : decode cX1_mustSpeaker 4 = .ok (.getfield 19, 3) := dk_180 0 19 (dk_at dksX1_mustSpeaker_0 4 rfl rfl)
theorem dX1_mustSpeaker_7 : decode cX1_mustSpeaker 7 = .ok (.getfield 196, 3) := dk_180 0 196 (dk_at dksX1_mustSpeaker_0 7 rfl rfl)
theorem dX1_mustSpeaker_10 : decode cX1_mustSpeaker 10 = .ok (.invokevirtual 200, 3) := dk_182 0 200 (dk_at dksX1_mustSpeaker_0 10 rfl rfl)
theorem dX1_mustSpeaker_13 : decode cX1_mustSpeaker 13 = .ok (.iconst 1, 1) := dk_4 (dk_at dksX1_mustSpeaker_0 13 rfl rfl)
theorem dX1_mustSpeaker_14 : decode cX1_mustSpeaker 14 = .ok (.isub, 1) := dk_100 (dk_at dksX1_mustSpeaker_0 14 rfl rfl)
theorem dX1_mustSpeaker_15 : decode cX1_mustSpeaker 15 = .ok (.i2l, 1) := dk_133 (dk_at dksX1_mustSpeaker_0 15 rfl rfl)
theorem dX1_mustSpeaker_16 : decode cX1_mustSpeaker 16 = .ok (.invokestatic 151, 3) := dk_184 0 151 (dk_at dksX1_mustSpeaker_0 16 rfl rfl)
theorem dX1_mustSpeaker_19 : decode cX1_mustSpeaker 19 = .ok (.invokestatic 193, 3) := dk_184 0 193 (dk_at dksX1_mustSpeaker_0 19 rfl rfl)
theorem dX1_mustSpeaker_22 : decode cX1_mustSpeaker 22 = .ok (.return_, 1) := dk_177 (dk_at dksX1_mustSpeaker_0 22 rfl rfl)
abbrev cX1_speaker : ByteArray := prog_1_method_26_code
def yX1_speaker : MethodName := ⟨RX1, "speaker", "(II)I"⟩
def dkwX1_speaker_4 : List UInt8 := [167, 0, 4, 3, 172, 42, 27, 182, 1, 0, 172, 187, 0, 1, 89, 183, 0, 3, 191]
abbrev dktX1_speaker_4 : List UInt8 := dkwX1_speaker_4 ++ []
def dkwX1_speaker_3 : List UInt8 := [153, 0, 7, 4, 167, 0, 4, 3, 172, 42, 180, 0, 19, 27, 182, 0, 244, 180, 0, 253, 153, 0, 7, 4]
abbrev dktX1_speaker_3 : List UInt8 := dkwX1_speaker_3 ++ dktX1_speaker_4
def dkwX1_speaker_2 : List UInt8 := [42, 180, 0, 19, 27, 182, 0, 244, 180, 0, 247, 172, 42, 180, 0, 19, 27, 182, 0, 244, 180, 0, 250]
abbrev dktX1_speaker_2 : List UInt8 := dkwX1_speaker_2 ++ dktX1_speaker_3
def dkwX1_speaker_1 : List UInt8 := [170, 0, 0, 0, 0, 88, 0, 0, 0, 0, 0, 0, 0, 3, 0, 0, 0, 30, 0, 0, 0, 42, 0, 0, 0, 62, 0, 0, 0, 82]
abbrev dktX1_speaker_1 : List UInt8 := dkwX1_speaker_1 ++ dktX1_speaker_2
def dkwX1_speaker_0 : List UInt8 := [42, 27, 182, 0, 234, 28]
abbrev dktX1_speaker_0 : List UInt8 := dkwX1_speaker_0 ++ dktX1_speaker_1
theorem dksX1_speaker_0 : cX1_speaker.data.toList.drop 0 = dktX1_speaker_0 := by decide +kernel
theorem dksX1_speaker_1 : cX1_speaker.data.toList.drop 6 = dktX1_speaker_1 := dk_seg dksX1_speaker_0 6 rfl rfl
theorem dksX1_speaker_2 : cX1_speaker.data.toList.drop 36 = dktX1_speaker_2 := dk_seg dksX1_speaker_1 30 rfl rfl
theorem dksX1_speaker_3 : cX1_speaker.data.toList.drop 59 = dktX1_speaker_3 := dk_seg dksX1_speaker_2 23 rfl rfl
theorem dksX1_speaker_4 : cX1_speaker.data.toList.drop 83 = dktX1_speaker_4 := dk_seg dksX1_speaker_3 24 rfl rfl
theorem dX1_speaker_0 : decode cX1_speaker 0 = .ok (.aload_n 0, 1) := dk_42 (dk_at dksX1_speaker_0 0 rfl rfl)
theorem dX1_speaker_1 : decode cX1_speaker 1 = .ok (.iload_n 1, 1) := dk_27 (dk_at dksX1_speaker_0 1 rfl rfl)
theorem dX1_speaker_2 : decode cX1_speaker 2 = .ok (.invokevirtual 234, 3) := dk_182 0 234 (dk_at dksX1_speaker_0 2 rfl rfl)
theorem dX1_speaker_5 : decode cX1_speaker 5 = .ok (.iload_n 2, 1) := dk_28 (dk_at dksX1_speaker_0 5 rfl rfl)
theorem dX1_speaker_6 : decode cX1_speaker 6 = .ok (.tableswitch 88 0 3 #[30, 42, 62, 82], 30) := by decide +kernel
theorem dX1_speaker_36 : decode cX1_speaker 36 = .ok (.aload_n 0, 1) := dk_42 (dk_at dksX1_speaker_2 0 rfl rfl)
theorem dX1_speaker_37 : decode cX1_speaker 37 = .ok (.getfield 19, 3) := dk_180 0 19 (dk_at dksX1_speaker_2 1 rfl rfl)
theorem dX1_speaker_40 : decode cX1_speaker 40 = .ok (.iload_n 1, 1) := dk_27 (dk_at dksX1_speaker_2 4 rfl rfl)
theorem dX1_speaker_41 : decode cX1_speaker 41 = .ok (.invokevirtual 244, 3) := dk_182 0 244 (dk_at dksX1_speaker_2 5 rfl rfl)
theorem dX1_speaker_44 : decode cX1_speaker 44 = .ok (.getfield 247, 3) := dk_180 0 247 (dk_at dksX1_speaker_2 8 rfl rfl)
theorem dX1_speaker_47 : decode cX1_speaker 47 = .ok (.ireturn, 1) := dk_172 (dk_at dksX1_speaker_2 11 rfl rfl)
theorem dX1_speaker_48 : decode cX1_speaker 48 = .ok (.aload_n 0, 1) := dk_42 (dk_at dksX1_speaker_2 12 rfl rfl)
theorem dX1_speaker_49 : decode cX1_speaker 49 = .ok (.getfield 19, 3) := dk_180 0 19 (dk_at dksX1_speaker_2 13 rfl rfl)
theorem dX1_speaker_52 : decode cX1_speaker 52 = .ok (.iload_n 1, 1) := dk_27 (dk_at dksX1_speaker_2 16 rfl rfl)
theorem dX1_speaker_53 : decode cX1_speaker 53 = .ok (.invokevirtual 244, 3) := dk_182 0 244 (dk_at dksX1_speaker_2 17 rfl rfl)
theorem dX1_speaker_56 : decode cX1_speaker 56 = .ok (.getfield 250, 3) := dk_180 0 250 (dk_at dksX1_speaker_2 20 rfl rfl)
theorem dX1_speaker_59 : decode cX1_speaker 59 = .ok (.ifCond .eq 7, 3) := dk_153 0 7 (dk_at dksX1_speaker_3 0 rfl rfl)
theorem dX1_speaker_62 : decode cX1_speaker 62 = .ok (.iconst 1, 1) := dk_4 (dk_at dksX1_speaker_3 3 rfl rfl)
theorem dX1_speaker_63 : decode cX1_speaker 63 = .ok (.goto 4, 3) := dk_167 0 4 (dk_at dksX1_speaker_3 4 rfl rfl)
theorem dX1_speaker_66 : decode cX1_speaker 66 = .ok (.iconst 0, 1) := dk_3 (dk_at dksX1_speaker_3 7 rfl rfl)
theorem dX1_speaker_67 : decode cX1_speaker 67 = .ok (.ireturn, 1) := dk_172 (dk_at dksX1_speaker_3 8 rfl rfl)
theorem dX1_speaker_68 : decode cX1_speaker 68 = .ok (.aload_n 0, 1) := dk_42 (dk_at dksX1_speaker_3 9 rfl rfl)
theorem dX1_speaker_69 : decode cX1_speaker 69 = .ok (.getfield 19, 3) := dk_180 0 19 (dk_at dksX1_speaker_3 10 rfl rfl)
theorem dX1_speaker_72 : decode cX1_speaker 72 = .ok (.iload_n 1, 1) := dk_27 (dk_at dksX1_speaker_3 13 rfl rfl)
theorem dX1_speaker_73 : decode cX1_speaker 73 = .ok (.invokevirtual 244, 3) := dk_182 0 244 (dk_at dksX1_speaker_3 14 rfl rfl)
theorem dX1_speaker_76 : decode cX1_speaker 76 = .ok (.getfield 253, 3) := dk_180 0 253 (dk_at dksX1_speaker_3 17 rfl rfl)
theorem dX1_speaker_79 : decode cX1_speaker 79 = .ok (.ifCond .eq 7, 3) := dk_153 0 7 (dk_at dksX1_speaker_3 20 rfl rfl)
theorem dX1_speaker_82 : decode cX1_speaker 82 = .ok (.iconst 1, 1) := dk_4 (dk_at dksX1_speaker_3 23 rfl rfl)
theorem dX1_speaker_83 : decode cX1_speaker 83 = .ok (.goto 4, 3) := dk_167 0 4 (dk_at dksX1_speaker_4 0 rfl rfl)
theorem dX1_speaker_86 : decode cX1_speaker 86 = .ok (.iconst 0, 1) := dk_3 (dk_at dksX1_speaker_4 3 rfl rfl)
theorem dX1_speaker_87 : decode cX1_speaker 87 = .ok (.ireturn, 1) := dk_172 (dk_at dksX1_speaker_4 4 rfl rfl)
theorem dX1_speaker_88 : decode cX1_speaker 88 = .ok (.aload_n 0, 1) := dk_42 (dk_at dksX1_speaker_4 5 rfl rfl)
theorem dX1_speaker_89 : decode cX1_speaker 89 = .ok (.iload_n 1, 1) := dk_27 (dk_at dksX1_speaker_4 6 rfl rfl)
theorem dX1_speaker_90 : decode cX1_speaker 90 = .ok (.invokevirtual 256, 3) := dk_182 1 0 (dk_at dksX1_speaker_4 7 rfl rfl)
theorem dX1_speaker_93 : decode cX1_speaker 93 = .ok (.ireturn, 1) := dk_172 (dk_at dksX1_speaker_4 10 rfl rfl)
theorem dX1_speaker_94 : decode cX1_speaker 94 = .ok (.new 1, 3) := dk_187 0 1 (dk_at dksX1_speaker_4 11 rfl rfl)
theorem dX1_speaker_97 : decode cX1_speaker 97 = .ok (.dup, 1) := dk_89 (dk_at dksX1_speaker_4 14 rfl rfl)
theorem dX1_speaker_98 : decode cX1_speaker 98 = .ok (.invokespecial 3, 3) := dk_183 0 3 (dk_at dksX1_speaker_4 15 rfl rfl)
theorem dX1_speaker_101 : decode cX1_speaker 101 = .ok (.athrow, 1) := dk_191 (dk_at dksX1_speaker_4 18 rfl rfl)
abbrev cX1_turnsOf : ByteArray := prog_1_method_25_code
def yX1_turnsOf : MethodName := ⟨RX1, "turnsOf", "(I)I"⟩
def dkwX1_turnsOf_2 : List UInt8 := [132, 3, 1, 167, 255, 210, 28, 172]
abbrev dktX1_turnsOf_2 : List UInt8 := dkwX1_turnsOf_2 ++ []
def dkwX1_turnsOf_1 : List UInt8 := [180, 0, 206, 29, 182, 0, 209, 192, 0, 213, 180, 0, 241, 27, 160, 0, 7, 4, 167, 0, 4, 3, 96, 61]
abbrev dktX1_turnsOf_1 : List UInt8 := dkwX1_turnsOf_1 ++ dktX1_turnsOf_2
def dkwX1_turnsOf_0 : List UInt8 := [3, 61, 3, 62, 29, 42, 180, 0, 19, 180, 0, 206, 182, 0, 200, 162, 0, 38, 28, 42, 180, 0, 19]
abbrev dktX1_turnsOf_0 : List UInt8 := dkwX1_turnsOf_0 ++ dktX1_turnsOf_1
theorem dksX1_turnsOf_0 : cX1_turnsOf.data.toList.drop 0 = dktX1_turnsOf_0 := by decide +kernel
theorem dksX1_turnsOf_1 : cX1_turnsOf.data.toList.drop 23 = dktX1_turnsOf_1 := dk_seg dksX1_turnsOf_0 23 rfl rfl
theorem dksX1_turnsOf_2 : cX1_turnsOf.data.toList.drop 47 = dktX1_turnsOf_2 := dk_seg dksX1_turnsOf_1 24 rfl rfl
theorem dX1_turnsOf_0 : decode cX1_turnsOf 0 = .ok (.iconst 0, 1) := dk_3 (dk_at dksX1_turnsOf_0 0 rfl rfl)
theorem dX1_turnsOf_1 : decode cX1_turnsOf 1 = .ok (.istore_n 2, 1) := dk_61 (dk_at dksX1_turnsOf_0 1 rfl rfl)
theorem dX1_turnsOf_2 : decode cX1_turnsOf 2 = .ok (.iconst 0, 1) := dk_3 (dk_at dksX1_turnsOf_0 2 rfl rfl)
theorem dX1_turnsOf_3 : decode cX1_turnsOf 3 = .ok (.istore_n 3, 1) := dk_62 (dk_at dksX1_turnsOf_0 3 rfl rfl)
theorem dX1_turnsOf_4 : decode cX1_turnsOf 4 = .ok (.iload_n 3, 1) := dk_29 (dk_at dksX1_turnsOf_0 4 rfl rfl)
theorem dX1_turnsOf_5 : decode cX1_turnsOf 5 = .ok (.aload_n 0, 1) := dk_42 (dk_at dksX1_turnsOf_0 5 rfl rfl)
theorem dX1_turnsOf_6 : decode cX1_turnsOf 6 = .ok (.getfield 19, 3) := dk_180 0 19 (dk_at dksX1_turnsOf_0 6 rfl rfl)
theorem dX1_turnsOf_9 : decode cX1_turnsOf 9 = .ok (.getfield 206, 3) := dk_180 0 206 (dk_at dksX1_turnsOf_0 9 rfl rfl)
theorem dX1_turnsOf_12 : decode cX1_turnsOf 12 = .ok (.invokevirtual 200, 3) := dk_182 0 200 (dk_at dksX1_turnsOf_0 12 rfl rfl)
theorem dX1_turnsOf_15 : decode cX1_turnsOf 15 = .ok (.if_icmp .ge 38, 3) := dk_162 0 38 (dk_at dksX1_turnsOf_0 15 rfl rfl)
theorem dX1_turnsOf_18 : decode cX1_turnsOf 18 = .ok (.iload_n 2, 1) := dk_28 (dk_at dksX1_turnsOf_0 18 rfl rfl)
theorem dX1_turnsOf_19 : decode cX1_turnsOf 19 = .ok (.aload_n 0, 1) := dk_42 (dk_at dksX1_turnsOf_0 19 rfl rfl)
theorem dX1_turnsOf_20 : decode cX1_turnsOf 20 = .ok (.getfield 19, 3) := dk_180 0 19 (dk_at dksX1_turnsOf_0 20 rfl rfl)
theorem dX1_turnsOf_23 : decode cX1_turnsOf 23 = .ok (.getfield 206, 3) := dk_180 0 206 (dk_at dksX1_turnsOf_1 0 rfl rfl)
theorem dX1_turnsOf_26 : decode cX1_turnsOf 26 = .ok (.iload_n 3, 1) := dk_29 (dk_at dksX1_turnsOf_1 3 rfl rfl)
theorem dX1_turnsOf_27 : decode cX1_turnsOf 27 = .ok (.invokevirtual 209, 3) := dk_182 0 209 (dk_at dksX1_turnsOf_1 4 rfl rfl)
theorem dX1_turnsOf_30 : decode cX1_turnsOf 30 = .ok (.checkcast 213, 3) := dk_192 0 213 (dk_at dksX1_turnsOf_1 7 rfl rfl)
theorem dX1_turnsOf_33 : decode cX1_turnsOf 33 = .ok (.getfield 241, 3) := dk_180 0 241 (dk_at dksX1_turnsOf_1 10 rfl rfl)
theorem dX1_turnsOf_36 : decode cX1_turnsOf 36 = .ok (.iload_n 1, 1) := dk_27 (dk_at dksX1_turnsOf_1 13 rfl rfl)
theorem dX1_turnsOf_37 : decode cX1_turnsOf 37 = .ok (.if_icmp .ne 7, 3) := dk_160 0 7 (dk_at dksX1_turnsOf_1 14 rfl rfl)
theorem dX1_turnsOf_40 : decode cX1_turnsOf 40 = .ok (.iconst 1, 1) := dk_4 (dk_at dksX1_turnsOf_1 17 rfl rfl)
theorem dX1_turnsOf_41 : decode cX1_turnsOf 41 = .ok (.goto 4, 3) := dk_167 0 4 (dk_at dksX1_turnsOf_1 18 rfl rfl)
theorem dX1_turnsOf_44 : decode cX1_turnsOf 44 = .ok (.iconst 0, 1) := dk_3 (dk_at dksX1_turnsOf_1 21 rfl rfl)
theorem dX1_turnsOf_45 : decode cX1_turnsOf 45 = .ok (.iadd, 1) := dk_96 (dk_at dksX1_turnsOf_1 22 rfl rfl)
theorem dX1_turnsOf_46 : decode cX1_turnsOf 46 = .ok (.istore_n 2, 1) := dk_61 (dk_at dksX1_turnsOf_1 23 rfl rfl)
theorem dX1_turnsOf_47 : decode cX1_turnsOf 47 = .ok (.iinc 3 1, 3) := dk_132 3 1 (dk_at dksX1_turnsOf_2 0 rfl rfl)
theorem dX1_turnsOf_50 : decode cX1_turnsOf 50 = .ok (.goto (-46), 3) := dk_167 255 210 (dk_at dksX1_turnsOf_2 3 rfl rfl)
theorem dX1_turnsOf_53 : decode cX1_turnsOf 53 = .ok (.iload_n 2, 1) := dk_28 (dk_at dksX1_turnsOf_2 6 rfl rfl)
theorem dX1_turnsOf_54 : decode cX1_turnsOf 54 = .ok (.ireturn, 1) := dk_172 (dk_at dksX1_turnsOf_2 7 rfl rfl)
abbrev cX1_turn : ByteArray := prog_1_method_27_code
def yX1_turn : MethodName := ⟨RX1, "turn", "(I)I"⟩
def dkwX1_turn_0 : List UInt8 := [42, 27, 182, 1, 4, 180, 0, 241, 172]
abbrev dktX1_turn_0 : List UInt8 := dkwX1_turn_0 ++ []
theorem dksX1_turn_0 : cX1_turn.data.toList.drop 0 = dktX1_turn_0 := by decide +kernel
theorem dX1_turn_0 : decode cX1_turn 0 = .ok (.aload_n 0, 1) := dk_42 (dk_at dksX1_turn_0 0 rfl rfl)
theorem dX1_turn_1 : decode cX1_turn 1 = .ok (.iload_n 1, 1) := dk_27 (dk_at dksX1_turn_0 1 rfl rfl)
theorem dX1_turn_2 : decode cX1_turn 2 = .ok (.invokevirtual 260, 3) := dk_182 1 4 (dk_at dksX1_turn_0 2 rfl rfl)
theorem dX1_turn_5 : decode cX1_turn 5 = .ok (.getfield 241, 3) := dk_180 0 241 (dk_at dksX1_turn_0 5 rfl rfl)
theorem dX1_turn_8 : decode cX1_turn 8 = .ok (.ireturn, 1) := dk_172 (dk_at dksX1_turn_0 8 rfl rfl)
abbrev cX1_turnOf : ByteArray := prog_1_method_20_code
def yX1_turnOf : MethodName := ⟨RX1, "turnOf", "(I)LTwoSlips$Turn;"⟩
def dkwX1_turnOf_1 : List UInt8 := [180, 0, 19, 180, 0, 206, 27, 182, 0, 209, 192, 0, 213, 176]
abbrev dktX1_turnOf_1 : List UInt8 := dkwX1_turnOf_1 ++ []
def dkwX1_turnOf_0 : List UInt8 := [27, 133, 9, 42, 180, 0, 19, 180, 0, 206, 182, 0, 200, 4, 100, 133, 184, 0, 151, 184, 0, 193, 42]
abbrev dktX1_turnOf_0 : List UInt8 := dkwX1_turnOf_0 ++ dktX1_turnOf_1
theorem dksX1_turnOf_0 : cX1_turnOf.data.toList.drop 0 = dktX1_turnOf_0 := by decide +kernel
theorem dksX1_turnOf_1 : cX1_turnOf.data.toList.drop 23 = dktX1_turnOf_1 := dk_seg dksX1_turnOf_0 23 rfl rfl
theorem dX1_turnOf_0 : decode cX1_turnOf 0 = .ok (.iload_n 1, 1) := dk_27 (dk_at dksX1_turnOf_0 0 rfl rfl)
theorem dX1_turnOf_1 : decode cX1_turnOf 1 = .ok (.i2l, 1) := dk_133 (dk_at dksX1_turnOf_0 1 rfl rfl)
theorem dX1_turnOf_2 : decode cX1_turnOf 2 = .ok (.lconst 0, 1) := dk_9 (dk_at dksX1_turnOf_0 2 rfl rfl)
theorem dX1_turnOf_3 : decode cX1_turnOf 3 = .ok (.aload_n 0, 1) := dk_42 (dk_at dksX1_turnOf_0 3 rfl rfl)
theorem dX1_turnOf_4 : decode cX1_turnOf 4 = .ok (.getfield 19, 3) := dk_180 0 19 (dk_at dksX1_turnOf_0 4 rfl rfl)
theorem dX1_turnOf_7 : decode cX1_turnOf 7 = .ok (.getfield 206, 3) := dk_180 0 206 (dk_at dksX1_turnOf_0 7 rfl rfl)
theorem dX1_turnOf_10 : decode cX1_turnOf 10 = .ok (.invokevirtual 200, 3) := dk_182 0 200 (dk_at dksX1_turnOf_0 10 rfl rfl)
theorem dX1_turnOf_13 : decode cX1_turnOf 13 = .ok (.iconst 1, 1) := dk_4 (dk_at dksX1_turnOf_0 13 rfl rfl)
theorem dX1_turnOf_14 : decode cX1_turnOf 14 = .ok (.isub, 1) := dk_100 (dk_at dksX1_turnOf_0 14 rfl rfl)
theorem dX1_turnOf_15 : decode cX1_turnOf 15 = .ok (.i2l, 1) := dk_133 (dk_at dksX1_turnOf_0 15 rfl rfl)
theorem dX1_turnOf_16 : decode cX1_turnOf 16 = .ok (.invokestatic 151, 3) := dk_184 0 151 (dk_at dksX1_turnOf_0 16 rfl rfl)
theorem dX1_turnOf_19 : decode cX1_turnOf 19 = .ok (.invokestatic 193, 3) := dk_184 0 193 (dk_at dksX1_turnOf_0 19 rfl rfl)
theorem dX1_turnOf_22 : decode cX1_turnOf 22 = .ok (.aload_n 0, 1) := dk_42 (dk_at dksX1_turnOf_0 22 rfl rfl)
theorem dX1_turnOf_23 : decode cX1_turnOf 23 = .ok (.getfield 19, 3) := dk_180 0 19 (dk_at dksX1_turnOf_1 0 rfl rfl)
theorem dX1_turnOf_26 : decode cX1_turnOf 26 = .ok (.getfield 206, 3) := dk_180 0 206 (dk_at dksX1_turnOf_1 3 rfl rfl)
theorem dX1_turnOf_29 : decode cX1_turnOf 29 = .ok (.iload_n 1, 1) := dk_27 (dk_at dksX1_turnOf_1 6 rfl rfl)
theorem dX1_turnOf_30 : decode cX1_turnOf 30 = .ok (.invokevirtual 209, 3) := dk_182 0 209 (dk_at dksX1_turnOf_1 7 rfl rfl)
theorem dX1_turnOf_33 : decode cX1_turnOf 33 = .ok (.checkcast 213, 3) := dk_192 0 213 (dk_at dksX1_turnOf_1 10 rfl rfl)
theorem dX1_turnOf_36 : decode cX1_turnOf 36 = .ok (.areturn, 1) := dk_176 (dk_at dksX1_turnOf_1 13 rfl rfl)
abbrev cX1_left : ByteArray := prog_1_method_28_code
def yX1_left : MethodName := ⟨RX1, "left", "(I)I"⟩
def dkwX1_left_0 : List UInt8 := [42, 27, 182, 1, 8, 42, 182, 0, 186, 180, 1, 11, 27, 50, 184, 1, 15, 172]
abbrev dktX1_left_0 : List UInt8 := dkwX1_left_0 ++ []
theorem dksX1_left_0 : cX1_left.data.toList.drop 0 = dktX1_left_0 := by decide +kernel
theorem dX1_left_0 : decode cX1_left 0 = .ok (.aload_n 0, 1) := dk_42 (dk_at dksX1_left_0 0 rfl rfl)
theorem dX1_left_1 : decode cX1_left 1 = .ok (.iload_n 1, 1) := dk_27 (dk_at dksX1_left_0 1 rfl rfl)
theorem dX1_left_2 : decode cX1_left 2 = .ok (.invokevirtual 264, 3) := dk_182 1 8 (dk_at dksX1_left_0 2 rfl rfl)
theorem dX1_left_5 : decode cX1_left 5 = .ok (.aload_n 0, 1) := dk_42 (dk_at dksX1_left_0 5 rfl rfl)
theorem dX1_left_6 : decode cX1_left 6 = .ok (.invokevirtual 186, 3) := dk_182 0 186 (dk_at dksX1_left_0 6 rfl rfl)
theorem dX1_left_9 : decode cX1_left 9 = .ok (.getfield 267, 3) := dk_180 1 11 (dk_at dksX1_left_0 9 rfl rfl)
theorem dX1_left_12 : decode cX1_left 12 = .ok (.iload_n 1, 1) := dk_27 (dk_at dksX1_left_0 12 rfl rfl)
theorem dX1_left_13 : decode cX1_left 13 = .ok (.aaload, 1) := dk_50 (dk_at dksX1_left_0 13 rfl rfl)
theorem dX1_left_14 : decode cX1_left 14 = .ok (.invokestatic 271, 3) := dk_184 1 15 (dk_at dksX1_left_0 14 rfl rfl)
theorem dX1_left_17 : decode cX1_left 17 = .ok (.ireturn, 1) := dk_172 (dk_at dksX1_left_0 17 rfl rfl)
abbrev cX1_mustTurns : ByteArray := prog_1_method_21_code
def yX1_mustTurns : MethodName := ⟨RX1, "mustTurns", "(I)V"⟩
def dkwX1_mustTurns_0 : List UInt8 := [27, 133, 9, 42, 180, 0, 19, 180, 0, 206, 182, 0, 200, 133, 184, 0, 151, 184, 0, 155, 177]
abbrev dktX1_mustTurns_0 : List UInt8 := dkwX1_mustTurns_0 ++ []
theorem dksX1_mustTurns_0 : cX1_mustTurns.data.toList.drop 0 = dktX1_mustTurns_0 := by decide +kernel
theorem dX1_mustTurns_0 : decode cX1_mustTurns 0 = .ok (.iload_n 1, 1) := dk_27 (dk_at dksX1_mustTurns_0 0 rfl rfl)
theorem dX1_mustTurns_1 : decode cX1_mustTurns 1 = .ok (.i2l, 1) := dk_133 (dk_at dksX1_mustTurns_0 1 rfl rfl)
theorem dX1_mustTurns_2 : decode cX1_mustTurns 2 = .ok (.lconst 0, 1) := dk_9 (dk_at dksX1_mustTurns_0 2 rfl rfl)
theorem dX1_mustTurns_3 : decode cX1_mustTurns 3 = .ok (.aload_n 0, 1) := dk_42 (dk_at dksX1_mustTurns_0 3 rfl rfl)
theorem dX1_mustTurns_4 : decode cX1_mustTurns 4 = .ok (.getfield 19, 3) := dk_180 0 19 (dk_at dksX1_mustTurns_0 4 rfl rfl)
theorem dX1_mustTurns_7 : decode cX1_mustTurns 7 = .ok (.getfield 206, 3) := dk_180 0 206 (dk_at dksX1_mustTurns_0 7 rfl rfl)
theorem dX1_mustTurns_10 : decode cX1_mustTurns 10 = .ok (.invokevirtual 200, 3) := dk_182 0 200 (dk_at dksX1_mustTurns_0 10 rfl rfl)
theorem dX1_mustTurns_13 : decode cX1_mustTurns 13 = .ok (.i2l, 1) := dk_133 (dk_at dksX1_mustTurns_0 13 rfl rfl)
theorem dX1_mustTurns_14 : decode cX1_mustTurns 14 = .ok (.invokestatic 151, 3) := dk_184 0 151 (dk_at dksX1_mustTurns_0 14 rfl rfl)
theorem dX1_mustTurns_17 : decode cX1_mustTurns 17 = .ok (.invokestatic 155, 3) := dk_184 0 155 (dk_at dksX1_mustTurns_0 17 rfl rfl)
theorem dX1_mustTurns_20 : decode cX1_mustTurns 20 = .ok (.return_, 1) := dk_177 (dk_at dksX1_mustTurns_0 20 rfl rfl)
abbrev cX1_leftAt : ByteArray := prog_1_method_29_code
def yX1_leftAt : MethodName := ⟨RX1, "leftAt", "(II)I"⟩
def dkwX1_leftAt_1 : List UInt8 := [184, 1, 19, 172]
abbrev dktX1_leftAt_1 : List UInt8 := dkwX1_leftAt_1 ++ []
def dkwX1_leftAt_0 : List UInt8 := [42, 27, 182, 1, 8, 42, 182, 0, 186, 180, 1, 11, 27, 50, 28, 42, 180, 0, 28, 180, 0, 190]
abbrev dktX1_leftAt_0 : List UInt8 := dkwX1_leftAt_0 ++ dktX1_leftAt_1
theorem dksX1_leftAt_0 : cX1_leftAt.data.toList.drop 0 = dktX1_leftAt_0 := by decide +kernel
theorem dksX1_leftAt_1 : cX1_leftAt.data.toList.drop 22 = dktX1_leftAt_1 := dk_seg dksX1_leftAt_0 22 rfl rfl
theorem dX1_leftAt_0 : decode cX1_leftAt 0 = .ok (.aload_n 0, 1) := dk_42 (dk_at dksX1_leftAt_0 0 rfl rfl)
theorem dX1_leftAt_1 : decode cX1_leftAt 1 = .ok (.iload_n 1, 1) := dk_27 (dk_at dksX1_leftAt_0 1 rfl rfl)
theorem dX1_leftAt_2 : decode cX1_leftAt 2 = .ok (.invokevirtual 264, 3) := dk_182 1 8 (dk_at dksX1_leftAt_0 2 rfl rfl)
theorem dX1_leftAt_5 : decode cX1_leftAt 5 = .ok (.aload_n 0, 1) := dk_42 (dk_at dksX1_leftAt_0 5 rfl rfl)
theorem dX1_leftAt_6 : decode cX1_leftAt 6 = .ok (.invokevirtual 186, 3) := dk_182 0 186 (dk_at dksX1_leftAt_0 6 rfl rfl)
theorem dX1_leftAt_9 : decode cX1_leftAt 9 = .ok (.getfield 267, 3) := dk_180 1 11 (dk_at dksX1_leftAt_0 9 rfl rfl)
theorem dX1_leftAt_12 : decode cX1_leftAt 12 = .ok (.iload_n 1, 1) := dk_27 (dk_at dksX1_leftAt_0 12 rfl rfl)
theorem dX1_leftAt_13 : decode cX1_leftAt 13 = .ok (.aaload, 1) := dk_50 (dk_at dksX1_leftAt_0 13 rfl rfl)
theorem dX1_leftAt_14 : decode cX1_leftAt 14 = .ok (.iload_n 2, 1) := dk_28 (dk_at dksX1_leftAt_0 14 rfl rfl)
theorem dX1_leftAt_15 : decode cX1_leftAt 15 = .ok (.aload_n 0, 1) := dk_42 (dk_at dksX1_leftAt_0 15 rfl rfl)
theorem dX1_leftAt_16 : decode cX1_leftAt 16 = .ok (.getfield 28, 3) := dk_180 0 28 (dk_at dksX1_leftAt_0 16 rfl rfl)
theorem dX1_leftAt_19 : decode cX1_leftAt 19 = .ok (.getfield 190, 3) := dk_180 0 190 (dk_at dksX1_leftAt_0 19 rfl rfl)
theorem dX1_leftAt_22 : decode cX1_leftAt 22 = .ok (.invokestatic 275, 3) := dk_184 1 19 (dk_at dksX1_leftAt_1 0 rfl rfl)
theorem dX1_leftAt_25 : decode cX1_leftAt 25 = .ok (.ireturn, 1) := dk_172 (dk_at dksX1_leftAt_1 3 rfl rfl)
abbrev cX1_isLeft : ByteArray := prog_1_method_30_code
def yX1_isLeft : MethodName := ⟨RX1, "isLeft", "(II)Z"⟩
def dkwX1_isLeft_0 : List UInt8 := [42, 28, 182, 0, 215, 42, 27, 182, 1, 8, 42, 180, 0, 28, 180, 1, 11, 27, 50, 28, 184, 0, 97, 172]
abbrev dktX1_isLeft_0 : List UInt8 := dkwX1_isLeft_0 ++ []
theorem dksX1_isLeft_0 : cX1_isLeft.data.toList.drop 0 = dktX1_isLeft_0 := by decide +kernel
theorem dX1_isLeft_0 : decode cX1_isLeft 0 = .ok (.aload_n 0, 1) := dk_42 (dk_at dksX1_isLeft_0 0 rfl rfl)
theorem dX1_isLeft_1 : decode cX1_isLeft 1 = .ok (.iload_n 2, 1) := dk_28 (dk_at dksX1_isLeft_0 1 rfl rfl)
theorem dX1_isLeft_2 : decode cX1_isLeft 2 = .ok (.invokevirtual 215, 3) := dk_182 0 215 (dk_at dksX1_isLeft_0 2 rfl rfl)
theorem dX1_isLeft_5 : decode cX1_isLeft 5 = .ok (.aload_n 0, 1) := dk_42 (dk_at dksX1_isLeft_0 5 rfl rfl)
theorem dX1_isLeft_6 : decode cX1_isLeft 6 = .ok (.iload_n 1, 1) := dk_27 (dk_at dksX1_isLeft_0 6 rfl rfl)
theorem dX1_isLeft_7 : decode cX1_isLeft 7 = .ok (.invokevirtual 264, 3) := dk_182 1 8 (dk_at dksX1_isLeft_0 7 rfl rfl)
theorem dX1_isLeft_10 : decode cX1_isLeft 10 = .ok (.aload_n 0, 1) := dk_42 (dk_at dksX1_isLeft_0 10 rfl rfl)
theorem dX1_isLeft_11 : decode cX1_isLeft 11 = .ok (.getfield 28, 3) := dk_180 0 28 (dk_at dksX1_isLeft_0 11 rfl rfl)
theorem dX1_isLeft_14 : decode cX1_isLeft 14 = .ok (.getfield 267, 3) := dk_180 1 11 (dk_at dksX1_isLeft_0 14 rfl rfl)
theorem dX1_isLeft_17 : decode cX1_isLeft 17 = .ok (.iload_n 1, 1) := dk_27 (dk_at dksX1_isLeft_0 17 rfl rfl)
theorem dX1_isLeft_18 : decode cX1_isLeft 18 = .ok (.aaload, 1) := dk_50 (dk_at dksX1_isLeft_0 18 rfl rfl)
theorem dX1_isLeft_19 : decode cX1_isLeft 19 = .ok (.iload_n 2, 1) := dk_28 (dk_at dksX1_isLeft_0 19 rfl rfl)
theorem dX1_isLeft_20 : decode cX1_isLeft 20 = .ok (.invokestatic 97, 3) := dk_184 0 97 (dk_at dksX1_isLeft_0 20 rfl rfl)
theorem dX1_isLeft_23 : decode cX1_isLeft 23 = .ok (.ireturn, 1) := dk_172 (dk_at dksX1_isLeft_0 23 rfl rfl)
abbrev cX1_so : ByteArray := prog_1_method_32_code
def yX1_so : MethodName := ⟨RX1, "so", "(II)Z"⟩
def dkwX1_so_1 : List UInt8 := [42, 180, 0, 28, 27, 25, 4, 182, 1, 34, 42, 180, 0, 28, 182, 1, 40, 25, 4, 28, 184, 0, 97, 172]
abbrev dktX1_so_1 : List UInt8 := dkwX1_so_1 ++ []
def dkwX1_so_0 : List UInt8 := [42, 27, 182, 1, 4, 78, 42, 28, 182, 0, 215, 42, 180, 0, 28, 182, 1, 26, 58, 4, 45, 180, 1, 30]
abbrev dktX1_so_0 : List UInt8 := dkwX1_so_0 ++ dktX1_so_1
theorem dksX1_so_0 : cX1_so.data.toList.drop 0 = dktX1_so_0 := by decide +kernel
theorem dksX1_so_1 : cX1_so.data.toList.drop 24 = dktX1_so_1 := dk_seg dksX1_so_0 24 rfl rfl
theorem dX1_so_0 : decode cX1_so 0 = .ok (.aload_n 0, 1) := dk_42 (dk_at dksX1_so_0 0 rfl rfl)
theorem dX1_so_1 : decode cX1_so 1 = .ok (.iload_n 1, 1) := dk_27 (dk_at dksX1_so_0 1 rfl rfl)
theorem dX1_so_2 : decode cX1_so 2 = .ok (.invokevirtual 260, 3) := dk_182 1 4 (dk_at dksX1_so_0 2 rfl rfl)
theorem dX1_so_5 : decode cX1_so 5 = .ok (.astore_n 3, 1) := dk_78 (dk_at dksX1_so_0 5 rfl rfl)
theorem dX1_so_6 : decode cX1_so 6 = .ok (.aload_n 0, 1) := dk_42 (dk_at dksX1_so_0 6 rfl rfl)
theorem dX1_so_7 : decode cX1_so 7 = .ok (.iload_n 2, 1) := dk_28 (dk_at dksX1_so_0 7 rfl rfl)
theorem dX1_so_8 : decode cX1_so 8 = .ok (.invokevirtual 215, 3) := dk_182 0 215 (dk_at dksX1_so_0 8 rfl rfl)
theorem dX1_so_11 : decode cX1_so 11 = .ok (.aload_n 0, 1) := dk_42 (dk_at dksX1_so_0 11 rfl rfl)
theorem dX1_so_12 : decode cX1_so 12 = .ok (.getfield 28, 3) := dk_180 0 28 (dk_at dksX1_so_0 12 rfl rfl)
theorem dX1_so_15 : decode cX1_so 15 = .ok (.invokevirtual 282, 3) := dk_182 1 26 (dk_at dksX1_so_0 15 rfl rfl)
theorem dX1_so_18 : decode cX1_so 18 = .ok (.astore 4, 2) := dk_58 4 (dk_at dksX1_so_0 18 rfl rfl)
theorem dX1_so_20 : decode cX1_so 20 = .ok (.aload_n 3, 1) := dk_45 (dk_at dksX1_so_0 20 rfl rfl)
theorem dX1_so_21 : decode cX1_so 21 = .ok (.getfield 286, 3) := dk_180 1 30 (dk_at dksX1_so_0 21 rfl rfl)
theorem dX1_so_24 : decode cX1_so 24 = .ok (.aload_n 0, 1) := dk_42 (dk_at dksX1_so_1 0 rfl rfl)
theorem dX1_so_25 : decode cX1_so 25 = .ok (.getfield 28, 3) := dk_180 0 28 (dk_at dksX1_so_1 1 rfl rfl)
theorem dX1_so_28 : decode cX1_so 28 = .ok (.iload_n 1, 1) := dk_27 (dk_at dksX1_so_1 4 rfl rfl)
theorem dX1_so_29 : decode cX1_so 29 = .ok (.aload 4, 2) := dk_25 4 (dk_at dksX1_so_1 5 rfl rfl)
theorem dX1_so_31 : decode cX1_so 31 = .ok (.invokevirtual 290, 3) := dk_182 1 34 (dk_at dksX1_so_1 7 rfl rfl)
theorem dX1_so_34 : decode cX1_so 34 = .ok (.aload_n 0, 1) := dk_42 (dk_at dksX1_so_1 10 rfl rfl)
theorem dX1_so_35 : decode cX1_so 35 = .ok (.getfield 28, 3) := dk_180 0 28 (dk_at dksX1_so_1 11 rfl rfl)
theorem dX1_so_38 : decode cX1_so 38 = .ok (.invokevirtual 296, 3) := dk_182 1 40 (dk_at dksX1_so_1 14 rfl rfl)
theorem dX1_so_41 : decode cX1_so 41 = .ok (.aload 4, 2) := dk_25 4 (dk_at dksX1_so_1 17 rfl rfl)
theorem dX1_so_43 : decode cX1_so 43 = .ok (.iload_n 2, 1) := dk_28 (dk_at dksX1_so_1 19 rfl rfl)
theorem dX1_so_44 : decode cX1_so 44 = .ok (.invokestatic 97, 3) := dk_184 0 97 (dk_at dksX1_so_1 20 rfl rfl)
theorem dX1_so_47 : decode cX1_so 47 = .ok (.ireturn, 1) := dk_172 (dk_at dksX1_so_1 23 rfl rfl)
abbrev cX1_may : ByteArray := prog_1_method_33_code
def yX1_may : MethodName := ⟨RX1, "may", "(II)Z"⟩
def dkwX1_may_2 : List UInt8 := [184, 0, 97, 172]
abbrev dktX1_may_2 : List UInt8 := dkwX1_may_2 ++ []
def dkwX1_may_1 : List UInt8 := [45, 180, 0, 241, 45, 180, 1, 30, 27, 25, 4, 182, 1, 43, 42, 180, 0, 28, 182, 1, 40, 25, 4, 28]
abbrev dktX1_may_1 : List UInt8 := dkwX1_may_1 ++ dktX1_may_2
def dkwX1_may_0 : List UInt8 := [42, 27, 182, 1, 4, 78, 42, 28, 182, 0, 215, 42, 180, 0, 28, 182, 1, 26, 58, 4, 42, 180, 0, 28]
abbrev dktX1_may_0 : List UInt8 := dkwX1_may_0 ++ dktX1_may_1
theorem dksX1_may_0 : cX1_may.data.toList.drop 0 = dktX1_may_0 := by decide +kernel
theorem dksX1_may_1 : cX1_may.data.toList.drop 24 = dktX1_may_1 := dk_seg dksX1_may_0 24 rfl rfl
theorem dksX1_may_2 : cX1_may.data.toList.drop 48 = dktX1_may_2 := dk_seg dksX1_may_1 24 rfl rfl
theorem dX1_may_0 : decode cX1_may 0 = .ok (.aload_n 0, 1) := dk_42 (dk_at dksX1_may_0 0 rfl rfl)
theorem dX1_may_1 : decode cX1_may 1 = .ok (.iload_n 1, 1) := dk_27 (dk_at dksX1_may_0 1 rfl rfl)
theorem dX1_may_2 : decode cX1_may 2 = .ok (.invokevirtual 260, 3) := dk_182 1 4 (dk_at dksX1_may_0 2 rfl rfl)
theorem dX1_may_5 : decode cX1_may 5 = .ok (.astore_n 3, 1) := dk_78 (dk_at dksX1_may_0 5 rfl rfl)
theorem dX1_may_6 : decode cX1_may 6 = .ok (.aload_n 0, 1) := dk_42 (dk_at dksX1_may_0 6 rfl rfl)
theorem dX1_may_7 : decode cX1_may 7 = .ok (.iload_n 2, 1) := dk_28 (dk_at dksX1_may_0 7 rfl rfl)
theorem dX1_may_8 : decode cX1_may 8 = .ok (.invokevirtual 215, 3) := dk_182 0 215 (dk_at dksX1_may_0 8 rfl rfl)
theorem dX1_may_11 : decode cX1_may 11 = .ok (.aload_n 0, 1) := dk_42 (dk_at dksX1_may_0 11 rfl rfl)
theorem dX1_may_12 : decode cX1_may 12 = .ok (.getfield 28, 3) := dk_180 0 28 (dk_at dksX1_may_0 12 rfl rfl)
theorem dX1_may_15 : decode cX1_may 15 = .ok (.invokevirtual 282, 3) := dk_182 1 26 (dk_at dksX1_may_0 15 rfl rfl)
theorem dX1_may_18 : decode cX1_may 18 = .ok (.astore 4, 2) := dk_58 4 (dk_at dksX1_may_0 18 rfl rfl)
theorem dX1_may_20 : decode cX1_may 20 = .ok (.aload_n 0, 1) := dk_42 (dk_at dksX1_may_0 20 rfl rfl)
theorem dX1_may_21 : decode cX1_may 21 = .ok (.getfield 28, 3) := dk_180 0 28 (dk_at dksX1_may_0 21 rfl rfl)
theorem dX1_may_24 : decode cX1_may 24 = .ok (.aload_n 3, 1) := dk_45 (dk_at dksX1_may_1 0 rfl rfl)
theorem dX1_may_25 : decode cX1_may 25 = .ok (.getfield 241, 3) := dk_180 0 241 (dk_at dksX1_may_1 1 rfl rfl)
theorem dX1_may_28 : decode cX1_may 28 = .ok (.aload_n 3, 1) := dk_45 (dk_at dksX1_may_1 4 rfl rfl)
theorem dX1_may_29 : decode cX1_may 29 = .ok (.getfield 286, 3) := dk_180 1 30 (dk_at dksX1_may_1 5 rfl rfl)
theorem dX1_may_32 : decode cX1_may 32 = .ok (.iload_n 1, 1) := dk_27 (dk_at dksX1_may_1 8 rfl rfl)
theorem dX1_may_33 : decode cX1_may 33 = .ok (.aload 4, 2) := dk_25 4 (dk_at dksX1_may_1 9 rfl rfl)
theorem dX1_may_35 : decode cX1_may 35 = .ok (.invokevirtual 299, 3) := dk_182 1 43 (dk_at dksX1_may_1 11 rfl rfl)
theorem dX1_may_38 : decode cX1_may 38 = .ok (.aload_n 0, 1) := dk_42 (dk_at dksX1_may_1 14 rfl rfl)
theorem dX1_may_39 : decode cX1_may 39 = .ok (.getfield 28, 3) := dk_180 0 28 (dk_at dksX1_may_1 15 rfl rfl)
theorem dX1_may_42 : decode cX1_may 42 = .ok (.invokevirtual 296, 3) := dk_182 1 40 (dk_at dksX1_may_1 18 rfl rfl)
theorem dX1_may_45 : decode cX1_may 45 = .ok (.aload 4, 2) := dk_25 4 (dk_at dksX1_may_1 21 rfl rfl)
theorem dX1_may_47 : decode cX1_may 47 = .ok (.iload_n 2, 1) := dk_28 (dk_at dksX1_may_1 23 rfl rfl)
theorem dX1_may_48 : decode cX1_may 48 = .ok (.invokestatic 97, 3) := dk_184 0 97 (dk_at dksX1_may_2 0 rfl rfl)
theorem dX1_may_51 : decode cX1_may 51 = .ok (.ireturn, 1) := dk_172 (dk_at dksX1_may_2 3 rfl rfl)
abbrev cX1_judge : ByteArray := prog_1_method_34_code
def yX1_judge : MethodName := ⟨RX1, "judge", "(I)I"⟩
def dkwX1_judge_2 : List UInt8 := [167, 255, 219, 2, 172]
abbrev dktX1_judge_2 : List UInt8 := dkwX1_judge_2 ++ []
def dkwX1_judge_1 : List UInt8 := [180, 0, 28, 180, 1, 11, 28, 4, 96, 50, 27, 184, 0, 97, 154, 0, 5, 28, 172, 132, 2, 1]
abbrev dktX1_judge_1 : List UInt8 := dkwX1_judge_1 ++ dktX1_judge_2
def dkwX1_judge_0 : List UInt8 := [42, 27, 182, 0, 215, 3, 61, 28, 42, 180, 0, 19, 180, 0, 206, 182, 0, 200, 162, 0, 29, 42]
abbrev dktX1_judge_0 : List UInt8 := dkwX1_judge_0 ++ dktX1_judge_1
theorem dksX1_judge_0 : cX1_judge.data.toList.drop 0 = dktX1_judge_0 := by decide +kernel
theorem dksX1_judge_1 : cX1_judge.data.toList.drop 22 = dktX1_judge_1 := dk_seg dksX1_judge_0 22 rfl rfl
theorem dksX1_judge_2 : cX1_judge.data.toList.drop 44 = dktX1_judge_2 := dk_seg dksX1_judge_1 22 rfl rfl
theorem dX1_judge_0 : decode cX1_judge 0 = .ok (.aload_n 0, 1) := dk_42 (dk_at dksX1_judge_0 0 rfl rfl)
theorem dX1_judge_1 : decode cX1_judge 1 = .ok (.iload_n 1, 1) := dk_27 (dk_at dksX1_judge_0 1 rfl rfl)
theorem dX1_judge_2 : decode cX1_judge 2 = .ok (.invokevirtual 215, 3) := dk_182 0 215 (dk_at dksX1_judge_0 2 rfl rfl)
theorem dX1_judge_5 : decode cX1_judge 5 = .ok (.iconst 0, 1) := dk_3 (dk_at dksX1_judge_0 5 rfl rfl)
theorem dX1_judge_6 : decode cX1_judge 6 = .ok (.istore_n 2, 1) := dk_61 (dk_at dksX1_judge_0 6 rfl rfl)
theorem dX1_judge_7 : decode cX1_judge 7 = .ok (.iload_n 2, 1) := dk_28 (dk_at dksX1_judge_0 7 rfl rfl)
theorem dX1_judge_8 : decode cX1_judge 8 = .ok (.aload_n 0, 1) := dk_42 (dk_at dksX1_judge_0 8 rfl rfl)
theorem dX1_judge_9 : decode cX1_judge 9 = .ok (.getfield 19, 3) := dk_180 0 19 (dk_at dksX1_judge_0 9 rfl rfl)
theorem dX1_judge_12 : decode cX1_judge 12 = .ok (.getfield 206, 3) := dk_180 0 206 (dk_at dksX1_judge_0 12 rfl rfl)
theorem dX1_judge_15 : decode cX1_judge 15 = .ok (.invokevirtual 200, 3) := dk_182 0 200 (dk_at dksX1_judge_0 15 rfl rfl)
theorem dX1_judge_18 : decode cX1_judge 18 = .ok (.if_icmp .ge 29, 3) := dk_162 0 29 (dk_at dksX1_judge_0 18 rfl rfl)
theorem dX1_judge_21 : decode cX1_judge 21 = .ok (.aload_n 0, 1) := dk_42 (dk_at dksX1_judge_0 21 rfl rfl)
theorem dX1_judge_22 : decode cX1_judge 22 = .ok (.getfield 28, 3) := dk_180 0 28 (dk_at dksX1_judge_1 0 rfl rfl)
theorem dX1_judge_25 : decode cX1_judge 25 = .ok (.getfield 267, 3) := dk_180 1 11 (dk_at dksX1_judge_1 3 rfl rfl)
theorem dX1_judge_28 : decode cX1_judge 28 = .ok (.iload_n 2, 1) := dk_28 (dk_at dksX1_judge_1 6 rfl rfl)
theorem dX1_judge_29 : decode cX1_judge 29 = .ok (.iconst 1, 1) := dk_4 (dk_at dksX1_judge_1 7 rfl rfl)
theorem dX1_judge_30 : decode cX1_judge 30 = .ok (.iadd, 1) := dk_96 (dk_at dksX1_judge_1 8 rfl rfl)
theorem dX1_judge_31 : decode cX1_judge 31 = .ok (.aaload, 1) := dk_50 (dk_at dksX1_judge_1 9 rfl rfl)
theorem dX1_judge_32 : decode cX1_judge 32 = .ok (.iload_n 1, 1) := dk_27 (dk_at dksX1_judge_1 10 rfl rfl)
theorem dX1_judge_33 : decode cX1_judge 33 = .ok (.invokestatic 97, 3) := dk_184 0 97 (dk_at dksX1_judge_1 11 rfl rfl)
theorem dX1_judge_36 : decode cX1_judge 36 = .ok (.ifCond .ne 5, 3) := dk_154 0 5 (dk_at dksX1_judge_1 14 rfl rfl)
theorem dX1_judge_39 : decode cX1_judge 39 = .ok (.iload_n 2, 1) := dk_28 (dk_at dksX1_judge_1 17 rfl rfl)
theorem dX1_judge_40 : decode cX1_judge 40 = .ok (.ireturn, 1) := dk_172 (dk_at dksX1_judge_1 18 rfl rfl)
theorem dX1_judge_41 : decode cX1_judge 41 = .ok (.iinc 2 1, 3) := dk_132 2 1 (dk_at dksX1_judge_1 19 rfl rfl)
theorem dX1_judge_44 : decode cX1_judge 44 = .ok (.goto (-37), 3) := dk_167 255 219 (dk_at dksX1_judge_2 0 rfl rfl)
theorem dX1_judge_47 : decode cX1_judge 47 = .ok (.iconst (-1), 1) := dk_2 (dk_at dksX1_judge_2 3 rfl rfl)
theorem dX1_judge_48 : decode cX1_judge 48 = .ok (.ireturn, 1) := dk_172 (dk_at dksX1_judge_2 4 rfl rfl)
abbrev cX1_knows : ByteArray := prog_1_method_35_code
def yX1_knows : MethodName := ⟨RX1, "knows", "(III)Z"⟩
def dkwX1_knows_1 : List UInt8 := [180, 0, 28, 180, 1, 11, 42, 180, 0, 28, 27, 29, 182, 1, 47, 50, 182, 1, 50, 172]
abbrev dktX1_knows_1 : List UInt8 := dkwX1_knows_1 ++ []
def dkwX1_knows_0 : List UInt8 := [42, 27, 182, 0, 234, 42, 28, 182, 0, 215, 42, 29, 182, 1, 8, 42, 180, 0, 28, 27, 28, 42]
abbrev dktX1_knows_0 : List UInt8 := dkwX1_knows_0 ++ dktX1_knows_1
theorem dksX1_knows_0 : cX1_knows.data.toList.drop 0 = dktX1_knows_0 := by decide +kernel
theorem dksX1_knows_1 : cX1_knows.data.toList.drop 22 = dktX1_knows_1 := dk_seg dksX1_knows_0 22 rfl rfl
theorem dX1_knows_0 : decode cX1_knows 0 = .ok (.aload_n 0, 1) := dk_42 (dk_at dksX1_knows_0 0 rfl rfl)
theorem dX1_knows_1 : decode cX1_knows 1 = .ok (.iload_n 1, 1) := dk_27 (dk_at dksX1_knows_0 1 rfl rfl)
theorem dX1_knows_2 : decode cX1_knows 2 = .ok (.invokevirtual 234, 3) := dk_182 0 234 (dk_at dksX1_knows_0 2 rfl rfl)
theorem dX1_knows_5 : decode cX1_knows 5 = .ok (.aload_n 0, 1) := dk_42 (dk_at dksX1_knows_0 5 rfl rfl)
theorem dX1_knows_6 : decode cX1_knows 6 = .ok (.iload_n 2, 1) := dk_28 (dk_at dksX1_knows_0 6 rfl rfl)
theorem dX1_knows_7 : decode cX1_knows 7 = .ok (.invokevirtual 215, 3) := dk_182 0 215 (dk_at dksX1_knows_0 7 rfl rfl)
theorem dX1_knows_10 : decode cX1_knows 10 = .ok (.aload_n 0, 1) := dk_42 (dk_at dksX1_knows_0 10 rfl rfl)
theorem dX1_knows_11 : decode cX1_knows 11 = .ok (.iload_n 3, 1) := dk_29 (dk_at dksX1_knows_0 11 rfl rfl)
theorem dX1_knows_12 : decode cX1_knows 12 = .ok (.invokevirtual 264, 3) := dk_182 1 8 (dk_at dksX1_knows_0 12 rfl rfl)
theorem dX1_knows_15 : decode cX1_knows 15 = .ok (.aload_n 0, 1) := dk_42 (dk_at dksX1_knows_0 15 rfl rfl)
theorem dX1_knows_16 : decode cX1_knows 16 = .ok (.getfield 28, 3) := dk_180 0 28 (dk_at dksX1_knows_0 16 rfl rfl)
theorem dX1_knows_19 : decode cX1_knows 19 = .ok (.iload_n 1, 1) := dk_27 (dk_at dksX1_knows_0 19 rfl rfl)
theorem dX1_knows_20 : decode cX1_knows 20 = .ok (.iload_n 2, 1) := dk_28 (dk_at dksX1_knows_0 20 rfl rfl)
theorem dX1_knows_21 : decode cX1_knows 21 = .ok (.aload_n 0, 1) := dk_42 (dk_at dksX1_knows_0 21 rfl rfl)
theorem dX1_knows_22 : decode cX1_knows 22 = .ok (.getfield 28, 3) := dk_180 0 28 (dk_at dksX1_knows_1 0 rfl rfl)
theorem dX1_knows_25 : decode cX1_knows 25 = .ok (.getfield 267, 3) := dk_180 1 11 (dk_at dksX1_knows_1 3 rfl rfl)
theorem dX1_knows_28 : decode cX1_knows 28 = .ok (.aload_n 0, 1) := dk_42 (dk_at dksX1_knows_1 6 rfl rfl)
theorem dX1_knows_29 : decode cX1_knows 29 = .ok (.getfield 28, 3) := dk_180 0 28 (dk_at dksX1_knows_1 7 rfl rfl)
theorem dX1_knows_32 : decode cX1_knows 32 = .ok (.iload_n 1, 1) := dk_27 (dk_at dksX1_knows_1 10 rfl rfl)
theorem dX1_knows_33 : decode cX1_knows 33 = .ok (.iload_n 3, 1) := dk_29 (dk_at dksX1_knows_1 11 rfl rfl)
theorem dX1_knows_34 : decode cX1_knows 34 = .ok (.invokevirtual 303, 3) := dk_182 1 47 (dk_at dksX1_knows_1 12 rfl rfl)
theorem dX1_knows_37 : decode cX1_knows 37 = .ok (.aaload, 1) := dk_50 (dk_at dksX1_knows_1 15 rfl rfl)
theorem dX1_knows_38 : decode cX1_knows 38 = .ok (.invokevirtual 306, 3) := dk_182 1 50 (dk_at dksX1_knows_1 16 rfl rfl)
theorem dX1_knows_41 : decode cX1_knows 41 = .ok (.ireturn, 1) := dk_172 (dk_at dksX1_knows_1 19 rfl rfl)
abbrev cX1_knowing : ByteArray := prog_1_method_36_code
def yX1_knowing : MethodName := ⟨RX1, "knowing", "(II)I"⟩
def dkwX1_knowing_3 : List UInt8 := [96, 54, 4, 132, 5, 1, 167, 255, 199, 21, 4, 172]
abbrev dktX1_knowing_3 : List UInt8 := dkwX1_knowing_3 ++ []
def dkwX1_knowing_2 : List UInt8 := [21, 5, 45, 180, 1, 11, 45, 27, 28, 182, 1, 47, 50, 182, 1, 50, 153, 0, 7, 4, 167, 0, 4, 3]
abbrev dktX1_knowing_2 : List UInt8 := dkwX1_knowing_2 ++ dktX1_knowing_3
def dkwX1_knowing_1 : List UInt8 := [180, 0, 190, 162, 0, 54, 21, 4, 45, 180, 1, 11, 28, 50, 21, 5, 184, 0, 97, 153, 0, 28, 45, 27]
abbrev dktX1_knowing_1 : List UInt8 := dkwX1_knowing_1 ++ dktX1_knowing_2
def dkwX1_knowing_0 : List UInt8 := [42, 27, 182, 0, 234, 42, 28, 182, 1, 8, 42, 182, 0, 186, 78, 3, 54, 4, 3, 54, 5, 21, 5, 45]
abbrev dktX1_knowing_0 : List UInt8 := dkwX1_knowing_0 ++ dktX1_knowing_1
theorem dksX1_knowing_0 : cX1_knowing.data.toList.drop 0 = dktX1_knowing_0 := by decide +kernel
theorem dksX1_knowing_1 : cX1_knowing.data.toList.drop 24 = dktX1_knowing_1 := dk_seg dksX1_knowing_0 24 rfl rfl
theorem dksX1_knowing_2 : cX1_knowing.data.toList.drop 48 = dktX1_knowing_2 := dk_seg dksX1_knowing_1 24 rfl rfl
theorem dksX1_knowing_3 : cX1_knowing.data.toList.drop 72 = dktX1_knowing_3 := dk_seg dksX1_knowing_2 24 rfl rfl
theorem dX1_knowing_0 : decode cX1_knowing 0 = .ok (.aload_n 0, 1) := dk_42 (dk_at dksX1_knowing_0 0 rfl rfl)
theorem dX1_knowing_1 : decode cX1_knowing 1 = .ok (.iload_n 1, 1) := dk_27 (dk_at dksX1_knowing_0 1 rfl rfl)
theorem dX1_knowing_2 : decode cX1_knowing 2 = .ok (.invokevirtual 234, 3) := dk_182 0 234 (dk_at dksX1_knowing_0 2 rfl rfl)
theorem dX1_knowing_5 : decode cX1_knowing 5 = .ok (.aload_n 0, 1) := dk_42 (dk_at dksX1_knowing_0 5 rfl rfl)
theorem dX1_knowing_6 : decode cX1_knowing 6 = .ok (.iload_n 2, 1) := dk_28 (dk_at dksX1_knowing_0 6 rfl rfl)
theorem dX1_knowing_7 : decode cX1_knowing 7 = .ok (.invokevirtual 264, 3) := dk_182 1 8 (dk_at dksX1_knowing_0 7 rfl rfl)
theorem dX1_knowing_10 : decode cX1_knowing 10 = .ok (.aload_n 0, 1) := dk_42 (dk_at dksX1_knowing_0 10 rfl rfl)
theorem dX1_knowing_11 : decode cX1_knowing 11 = .ok (.invokevirtual 186, 3) := dk_182 0 186 (dk_at dksX1_knowing_0 11 rfl rfl)
theorem dX1_knowing_14 : decode cX1_knowing 14 = .ok (.astore_n 3, 1) := dk_78 (dk_at dksX1_knowing_0 14 rfl rfl)
theorem dX1_knowing_15 : decode cX1_knowing 15 = .ok (.iconst 0, 1) := dk_3 (dk_at dksX1_knowing_0 15 rfl rfl)
theorem dX1_knowing_16 : decode cX1_knowing 16 = .ok (.istore 4, 2) := dk_54 4 (dk_at dksX1_knowing_0 16 rfl rfl)
theorem dX1_knowing_18 : decode cX1_knowing 18 = .ok (.iconst 0, 1) := dk_3 (dk_at dksX1_knowing_0 18 rfl rfl)
theorem dX1_knowing_19 : decode cX1_knowing 19 = .ok (.istore 5, 2) := dk_54 5 (dk_at dksX1_knowing_0 19 rfl rfl)
theorem dX1_knowing_21 : decode cX1_knowing 21 = .ok (.iload 5, 2) := dk_21 5 (dk_at dksX1_knowing_0 21 rfl rfl)
theorem dX1_knowing_23 : decode cX1_knowing 23 = .ok (.aload_n 3, 1) := dk_45 (dk_at dksX1_knowing_0 23 rfl rfl)
theorem dX1_knowing_24 : decode cX1_knowing 24 = .ok (.getfield 190, 3) := dk_180 0 190 (dk_at dksX1_knowing_1 0 rfl rfl)
theorem dX1_knowing_27 : decode cX1_knowing 27 = .ok (.if_icmp .ge 54, 3) := dk_162 0 54 (dk_at dksX1_knowing_1 3 rfl rfl)
theorem dX1_knowing_30 : decode cX1_knowing 30 = .ok (.iload 4, 2) := dk_21 4 (dk_at dksX1_knowing_1 6 rfl rfl)
theorem dX1_knowing_32 : decode cX1_knowing 32 = .ok (.aload_n 3, 1) := dk_45 (dk_at dksX1_knowing_1 8 rfl rfl)
theorem dX1_knowing_33 : decode cX1_knowing 33 = .ok (.getfield 267, 3) := dk_180 1 11 (dk_at dksX1_knowing_1 9 rfl rfl)
theorem dX1_knowing_36 : decode cX1_knowing 36 = .ok (.iload_n 2, 1) := dk_28 (dk_at dksX1_knowing_1 12 rfl rfl)
theorem dX1_knowing_37 : decode cX1_knowing 37 = .ok (.aaload, 1) := dk_50 (dk_at dksX1_knowing_1 13 rfl rfl)
theorem dX1_knowing_38 : decode cX1_knowing 38 = .ok (.iload 5, 2) := dk_21 5 (dk_at dksX1_knowing_1 14 rfl rfl)
theorem dX1_knowing_40 : decode cX1_knowing 40 = .ok (.invokestatic 97, 3) := dk_184 0 97 (dk_at dksX1_knowing_1 16 rfl rfl)
theorem dX1_knowing_43 : decode cX1_knowing 43 = .ok (.ifCond .eq 28, 3) := dk_153 0 28 (dk_at dksX1_knowing_1 19 rfl rfl)
theorem dX1_knowing_46 : decode cX1_knowing 46 = .ok (.aload_n 3, 1) := dk_45 (dk_at dksX1_knowing_1 22 rfl rfl)
theorem dX1_knowing_47 : decode cX1_knowing 47 = .ok (.iload_n 1, 1) := dk_27 (dk_at dksX1_knowing_1 23 rfl rfl)
theorem dX1_knowing_48 : decode cX1_knowing 48 = .ok (.iload 5, 2) := dk_21 5 (dk_at dksX1_knowing_2 0 rfl rfl)
theorem dX1_knowing_50 : decode cX1_knowing 50 = .ok (.aload_n 3, 1) := dk_45 (dk_at dksX1_knowing_2 2 rfl rfl)
theorem dX1_knowing_51 : decode cX1_knowing 51 = .ok (.getfield 267, 3) := dk_180 1 11 (dk_at dksX1_knowing_2 3 rfl rfl)
theorem dX1_knowing_54 : decode cX1_knowing 54 = .ok (.aload_n 3, 1) := dk_45 (dk_at dksX1_knowing_2 6 rfl rfl)
theorem dX1_knowing_55 : decode cX1_knowing 55 = .ok (.iload_n 1, 1) := dk_27 (dk_at dksX1_knowing_2 7 rfl rfl)
theorem dX1_knowing_56 : decode cX1_knowing 56 = .ok (.iload_n 2, 1) := dk_28 (dk_at dksX1_knowing_2 8 rfl rfl)
theorem dX1_knowing_57 : decode cX1_knowing 57 = .ok (.invokevirtual 303, 3) := dk_182 1 47 (dk_at dksX1_knowing_2 9 rfl rfl)
theorem dX1_knowing_60 : decode cX1_knowing 60 = .ok (.aaload, 1) := dk_50 (dk_at dksX1_knowing_2 12 rfl rfl)
theorem dX1_knowing_61 : decode cX1_knowing 61 = .ok (.invokevirtual 306, 3) := dk_182 1 50 (dk_at dksX1_knowing_2 13 rfl rfl)
theorem dX1_knowing_64 : decode cX1_knowing 64 = .ok (.ifCond .eq 7, 3) := dk_153 0 7 (dk_at dksX1_knowing_2 16 rfl rfl)
theorem dX1_knowing_67 : decode cX1_knowing 67 = .ok (.iconst 1, 1) := dk_4 (dk_at dksX1_knowing_2 19 rfl rfl)
theorem dX1_knowing_68 : decode cX1_knowing 68 = .ok (.goto 4, 3) := dk_167 0 4 (dk_at dksX1_knowing_2 20 rfl rfl)
theorem dX1_knowing_71 : decode cX1_knowing 71 = .ok (.iconst 0, 1) := dk_3 (dk_at dksX1_knowing_2 23 rfl rfl)
theorem dX1_knowing_72 : decode cX1_knowing 72 = .ok (.iadd, 1) := dk_96 (dk_at dksX1_knowing_3 0 rfl rfl)
theorem dX1_knowing_73 : decode cX1_knowing 73 = .ok (.istore 4, 2) := dk_54 4 (dk_at dksX1_knowing_3 1 rfl rfl)
theorem dX1_knowing_75 : decode cX1_knowing 75 = .ok (.iinc 5 1, 3) := dk_132 5 1 (dk_at dksX1_knowing_3 3 rfl rfl)
theorem dX1_knowing_78 : decode cX1_knowing 78 = .ok (.goto (-57), 3) := dk_167 255 199 (dk_at dksX1_knowing_3 6 rfl rfl)
theorem dX1_knowing_81 : decode cX1_knowing 81 = .ok (.iload 4, 2) := dk_21 4 (dk_at dksX1_knowing_3 9 rfl rfl)
theorem dX1_knowing_83 : decode cX1_knowing 83 = .ok (.ireturn, 1) := dk_172 (dk_at dksX1_knowing_3 11 rfl rfl)
abbrev cX1_heap : ByteArray := prog_1_method_37_code
def yX1_heap : MethodName := ⟨RX1, "heap", "(III)I"⟩
def dkwX1_heap_2 : List UInt8 := [180, 0, 28, 180, 0, 237, 27, 50, 28, 46, 46, 172]
abbrev dktX1_heap_2 : List UInt8 := dkwX1_heap_2 ++ []
def dkwX1_heap_1 : List UInt8 := [180, 1, 11, 42, 180, 0, 28, 27, 29, 182, 1, 47, 50, 182, 1, 54, 42, 180, 0, 28, 180, 1, 58, 42]
abbrev dktX1_heap_1 : List UInt8 := dkwX1_heap_1 ++ dktX1_heap_2
def dkwX1_heap_0 : List UInt8 := [42, 27, 182, 0, 234, 42, 28, 182, 0, 215, 42, 29, 182, 1, 8, 42, 180, 0, 28, 27, 42, 180, 0, 28]
abbrev dktX1_heap_0 : List UInt8 := dkwX1_heap_0 ++ dktX1_heap_1
theorem dksX1_heap_0 : cX1_heap.data.toList.drop 0 = dktX1_heap_0 := by decide +kernel
theorem dksX1_heap_1 : cX1_heap.data.toList.drop 24 = dktX1_heap_1 := dk_seg dksX1_heap_0 24 rfl rfl
theorem dksX1_heap_2 : cX1_heap.data.toList.drop 48 = dktX1_heap_2 := dk_seg dksX1_heap_1 24 rfl rfl
theorem dX1_heap_0 : decode cX1_heap 0 = .ok (.aload_n 0, 1) := dk_42 (dk_at dksX1_heap_0 0 rfl rfl)
theorem dX1_heap_1 : decode cX1_heap 1 = .ok (.iload_n 1, 1) := dk_27 (dk_at dksX1_heap_0 1 rfl rfl)
theorem dX1_heap_2 : decode cX1_heap 2 = .ok (.invokevirtual 234, 3) := dk_182 0 234 (dk_at dksX1_heap_0 2 rfl rfl)
theorem dX1_heap_5 : decode cX1_heap 5 = .ok (.aload_n 0, 1) := dk_42 (dk_at dksX1_heap_0 5 rfl rfl)
theorem dX1_heap_6 : decode cX1_heap 6 = .ok (.iload_n 2, 1) := dk_28 (dk_at dksX1_heap_0 6 rfl rfl)
theorem dX1_heap_7 : decode cX1_heap 7 = .ok (.invokevirtual 215, 3) := dk_182 0 215 (dk_at dksX1_heap_0 7 rfl rfl)
theorem dX1_heap_10 : decode cX1_heap 10 = .ok (.aload_n 0, 1) := dk_42 (dk_at dksX1_heap_0 10 rfl rfl)
theorem dX1_heap_11 : decode cX1_heap 11 = .ok (.iload_n 3, 1) := dk_29 (dk_at dksX1_heap_0 11 rfl rfl)
theorem dX1_heap_12 : decode cX1_heap 12 = .ok (.invokevirtual 264, 3) := dk_182 1 8 (dk_at dksX1_heap_0 12 rfl rfl)
theorem dX1_heap_15 : decode cX1_heap 15 = .ok (.aload_n 0, 1) := dk_42 (dk_at dksX1_heap_0 15 rfl rfl)
theorem dX1_heap_16 : decode cX1_heap 16 = .ok (.getfield 28, 3) := dk_180 0 28 (dk_at dksX1_heap_0 16 rfl rfl)
theorem dX1_heap_19 : decode cX1_heap 19 = .ok (.iload_n 1, 1) := dk_27 (dk_at dksX1_heap_0 19 rfl rfl)
theorem dX1_heap_20 : decode cX1_heap 20 = .ok (.aload_n 0, 1) := dk_42 (dk_at dksX1_heap_0 20 rfl rfl)
theorem dX1_heap_21 : decode cX1_heap 21 = .ok (.getfield 28, 3) := dk_180 0 28 (dk_at dksX1_heap_0 21 rfl rfl)
theorem dX1_heap_24 : decode cX1_heap 24 = .ok (.getfield 267, 3) := dk_180 1 11 (dk_at dksX1_heap_1 0 rfl rfl)
theorem dX1_heap_27 : decode cX1_heap 27 = .ok (.aload_n 0, 1) := dk_42 (dk_at dksX1_heap_1 3 rfl rfl)
theorem dX1_heap_28 : decode cX1_heap 28 = .ok (.getfield 28, 3) := dk_180 0 28 (dk_at dksX1_heap_1 4 rfl rfl)
theorem dX1_heap_31 : decode cX1_heap 31 = .ok (.iload_n 1, 1) := dk_27 (dk_at dksX1_heap_1 7 rfl rfl)
theorem dX1_heap_32 : decode cX1_heap 32 = .ok (.iload_n 3, 1) := dk_29 (dk_at dksX1_heap_1 8 rfl rfl)
theorem dX1_heap_33 : decode cX1_heap 33 = .ok (.invokevirtual 303, 3) := dk_182 1 47 (dk_at dksX1_heap_1 9 rfl rfl)
theorem dX1_heap_36 : decode cX1_heap 36 = .ok (.aaload, 1) := dk_50 (dk_at dksX1_heap_1 12 rfl rfl)
theorem dX1_heap_37 : decode cX1_heap 37 = .ok (.invokevirtual 310, 3) := dk_182 1 54 (dk_at dksX1_heap_1 13 rfl rfl)
theorem dX1_heap_40 : decode cX1_heap 40 = .ok (.aload_n 0, 1) := dk_42 (dk_at dksX1_heap_1 16 rfl rfl)
theorem dX1_heap_41 : decode cX1_heap 41 = .ok (.getfield 28, 3) := dk_180 0 28 (dk_at dksX1_heap_1 17 rfl rfl)
theorem dX1_heap_44 : decode cX1_heap 44 = .ok (.getfield 314, 3) := dk_180 1 58 (dk_at dksX1_heap_1 20 rfl rfl)
theorem dX1_heap_47 : decode cX1_heap 47 = .ok (.aload_n 0, 1) := dk_42 (dk_at dksX1_heap_1 23 rfl rfl)
theorem dX1_heap_48 : decode cX1_heap 48 = .ok (.getfield 28, 3) := dk_180 0 28 (dk_at dksX1_heap_2 0 rfl rfl)
theorem dX1_heap_51 : decode cX1_heap 51 = .ok (.getfield 237, 3) := dk_180 0 237 (dk_at dksX1_heap_2 3 rfl rfl)
theorem dX1_heap_54 : decode cX1_heap 54 = .ok (.iload_n 1, 1) := dk_27 (dk_at dksX1_heap_2 6 rfl rfl)
theorem dX1_heap_55 : decode cX1_heap 55 = .ok (.aaload, 1) := dk_50 (dk_at dksX1_heap_2 7 rfl rfl)
theorem dX1_heap_56 : decode cX1_heap 56 = .ok (.iload_n 2, 1) := dk_28 (dk_at dksX1_heap_2 8 rfl rfl)
theorem dX1_heap_57 : decode cX1_heap 57 = .ok (.iaload, 1) := dk_46 (dk_at dksX1_heap_2 9 rfl rfl)
theorem dX1_heap_58 : decode cX1_heap 58 = .ok (.iaload, 1) := dk_46 (dk_at dksX1_heap_2 10 rfl rfl)
theorem dX1_heap_59 : decode cX1_heap 59 = .ok (.ireturn, 1) := dk_172 (dk_at dksX1_heap_2 11 rfl rfl)
abbrev cX1_strikes : ByteArray := prog_1_method_38_code
def yX1_strikes : MethodName := ⟨RX1, "strikes", "(I)I"⟩
def dkwX1_strikes_4 : List UInt8 := [160, 0, 8, 21, 4, 167, 0, 8, 3, 29, 184, 0, 231, 172]
abbrev dktX1_strikes_4 : List UInt8 := dkwX1_strikes_4 ++ []
def dkwX1_strikes_3 : List UInt8 := [21, 6, 29, 163, 0, 6, 167, 0, 10, 21, 6, 62, 21, 5, 54, 4, 132, 5, 1, 167, 255, 197, 27, 4]
abbrev dktX1_strikes_3 : List UInt8 := dkwX1_strikes_3 ++ dktX1_strikes_4
def dkwX1_strikes_2 : List UInt8 := [180, 1, 11, 21, 5, 50, 184, 1, 15, 44, 180, 1, 11, 21, 5, 4, 96, 50, 184, 1, 15, 100, 54, 6]
abbrev dktX1_strikes_2 : List UInt8 := dkwX1_strikes_2 ++ dktX1_strikes_3
def dkwX1_strikes_1 : List UInt8 := [2, 54, 4, 3, 54, 5, 21, 5, 42, 180, 0, 19, 180, 0, 206, 182, 0, 200, 162, 0, 50, 44]
abbrev dktX1_strikes_1 : List UInt8 := dkwX1_strikes_1 ++ dktX1_strikes_2
def dkwX1_strikes_0 : List UInt8 := [27, 153, 0, 8, 27, 4, 160, 0, 7, 4, 167, 0, 4, 3, 184, 0, 155, 42, 182, 0, 186, 77, 2, 62]
abbrev dktX1_strikes_0 : List UInt8 := dkwX1_strikes_0 ++ dktX1_strikes_1
theorem dksX1_strikes_0 : cX1_strikes.data.toList.drop 0 = dktX1_strikes_0 := by decide +kernel
theorem dksX1_strikes_1 : cX1_strikes.data.toList.drop 24 = dktX1_strikes_1 := dk_seg dksX1_strikes_0 24 rfl rfl
theorem dksX1_strikes_2 : cX1_strikes.data.toList.drop 46 = dktX1_strikes_2 := dk_seg dksX1_strikes_1 22 rfl rfl
theorem dksX1_strikes_3 : cX1_strikes.data.toList.drop 70 = dktX1_strikes_3 := dk_seg dksX1_strikes_2 24 rfl rfl
theorem dksX1_strikes_4 : cX1_strikes.data.toList.drop 94 = dktX1_strikes_4 := dk_seg dksX1_strikes_3 24 rfl rfl
theorem dX1_strikes_0 : decode cX1_strikes 0 = .ok (.iload_n 1, 1) := dk_27 (dk_at dksX1_strikes_0 0 rfl rfl)
theorem dX1_strikes_1 : decode cX1_strikes 1 = .ok (.ifCond .eq 8, 3) := dk_153 0 8 (dk_at dksX1_strikes_0 1 rfl rfl)
theorem dX1_strikes_4 : decode cX1_strikes 4 = .ok (.iload_n 1, 1) := dk_27 (dk_at dksX1_strikes_0 4 rfl rfl)
theorem dX1_strikes_5 : decode cX1_strikes 5 = .ok (.iconst 1, 1) := dk_4 (dk_at dksX1_strikes_0 5 rfl rfl)
theorem dX1_strikes_6 : decode cX1_strikes 6 = .ok (.if_icmp .ne 7, 3) := dk_160 0 7 (dk_at dksX1_strikes_0 6 rfl rfl)
theorem dX1_strikes_9 : decode cX1_strikes 9 = .ok (.iconst 1, 1) := dk_4 (dk_at dksX1_strikes_0 9 rfl rfl)
theorem dX1_strikes_10 : decode cX1_strikes 10 = .ok (.goto 4, 3) := dk_167 0 4 (dk_at dksX1_strikes_0 10 rfl rfl)
theorem dX1_strikes_13 : decode cX1_strikes 13 = .ok (.iconst 0, 1) := dk_3 (dk_at dksX1_strikes_0 13 rfl rfl)
theorem dX1_strikes_14 : decode cX1_strikes 14 = .ok (.invokestatic 155, 3) := dk_184 0 155 (dk_at dksX1_strikes_0 14 rfl rfl)
theorem dX1_strikes_17 : decode cX1_strikes 17 = .ok (.aload_n 0, 1) := dk_42 (dk_at dksX1_strikes_0 17 rfl rfl)
theorem dX1_strikes_18 : decode cX1_strikes 18 = .ok (.invokevirtual 186, 3) := dk_182 0 186 (dk_at dksX1_strikes_0 18 rfl rfl)
theorem dX1_strikes_21 : decode cX1_strikes 21 = .ok (.astore_n 2, 1) := dk_77 (dk_at dksX1_strikes_0 21 rfl rfl)
theorem dX1_strikes_22 : decode cX1_strikes 22 = .ok (.iconst (-1), 1) := dk_2 (dk_at dksX1_strikes_0 22 rfl rfl)
theorem dX1_strikes_23 : decode cX1_strikes 23 = .ok (.istore_n 3, 1) := dk_62 (dk_at dksX1_strikes_0 23 rfl rfl)
theorem dX1_strikes_24 : decode cX1_strikes 24 = .ok (.iconst (-1), 1) := dk_2 (dk_at dksX1_strikes_1 0 rfl rfl)
theorem dX1_strikes_25 : decode cX1_strikes 25 = .ok (.istore 4, 2) := dk_54 4 (dk_at dksX1_strikes_1 1 rfl rfl)
theorem dX1_strikes_27 : decode cX1_strikes 27 = .ok (.iconst 0, 1) := dk_3 (dk_at dksX1_strikes_1 3 rfl rfl)
theorem dX1_strikes_28 : decode cX1_strikes 28 = .ok (.istore 5, 2) := dk_54 5 (dk_at dksX1_strikes_1 4 rfl rfl)
theorem dX1_strikes_30 : decode cX1_strikes 30 = .ok (.iload 5, 2) := dk_21 5 (dk_at dksX1_strikes_1 6 rfl rfl)
theorem dX1_strikes_32 : decode cX1_strikes 32 = .ok (.aload_n 0, 1) := dk_42 (dk_at dksX1_strikes_1 8 rfl rfl)
theorem dX1_strikes_33 : decode cX1_strikes 33 = .ok (.getfield 19, 3) := dk_180 0 19 (dk_at dksX1_strikes_1 9 rfl rfl)
theorem dX1_strikes_36 : decode cX1_strikes 36 = .ok (.getfield 206, 3) := dk_180 0 206 (dk_at dksX1_strikes_1 12 rfl rfl)
theorem dX1_strikes_39 : decode cX1_strikes 39 = .ok (.invokevirtual 200, 3) := dk_182 0 200 (dk_at dksX1_strikes_1 15 rfl rfl)
theorem dX1_strikes_42 : decode cX1_strikes 42 = .ok (.if_icmp .ge 50, 3) := dk_162 0 50 (dk_at dksX1_strikes_1 18 rfl rfl)
theorem dX1_strikes_45 : decode cX1_strikes 45 = .ok (.aload_n 2, 1) := dk_44 (dk_at dksX1_strikes_1 21 rfl rfl)
theorem dX1_strikes_46 : decode cX1_strikes 46 = .ok (.getfield 267, 3) := dk_180 1 11 (dk_at dksX1_strikes_2 0 rfl rfl)
theorem dX1_strikes_49 : decode cX1_strikes 49 = .ok (.iload 5, 2) := dk_21 5 (dk_at dksX1_strikes_2 3 rfl rfl)
theorem dX1_strikes_51 : decode cX1_strikes 51 = .ok (.aaload, 1) := dk_50 (dk_at dksX1_strikes_2 5 rfl rfl)
theorem dX1_strikes_52 : decode cX1_strikes 52 = .ok (.invokestatic 271, 3) := dk_184 1 15 (dk_at dksX1_strikes_2 6 rfl rfl)
theorem dX1_strikes_55 : decode cX1_strikes 55 = .ok (.aload_n 2, 1) := dk_44 (dk_at dksX1_strikes_2 9 rfl rfl)
theorem dX1_strikes_56 : decode cX1_strikes 56 = .ok (.getfield 267, 3) := dk_180 1 11 (dk_at dksX1_strikes_2 10 rfl rfl)
theorem dX1_strikes_59 : decode cX1_strikes 59 = .ok (.iload 5, 2) := dk_21 5 (dk_at dksX1_strikes_2 13 rfl rfl)
theorem dX1_strikes_61 : decode cX1_strikes 61 = .ok (.iconst 1, 1) := dk_4 (dk_at dksX1_strikes_2 15 rfl rfl)
theorem dX1_strikes_62 : decode cX1_strikes 62 = .ok (.iadd, 1) := dk_96 (dk_at dksX1_strikes_2 16 rfl rfl)
theorem dX1_strikes_63 : decode cX1_strikes 63 = .ok (.aaload, 1) := dk_50 (dk_at dksX1_strikes_2 17 rfl rfl)
theorem dX1_strikes_64 : decode cX1_strikes 64 = .ok (.invokestatic 271, 3) := dk_184 1 15 (dk_at dksX1_strikes_2 18 rfl rfl)
theorem dX1_strikes_67 : decode cX1_strikes 67 = .ok (.isub, 1) := dk_100 (dk_at dksX1_strikes_2 21 rfl rfl)
theorem dX1_strikes_68 : decode cX1_strikes 68 = .ok (.istore 6, 2) := dk_54 6 (dk_at dksX1_strikes_2 22 rfl rfl)
theorem dX1_strikes_70 : decode cX1_strikes 70 = .ok (.iload 6, 2) := dk_21 6 (dk_at dksX1_strikes_3 0 rfl rfl)
theorem dX1_strikes_72 : decode cX1_strikes 72 = .ok (.iload_n 3, 1) := dk_29 (dk_at dksX1_strikes_3 2 rfl rfl)
theorem dX1_strikes_73 : decode cX1_strikes 73 = .ok (.if_icmp .gt 6, 3) := dk_163 0 6 (dk_at dksX1_strikes_3 3 rfl rfl)
theorem dX1_strikes_76 : decode cX1_strikes 76 = .ok (.goto 10, 3) := dk_167 0 10 (dk_at dksX1_strikes_3 6 rfl rfl)
theorem dX1_strikes_79 : decode cX1_strikes 79 = .ok (.iload 6, 2) := dk_21 6 (dk_at dksX1_strikes_3 9 rfl rfl)
theorem dX1_strikes_81 : decode cX1_strikes 81 = .ok (.istore_n 3, 1) := dk_62 (dk_at dksX1_strikes_3 11 rfl rfl)
theorem dX1_strikes_82 : decode cX1_strikes 82 = .ok (.iload 5, 2) := dk_21 5 (dk_at dksX1_strikes_3 12 rfl rfl)
theorem dX1_strikes_84 : decode cX1_strikes 84 = .ok (.istore 4, 2) := dk_54 4 (dk_at dksX1_strikes_3 14 rfl rfl)
theorem dX1_strikes_86 : decode cX1_strikes 86 = .ok (.iinc 5 1, 3) := dk_132 5 1 (dk_at dksX1_strikes_3 16 rfl rfl)
theorem dX1_strikes_89 : decode cX1_strikes 89 = .ok (.goto (-59), 3) := dk_167 255 197 (dk_at dksX1_strikes_3 19 rfl rfl)
theorem dX1_strikes_92 : decode cX1_strikes 92 = .ok (.iload_n 1, 1) := dk_27 (dk_at dksX1_strikes_3 22 rfl rfl)
theorem dX1_strikes_93 : decode cX1_strikes 93 = .ok (.iconst 1, 1) := dk_4 (dk_at dksX1_strikes_3 23 rfl rfl)
theorem dX1_strikes_94 : decode cX1_strikes 94 = .ok (.if_icmp .ne 8, 3) := dk_160 0 8 (dk_at dksX1_strikes_4 0 rfl rfl)
theorem dX1_strikes_97 : decode cX1_strikes 97 = .ok (.iload 4, 2) := dk_21 4 (dk_at dksX1_strikes_4 3 rfl rfl)
theorem dX1_strikes_99 : decode cX1_strikes 99 = .ok (.goto 8, 3) := dk_167 0 8 (dk_at dksX1_strikes_4 5 rfl rfl)
theorem dX1_strikes_102 : decode cX1_strikes 102 = .ok (.iconst 0, 1) := dk_3 (dk_at dksX1_strikes_4 8 rfl rfl)
theorem dX1_strikes_103 : decode cX1_strikes 103 = .ok (.iload_n 3, 1) := dk_29 (dk_at dksX1_strikes_4 9 rfl rfl)
theorem dX1_strikes_104 : decode cX1_strikes 104 = .ok (.invokestatic 231, 3) := dk_184 0 231 (dk_at dksX1_strikes_4 10 rfl rfl)
theorem dX1_strikes_107 : decode cX1_strikes 107 = .ok (.ireturn, 1) := dk_172 (dk_at dksX1_strikes_4 13 rfl rfl)
abbrev cX1_ends : ByteArray := prog_1_method_40_code
def yX1_ends : MethodName := ⟨RX1, "ends", "(II)I"⟩
def dkwX1_ends_1 : List UInt8 := [153, 0, 7, 4, 167, 0, 4, 3, 184, 0, 155, 42, 27, 28, 182, 1, 62, 182, 1, 65, 172]
abbrev dktX1_ends_1 : List UInt8 := dkwX1_ends_1 ++ []
def dkwX1_ends_0 : List UInt8 := [27, 133, 10, 20, 1, 60, 184, 0, 151, 153, 0, 20, 28, 133, 27, 133, 20, 1, 60, 184, 0, 151]
abbrev dktX1_ends_0 : List UInt8 := dkwX1_ends_0 ++ dktX1_ends_1
theorem dksX1_ends_0 : cX1_ends.data.toList.drop 0 = dktX1_ends_0 := by decide +kernel
theorem dksX1_ends_1 : cX1_ends.data.toList.drop 22 = dktX1_ends_1 := dk_seg dksX1_ends_0 22 rfl rfl
theorem dX1_ends_0 : decode cX1_ends 0 = .ok (.iload_n 1, 1) := dk_27 (dk_at dksX1_ends_0 0 rfl rfl)
theorem dX1_ends_1 : decode cX1_ends 1 = .ok (.i2l, 1) := dk_133 (dk_at dksX1_ends_0 1 rfl rfl)
theorem dX1_ends_2 : decode cX1_ends 2 = .ok (.lconst 1, 1) := dk_10 (dk_at dksX1_ends_0 2 rfl rfl)
theorem dX1_ends_3 : decode cX1_ends 3 = .ok (.ldc2_w 316, 3) := dk_20 1 60 (dk_at dksX1_ends_0 3 rfl rfl)
theorem dX1_ends_6 : decode cX1_ends 6 = .ok (.invokestatic 151, 3) := dk_184 0 151 (dk_at dksX1_ends_0 6 rfl rfl)
theorem dX1_ends_9 : decode cX1_ends 9 = .ok (.ifCond .eq 20, 3) := dk_153 0 20 (dk_at dksX1_ends_0 9 rfl rfl)
theorem dX1_ends_12 : decode cX1_ends 12 = .ok (.iload_n 2, 1) := dk_28 (dk_at dksX1_ends_0 12 rfl rfl)
theorem dX1_ends_13 : decode cX1_ends 13 = .ok (.i2l, 1) := dk_133 (dk_at dksX1_ends_0 13 rfl rfl)
theorem dX1_ends_14 : decode cX1_ends 14 = .ok (.iload_n 1, 1) := dk_27 (dk_at dksX1_ends_0 14 rfl rfl)
theorem dX1_ends_15 : decode cX1_ends 15 = .ok (.i2l, 1) := dk_133 (dk_at dksX1_ends_0 15 rfl rfl)
theorem dX1_ends_16 : decode cX1_ends 16 = .ok (.ldc2_w 316, 3) := dk_20 1 60 (dk_at dksX1_ends_0 16 rfl rfl)
theorem dX1_ends_19 : decode cX1_ends 19 = .ok (.invokestatic 151, 3) := dk_184 0 151 (dk_at dksX1_ends_0 19 rfl rfl)
theorem dX1_ends_22 : decode cX1_ends 22 = .ok (.ifCond .eq 7, 3) := dk_153 0 7 (dk_at dksX1_ends_1 0 rfl rfl)
theorem dX1_ends_25 : decode cX1_ends 25 = .ok (.iconst 1, 1) := dk_4 (dk_at dksX1_ends_1 3 rfl rfl)
theorem dX1_ends_26 : decode cX1_ends 26 = .ok (.goto 4, 3) := dk_167 0 4 (dk_at dksX1_ends_1 4 rfl rfl)
theorem dX1_ends_29 : decode cX1_ends 29 = .ok (.iconst 0, 1) := dk_3 (dk_at dksX1_ends_1 7 rfl rfl)
theorem dX1_ends_30 : decode cX1_ends 30 = .ok (.invokestatic 155, 3) := dk_184 0 155 (dk_at dksX1_ends_1 8 rfl rfl)
theorem dX1_ends_33 : decode cX1_ends 33 = .ok (.aload_n 0, 1) := dk_42 (dk_at dksX1_ends_1 11 rfl rfl)
theorem dX1_ends_34 : decode cX1_ends 34 = .ok (.iload_n 1, 1) := dk_27 (dk_at dksX1_ends_1 12 rfl rfl)
theorem dX1_ends_35 : decode cX1_ends 35 = .ok (.iload_n 2, 1) := dk_28 (dk_at dksX1_ends_1 13 rfl rfl)
theorem dX1_ends_36 : decode cX1_ends 36 = .ok (.invokevirtual 318, 3) := dk_182 1 62 (dk_at dksX1_ends_1 14 rfl rfl)
theorem dX1_ends_39 : decode cX1_ends 39 = .ok (.invokevirtual 321, 3) := dk_182 1 65 (dk_at dksX1_ends_1 17 rfl rfl)
theorem dX1_ends_42 : decode cX1_ends 42 = .ok (.ireturn, 1) := dk_172 (dk_at dksX1_ends_1 20 rfl rfl)
abbrev cX1_reaching : ByteArray := prog_1_method_39_code
def yX1_reaching : MethodName := ⟨RX1, "reaching", "(II)LTwoSlips$Course;"⟩
def dkwX1_reaching_1 : List UInt8 := [180, 0, 32, 2, 2, 182, 0, 144, 176]
abbrev dktX1_reaching_1 : List UInt8 := dkwX1_reaching_1 ++ []
def dkwX1_reaching_0 : List UInt8 := [42, 180, 0, 32, 2, 181, 0, 148, 42, 180, 0, 32, 42, 180, 0, 19, 27, 28, 182, 0, 140, 42]
abbrev dktX1_reaching_0 : List UInt8 := dkwX1_reaching_0 ++ dktX1_reaching_1
theorem dksX1_reaching_0 : cX1_reaching.data.toList.drop 0 = dktX1_reaching_0 := by decide +kernel
theorem dksX1_reaching_1 : cX1_reaching.data.toList.drop 22 = dktX1_reaching_1 := dk_seg dksX1_reaching_0 22 rfl rfl
theorem dX1_reaching_0 : decode cX1_reaching 0 = .ok (.aload_n 0, 1) := dk_42 (dk_at dksX1_reaching_0 0 rfl rfl)
theorem dX1_reaching_1 : decode cX1_reaching 1 = .ok (.getfield 32, 3) := dk_180 0 32 (dk_at dksX1_reaching_0 1 rfl rfl)
theorem dX1_reaching_4 : decode cX1_reaching 4 = .ok (.iconst (-1), 1) := dk_2 (dk_at dksX1_reaching_0 4 rfl rfl)
theorem dX1_reaching_5 : decode cX1_reaching 5 = .ok (.putfield 148, 3) := dk_181 0 148 (dk_at dksX1_reaching_0 5 rfl rfl)
theorem dX1_reaching_8 : decode cX1_reaching 8 = .ok (.aload_n 0, 1) := dk_42 (dk_at dksX1_reaching_0 8 rfl rfl)
theorem dX1_reaching_9 : decode cX1_reaching 9 = .ok (.getfield 32, 3) := dk_180 0 32 (dk_at dksX1_reaching_0 9 rfl rfl)
theorem dX1_reaching_12 : decode cX1_reaching 12 = .ok (.aload_n 0, 1) := dk_42 (dk_at dksX1_reaching_0 12 rfl rfl)
theorem dX1_reaching_13 : decode cX1_reaching 13 = .ok (.getfield 19, 3) := dk_180 0 19 (dk_at dksX1_reaching_0 13 rfl rfl)
theorem dX1_reaching_16 : decode cX1_reaching 16 = .ok (.iload_n 1, 1) := dk_27 (dk_at dksX1_reaching_0 16 rfl rfl)
theorem dX1_reaching_17 : decode cX1_reaching 17 = .ok (.iload_n 2, 1) := dk_28 (dk_at dksX1_reaching_0 17 rfl rfl)
theorem dX1_reaching_18 : decode cX1_reaching 18 = .ok (.invokevirtual 140, 3) := dk_182 0 140 (dk_at dksX1_reaching_0 18 rfl rfl)
theorem dX1_reaching_21 : decode cX1_reaching 21 = .ok (.aload_n 0, 1) := dk_42 (dk_at dksX1_reaching_0 21 rfl rfl)
theorem dX1_reaching_22 : decode cX1_reaching 22 = .ok (.getfield 32, 3) := dk_180 0 32 (dk_at dksX1_reaching_1 0 rfl rfl)
theorem dX1_reaching_25 : decode cX1_reaching 25 = .ok (.iconst (-1), 1) := dk_2 (dk_at dksX1_reaching_1 3 rfl rfl)
theorem dX1_reaching_26 : decode cX1_reaching 26 = .ok (.iconst (-1), 1) := dk_2 (dk_at dksX1_reaching_1 4 rfl rfl)
theorem dX1_reaching_27 : decode cX1_reaching 27 = .ok (.invokevirtual 144, 3) := dk_182 0 144 (dk_at dksX1_reaching_1 5 rfl rfl)
theorem dX1_reaching_30 : decode cX1_reaching 30 = .ok (.areturn, 1) := dk_176 (dk_at dksX1_reaching_1 8 rfl rfl)
abbrev cX1_upTo : ByteArray := prog_1_method_41_code
def yX1_upTo : MethodName := ⟨RX1, "upTo", "(I)I"⟩
def dkwX1_upTo_3 : List UInt8 := [28, 172]
abbrev dktX1_upTo_3 : List UInt8 := dkwX1_upTo_3 ++ []
def dkwX1_upTo_2 : List UInt8 := [182, 1, 65, 4, 159, 0, 6, 167, 0, 11, 27, 154, 0, 5, 29, 172, 29, 61, 132, 3, 1, 167, 255, 217]
abbrev dktX1_upTo_2 : List UInt8 := dkwX1_upTo_2 ++ dktX1_upTo_3
def dkwX1_upTo_1 : List UInt8 := [180, 0, 134, 62, 29, 16, 60, 163, 0, 39, 42, 42, 180, 0, 19, 180, 0, 134, 29, 182, 1, 62]
abbrev dktX1_upTo_1 : List UInt8 := dkwX1_upTo_1 ++ dktX1_upTo_2
def dkwX1_upTo_0 : List UInt8 := [27, 153, 0, 8, 27, 4, 160, 0, 7, 4, 167, 0, 4, 3, 184, 0, 155, 2, 61, 42, 180, 0, 19]
abbrev dktX1_upTo_0 : List UInt8 := dkwX1_upTo_0 ++ dktX1_upTo_1
theorem dksX1_upTo_0 : cX1_upTo.data.toList.drop 0 = dktX1_upTo_0 := by decide +kernel
theorem dksX1_upTo_1 : cX1_upTo.data.toList.drop 23 = dktX1_upTo_1 := dk_seg dksX1_upTo_0 23 rfl rfl
theorem dksX1_upTo_2 : cX1_upTo.data.toList.drop 45 = dktX1_upTo_2 := dk_seg dksX1_upTo_1 22 rfl rfl
theorem dksX1_upTo_3 : cX1_upTo.data.toList.drop 69 = dktX1_upTo_3 := dk_seg dksX1_upTo_2 24 rfl rfl
theorem dX1_upTo_0 : decode cX1_upTo 0 = .ok (.iload_n 1, 1) := dk_27 (dk_at dksX1_upTo_0 0 rfl rfl)
theorem dX1_upTo_1 : decode cX1_upTo 1 = .ok (.ifCond .eq 8, 3) := dk_153 0 8 (dk_at dksX1_upTo_0 1 rfl rfl)
theorem dX1_upTo_4 : decode cX1_upTo 4 = .ok (.iload_n 1, 1) := dk_27 (dk_at dksX1_upTo_0 4 rfl rfl)
theorem dX1_upTo_5 : decode cX1_upTo 5 = .ok (.iconst 1, 1) := dk_4 (dk_at dksX1_upTo_0 5 rfl rfl)
theorem dX1_upTo_6 : decode cX1_upTo 6 = .ok (.if_icmp .ne 7, 3) := dk_160 0 7 (dk_at dksX1_upTo_0 6 rfl rfl)
theorem dX1_upTo_9 : decode cX1_upTo 9 = .ok (.iconst 1, 1) := dk_4 (dk_at dksX1_upTo_0 9 rfl rfl)
theorem dX1_upTo_10 : decode cX1_upTo 10 = .ok (.goto 4, 3) := dk_167 0 4 (dk_at dksX1_upTo_0 10 rfl rfl)
theorem dX1_upTo_13 : decode cX1_upTo 13 = .ok (.iconst 0, 1) := dk_3 (dk_at dksX1_upTo_0 13 rfl rfl)
theorem dX1_upTo_14 : decode cX1_upTo 14 = .ok (.invokestatic 155, 3) := dk_184 0 155 (dk_at dksX1_upTo_0 14 rfl rfl)
theorem dX1_upTo_17 : decode cX1_upTo 17 = .ok (.iconst (-1), 1) := dk_2 (dk_at dksX1_upTo_0 17 rfl rfl)
theorem dX1_upTo_18 : decode cX1_upTo 18 = .ok (.istore_n 2, 1) := dk_61 (dk_at dksX1_upTo_0 18 rfl rfl)
theorem dX1_upTo_19 : decode cX1_upTo 19 = .ok (.aload_n 0, 1) := dk_42 (dk_at dksX1_upTo_0 19 rfl rfl)
theorem dX1_upTo_20 : decode cX1_upTo 20 = .ok (.getfield 19, 3) := dk_180 0 19 (dk_at dksX1_upTo_0 20 rfl rfl)
theorem dX1_upTo_23 : decode cX1_upTo 23 = .ok (.getfield 134, 3) := dk_180 0 134 (dk_at dksX1_upTo_1 0 rfl rfl)
theorem dX1_upTo_26 : decode cX1_upTo 26 = .ok (.istore_n 3, 1) := dk_62 (dk_at dksX1_upTo_1 3 rfl rfl)
theorem dX1_upTo_27 : decode cX1_upTo 27 = .ok (.iload_n 3, 1) := dk_29 (dk_at dksX1_upTo_1 4 rfl rfl)
theorem dX1_upTo_28 : decode cX1_upTo 28 = .ok (.bipush 60, 2) := dk_16 60 (dk_at dksX1_upTo_1 5 rfl rfl)
theorem dX1_upTo_30 : decode cX1_upTo 30 = .ok (.if_icmp .gt 39, 3) := dk_163 0 39 (dk_at dksX1_upTo_1 7 rfl rfl)
theorem dX1_upTo_33 : decode cX1_upTo 33 = .ok (.aload_n 0, 1) := dk_42 (dk_at dksX1_upTo_1 10 rfl rfl)
theorem dX1_upTo_34 : decode cX1_upTo 34 = .ok (.aload_n 0, 1) := dk_42 (dk_at dksX1_upTo_1 11 rfl rfl)
theorem dX1_upTo_35 : decode cX1_upTo 35 = .ok (.getfield 19, 3) := dk_180 0 19 (dk_at dksX1_upTo_1 12 rfl rfl)
theorem dX1_upTo_38 : decode cX1_upTo 38 = .ok (.getfield 134, 3) := dk_180 0 134 (dk_at dksX1_upTo_1 15 rfl rfl)
theorem dX1_upTo_41 : decode cX1_upTo 41 = .ok (.iload_n 3, 1) := dk_29 (dk_at dksX1_upTo_1 18 rfl rfl)
theorem dX1_upTo_42 : decode cX1_upTo 42 = .ok (.invokevirtual 318, 3) := dk_182 1 62 (dk_at dksX1_upTo_1 19 rfl rfl)
theorem dX1_upTo_45 : decode cX1_upTo 45 = .ok (.invokevirtual 321, 3) := dk_182 1 65 (dk_at dksX1_upTo_2 0 rfl rfl)
theorem dX1_upTo_48 : decode cX1_upTo 48 = .ok (.iconst 1, 1) := dk_4 (dk_at dksX1_upTo_2 3 rfl rfl)
theorem dX1_upTo_49 : decode cX1_upTo 49 = .ok (.if_icmp .eq 6, 3) := dk_159 0 6 (dk_at dksX1_upTo_2 4 rfl rfl)
theorem dX1_upTo_52 : decode cX1_upTo 52 = .ok (.goto 11, 3) := dk_167 0 11 (dk_at dksX1_upTo_2 7 rfl rfl)
theorem dX1_upTo_55 : decode cX1_upTo 55 = .ok (.iload_n 1, 1) := dk_27 (dk_at dksX1_upTo_2 10 rfl rfl)
theorem dX1_upTo_56 : decode cX1_upTo 56 = .ok (.ifCond .ne 5, 3) := dk_154 0 5 (dk_at dksX1_upTo_2 11 rfl rfl)
theorem dX1_upTo_59 : decode cX1_upTo 59 = .ok (.iload_n 3, 1) := dk_29 (dk_at dksX1_upTo_2 14 rfl rfl)
theorem dX1_upTo_60 : decode cX1_upTo 60 = .ok (.ireturn, 1) := dk_172 (dk_at dksX1_upTo_2 15 rfl rfl)
theorem dX1_upTo_61 : decode cX1_upTo 61 = .ok (.iload_n 3, 1) := dk_29 (dk_at dksX1_upTo_2 16 rfl rfl)
theorem dX1_upTo_62 : decode cX1_upTo 62 = .ok (.istore_n 2, 1) := dk_61 (dk_at dksX1_upTo_2 17 rfl rfl)
theorem dX1_upTo_63 : decode cX1_upTo 63 = .ok (.iinc 3 1, 3) := dk_132 3 1 (dk_at dksX1_upTo_2 18 rfl rfl)
theorem dX1_upTo_66 : decode cX1_upTo 66 = .ok (.goto (-39), 3) := dk_167 255 217 (dk_at dksX1_upTo_2 21 rfl rfl)
theorem dX1_upTo_69 : decode cX1_upTo 69 = .ok (.iload_n 2, 1) := dk_28 (dk_at dksX1_upTo_3 0 rfl rfl)
theorem dX1_upTo_70 : decode cX1_upTo 70 = .ok (.ireturn, 1) := dk_172 (dk_at dksX1_upTo_3 1 rfl rfl)
abbrev cX1_rest : ByteArray := prog_1_method_43_code
def yX1_rest : MethodName := ⟨RX1, "rest", "(II)I"⟩
def dkwX1_rest_1 : List UInt8 := [28, 182, 1, 72, 180, 1, 76, 184, 1, 15, 172]
abbrev dktX1_rest_1 : List UInt8 := dkwX1_rest_1 ++ []
def dkwX1_rest_0 : List UInt8 := [42, 27, 28, 182, 1, 68, 27, 28, 159, 0, 7, 4, 167, 0, 4, 3, 184, 0, 155, 42, 180, 0, 52, 27]
abbrev dktX1_rest_0 : List UInt8 := dkwX1_rest_0 ++ dktX1_rest_1
theorem dksX1_rest_0 : cX1_rest.data.toList.drop 0 = dktX1_rest_0 := by decide +kernel
theorem dksX1_rest_1 : cX1_rest.data.toList.drop 24 = dktX1_rest_1 := dk_seg dksX1_rest_0 24 rfl rfl
theorem dX1_rest_0 : decode cX1_rest 0 = .ok (.aload_n 0, 1) := dk_42 (dk_at dksX1_rest_0 0 rfl rfl)
theorem dX1_rest_1 : decode cX1_rest 1 = .ok (.iload_n 1, 1) := dk_27 (dk_at dksX1_rest_0 1 rfl rfl)
theorem dX1_rest_2 : decode cX1_rest 2 = .ok (.iload_n 2, 1) := dk_28 (dk_at dksX1_rest_0 2 rfl rfl)
theorem dX1_rest_3 : decode cX1_rest 3 = .ok (.invokevirtual 324, 3) := dk_182 1 68 (dk_at dksX1_rest_0 3 rfl rfl)
theorem dX1_rest_6 : decode cX1_rest 6 = .ok (.iload_n 1, 1) := dk_27 (dk_at dksX1_rest_0 6 rfl rfl)
theorem dX1_rest_7 : decode cX1_rest 7 = .ok (.iload_n 2, 1) := dk_28 (dk_at dksX1_rest_0 7 rfl rfl)
theorem dX1_rest_8 : decode cX1_rest 8 = .ok (.if_icmp .eq 7, 3) := dk_159 0 7 (dk_at dksX1_rest_0 8 rfl rfl)
theorem dX1_rest_11 : decode cX1_rest 11 = .ok (.iconst 1, 1) := dk_4 (dk_at dksX1_rest_0 11 rfl rfl)
theorem dX1_rest_12 : decode cX1_rest 12 = .ok (.goto 4, 3) := dk_167 0 4 (dk_at dksX1_rest_0 12 rfl rfl)
theorem dX1_rest_15 : decode cX1_rest 15 = .ok (.iconst 0, 1) := dk_3 (dk_at dksX1_rest_0 15 rfl rfl)
theorem dX1_rest_16 : decode cX1_rest 16 = .ok (.invokestatic 155, 3) := dk_184 0 155 (dk_at dksX1_rest_0 16 rfl rfl)
theorem dX1_rest_19 : decode cX1_rest 19 = .ok (.aload_n 0, 1) := dk_42 (dk_at dksX1_rest_0 19 rfl rfl)
theorem dX1_rest_20 : decode cX1_rest 20 = .ok (.getfield 52, 3) := dk_180 0 52 (dk_at dksX1_rest_0 20 rfl rfl)
theorem dX1_rest_23 : decode cX1_rest 23 = .ok (.iload_n 1, 1) := dk_27 (dk_at dksX1_rest_0 23 rfl rfl)
theorem dX1_rest_24 : decode cX1_rest 24 = .ok (.iload_n 2, 1) := dk_28 (dk_at dksX1_rest_1 0 rfl rfl)
theorem dX1_rest_25 : decode cX1_rest 25 = .ok (.invokevirtual 328, 3) := dk_182 1 72 (dk_at dksX1_rest_1 1 rfl rfl)
theorem dX1_rest_28 : decode cX1_rest 28 = .ok (.getfield 332, 3) := dk_180 1 76 (dk_at dksX1_rest_1 4 rfl rfl)
theorem dX1_rest_31 : decode cX1_rest 31 = .ok (.invokestatic 271, 3) := dk_184 1 15 (dk_at dksX1_rest_1 7 rfl rfl)
theorem dX1_rest_34 : decode cX1_rest 34 = .ok (.ireturn, 1) := dk_172 (dk_at dksX1_rest_1 10 rfl rfl)
abbrev cX1_mustTwo : ByteArray := prog_1_method_42_code
def yX1_mustTwo : MethodName := ⟨RX1, "mustTwo", "(II)V"⟩
def dkwX1_mustTwo_0 : List UInt8 := [42, 27, 182, 0, 234, 42, 28, 182, 0, 234, 177]
abbrev dktX1_mustTwo_0 : List UInt8 := dkwX1_mustTwo_0 ++ []
theorem dksX1_mustTwo_0 : cX1_mustTwo.data.toList.drop 0 = dktX1_mustTwo_0 := by decide +kernel
theorem dX1_mustTwo_0 : decode cX1_mustTwo 0 = .ok (.aload_n 0, 1) := dk_42 (dk_at dksX1_mustTwo_0 0 rfl rfl)
theorem dX1_mustTwo_1 : decode cX1_mustTwo 1 = .ok (.iload_n 1, 1) := dk_27 (dk_at dksX1_mustTwo_0 1 rfl rfl)
theorem dX1_mustTwo_2 : decode cX1_mustTwo 2 = .ok (.invokevirtual 234, 3) := dk_182 0 234 (dk_at dksX1_mustTwo_0 2 rfl rfl)
theorem dX1_mustTwo_5 : decode cX1_mustTwo 5 = .ok (.aload_n 0, 1) := dk_42 (dk_at dksX1_mustTwo_0 5 rfl rfl)
theorem dX1_mustTwo_6 : decode cX1_mustTwo 6 = .ok (.iload_n 2, 1) := dk_28 (dk_at dksX1_mustTwo_0 6 rfl rfl)
theorem dX1_mustTwo_7 : decode cX1_mustTwo 7 = .ok (.invokevirtual 234, 3) := dk_182 0 234 (dk_at dksX1_mustTwo_0 7 rfl rfl)
theorem dX1_mustTwo_10 : decode cX1_mustTwo 10 = .ok (.return_, 1) := dk_177 (dk_at dksX1_mustTwo_0 10 rfl rfl)
abbrev cX1_when : ByteArray := prog_1_method_44_code
def yX1_when : MethodName := ⟨RX1, "when", "(III)I"⟩
def dkwX1_when_1 : List UInt8 := [42, 180, 0, 52, 27, 28, 182, 1, 72, 180, 1, 79, 29, 46, 172]
abbrev dktX1_when_1 : List UInt8 := dkwX1_when_1 ++ []
def dkwX1_when_0 : List UInt8 := [42, 27, 28, 182, 1, 68, 42, 29, 182, 0, 215, 27, 28, 159, 0, 7, 4, 167, 0, 4, 3, 184, 0, 155]
abbrev dktX1_when_0 : List UInt8 := dkwX1_when_0 ++ dktX1_when_1
theorem dksX1_when_0 : cX1_when.data.toList.drop 0 = dktX1_when_0 := by decide +kernel
theorem dksX1_when_1 : cX1_when.data.toList.drop 24 = dktX1_when_1 := dk_seg dksX1_when_0 24 rfl rfl
theorem dX1_when_0 : decode cX1_when 0 = .ok (.aload_n 0, 1) := dk_42 (dk_at dksX1_when_0 0 rfl rfl)
theorem dX1_when_1 : decode cX1_when 1 = .ok (.iload_n 1, 1) := dk_27 (dk_at dksX1_when_0 1 rfl rfl)
theorem dX1_when_2 : decode cX1_when 2 = .ok (.iload_n 2, 1) := dk_28 (dk_at dksX1_when_0 2 rfl rfl)
theorem dX1_when_3 : decode cX1_when 3 = .ok (.invokevirtual 324, 3) := dk_182 1 68 (dk_at dksX1_when_0 3 rfl rfl)
theorem dX1_when_6 : decode cX1_when 6 = .ok (.aload_n 0, 1) := dk_42 (dk_at dksX1_when_0 6 rfl rfl)
theorem dX1_when_7 : decode cX1_when 7 = .ok (.iload_n 3, 1) := dk_29 (dk_at dksX1_when_0 7 rfl rfl)
theorem dX1_when_8 : decode cX1_when 8 = .ok (.invokevirtual 215, 3) := dk_182 0 215 (dk_at dksX1_when_0 8 rfl rfl)
theorem dX1_when_11 : decode cX1_when 11 = .ok (.iload_n 1, 1) := dk_27 (dk_at dksX1_when_0 11 rfl rfl)
theorem dX1_when_12 : decode cX1_when 12 = .ok (.iload_n 2, 1) := dk_28 (dk_at dksX1_when_0 12 rfl rfl)
theorem dX1_when_13 : decode cX1_when 13 = .ok (.if_icmp .eq 7, 3) := dk_159 0 7 (dk_at dksX1_when_0 13 rfl rfl)
theorem dX1_when_16 : decode cX1_when 16 = .ok (.iconst 1, 1) := dk_4 (dk_at dksX1_when_0 16 rfl rfl)
theorem dX1_when_17 : decode cX1_when 17 = .ok (.goto 4, 3) := dk_167 0 4 (dk_at dksX1_when_0 17 rfl rfl)
theorem dX1_when_20 : decode cX1_when 20 = .ok (.iconst 0, 1) := dk_3 (dk_at dksX1_when_0 20 rfl rfl)
theorem dX1_when_21 : decode cX1_when 21 = .ok (.invokestatic 155, 3) := dk_184 0 155 (dk_at dksX1_when_0 21 rfl rfl)
theorem dX1_when_24 : decode cX1_when 24 = .ok (.aload_n 0, 1) := dk_42 (dk_at dksX1_when_1 0 rfl rfl)
theorem dX1_when_25 : decode cX1_when 25 = .ok (.getfield 52, 3) := dk_180 0 52 (dk_at dksX1_when_1 1 rfl rfl)
theorem dX1_when_28 : decode cX1_when 28 = .ok (.iload_n 1, 1) := dk_27 (dk_at dksX1_when_1 4 rfl rfl)
theorem dX1_when_29 : decode cX1_when 29 = .ok (.iload_n 2, 1) := dk_28 (dk_at dksX1_when_1 5 rfl rfl)
theorem dX1_when_30 : decode cX1_when 30 = .ok (.invokevirtual 328, 3) := dk_182 1 72 (dk_at dksX1_when_1 6 rfl rfl)
theorem dX1_when_33 : decode cX1_when 33 = .ok (.getfield 335, 3) := dk_180 1 79 (dk_at dksX1_when_1 9 rfl rfl)
theorem dX1_when_36 : decode cX1_when 36 = .ok (.iload_n 3, 1) := dk_29 (dk_at dksX1_when_1 12 rfl rfl)
theorem dX1_when_37 : decode cX1_when 37 = .ok (.iaload, 1) := dk_46 (dk_at dksX1_when_1 13 rfl rfl)
theorem dX1_when_38 : decode cX1_when 38 = .ok (.ireturn, 1) := dk_172 (dk_at dksX1_when_1 14 rfl rfl)
abbrev cX1_longest : ByteArray := prog_1_method_45_code
def yX1_longest : MethodName := ⟨RX1, "longest", "(III)I"⟩
def dkwX1_longest_4 : List UInt8 := [132, 6, 1, 167, 255, 207, 29, 154, 0, 8, 21, 4, 167, 0, 5, 21, 5, 172]
abbrev dktX1_longest_4 : List UInt8 := dkwX1_longest_4 ++ []
def dkwX1_longest_3 : List UInt8 := [163, 0, 6, 167, 0, 19, 42, 180, 0, 52, 180, 1, 79, 21, 6, 46, 54, 4, 21, 6, 54, 5]
abbrev dktX1_longest_3 : List UInt8 := dkwX1_longest_3 ++ dktX1_longest_4
def dkwX1_longest_2 : List UInt8 := [21, 6, 42, 180, 0, 28, 180, 0, 190, 162, 0, 43, 42, 180, 0, 52, 180, 1, 79, 21, 6, 46, 21, 4]
abbrev dktX1_longest_2 : List UInt8 := dkwX1_longest_2 ++ dktX1_longest_3
def dkwX1_longest_1 : List UInt8 := [3, 184, 0, 155, 42, 180, 0, 52, 27, 28, 182, 1, 72, 87, 2, 54, 4, 2, 54, 5, 3, 54, 6]
abbrev dktX1_longest_1 : List UInt8 := dkwX1_longest_1 ++ dktX1_longest_2
def dkwX1_longest_0 : List UInt8 := [42, 27, 28, 182, 1, 68, 27, 28, 159, 0, 16, 29, 153, 0, 8, 29, 4, 160, 0, 7, 4, 167, 0, 4]
abbrev dktX1_longest_0 : List UInt8 := dkwX1_longest_0 ++ dktX1_longest_1
theorem dksX1_longest_0 : cX1_longest.data.toList.drop 0 = dktX1_longest_0 := by decide +kernel
theorem dksX1_longest_1 : cX1_longest.data.toList.drop 24 = dktX1_longest_1 := dk_seg dksX1_longest_0 24 rfl rfl
theorem dksX1_longest_2 : cX1_longest.data.toList.drop 47 = dktX1_longest_2 := dk_seg dksX1_longest_1 23 rfl rfl
theorem dksX1_longest_3 : cX1_longest.data.toList.drop 71 = dktX1_longest_3 := dk_seg dksX1_longest_2 24 rfl rfl
theorem dksX1_longest_4 : cX1_longest.data.toList.drop 93 = dktX1_longest_4 := dk_seg dksX1_longest_3 22 rfl rfl
theorem dX1_longest_0 : decode cX1_longest 0 = .ok (.aload_n 0, 1) := dk_42 (dk_at dksX1_longest_0 0 rfl rfl)
theorem dX1_longest_1 : decode cX1_longest 1 = .ok (.iload_n 1, 1) := dk_27 (dk_at dksX1_longest_0 1 rfl rfl)
theorem dX1_longest_2 : decode cX1_longest 2 = .ok (.iload_n 2, 1) := dk_28 (dk_at dksX1_longest_0 2 rfl rfl)
theorem dX1_longest_3 : decode cX1_longest 3 = .ok (.invokevirtual 324, 3) := dk_182 1 68 (dk_at dksX1_longest_0 3 rfl rfl)
theorem dX1_longest_6 : decode cX1_longest 6 = .ok (.iload_n 1, 1) := dk_27 (dk_at dksX1_longest_0 6 rfl rfl)
theorem dX1_longest_7 : decode cX1_longest 7 = .ok (.iload_n 2, 1) := dk_28 (dk_at dksX1_longest_0 7 rfl rfl)
theorem dX1_longest_8 : decode cX1_longest 8 = .ok (.if_icmp .eq 16, 3) := dk_159 0 16 (dk_at dksX1_longest_0 8 rfl rfl)
theorem dX1_longest_11 : decode cX1_longest 11 = .ok (.iload_n 3, 1) := dk_29 (dk_at dksX1_longest_0 11 rfl rfl)
theorem dX1_longest_12 : decode cX1_longest 12 = .ok (.ifCond .eq 8, 3) := dk_153 0 8 (dk_at dksX1_longest_0 12 rfl rfl)
theorem dX1_longest_15 : decode cX1_longest 15 = .ok (.iload_n 3, 1) := dk_29 (dk_at dksX1_longest_0 15 rfl rfl)
theorem dX1_longest_16 : decode cX1_longest 16 = .ok (.iconst 1, 1) := dk_4 (dk_at dksX1_longest_0 16 rfl rfl)
theorem dX1_longest_17 : decode cX1_longest 17 = .ok (.if_icmp .ne 7, 3) := dk_160 0 7 (dk_at dksX1_longest_0 17 rfl rfl)
theorem dX1_longest_20 : decode cX1_longest 20 = .ok (.iconst 1, 1) := dk_4 (dk_at dksX1_longest_0 20 rfl rfl)
theorem dX1_longest_21 : decode cX1_longest 21 = .ok (.goto 4, 3) := dk_167 0 4 (dk_at dksX1_longest_0 21 rfl rfl)
theorem dX1_longest_24 : decode cX1_longest 24 = .ok (.iconst 0, 1) := dk_3 (dk_at dksX1_longest_1 0 rfl rfl)
theorem dX1_longest_25 : decode cX1_longest 25 = .ok (.invokestatic 155, 3) := dk_184 0 155 (dk_at dksX1_longest_1 1 rfl rfl)
theorem dX1_longest_28 : decode cX1_longest 28 = .ok (.aload_n 0, 1) := dk_42 (dk_at dksX1_longest_1 4 rfl rfl)
theorem dX1_longest_29 : decode cX1_longest 29 = .ok (.getfield 52, 3) := dk_180 0 52 (dk_at dksX1_longest_1 5 rfl rfl)
theorem dX1_longest_32 : decode cX1_longest 32 = .ok (.iload_n 1, 1) := dk_27 (dk_at dksX1_longest_1 8 rfl rfl)
theorem dX1_longest_33 : decode cX1_longest 33 = .ok (.iload_n 2, 1) := dk_28 (dk_at dksX1_longest_1 9 rfl rfl)
theorem dX1_longest_34 : decode cX1_longest 34 = .ok (.invokevirtual 328, 3) := dk_182 1 72 (dk_at dksX1_longest_1 10 rfl rfl)
theorem dX1_longest_37 : decode cX1_longest 37 = .ok (.pop, 1) := dk_87 (dk_at dksX1_longest_1 13 rfl rfl)
theorem dX1_longest_38 : decode cX1_longest 38 = .ok (.iconst (-1), 1) := dk_2 (dk_at dksX1_longest_1 14 rfl rfl)
theorem dX1_longest_39 : decode cX1_longest 39 = .ok (.istore 4, 2) := dk_54 4 (dk_at dksX1_longest_1 15 rfl rfl)
theorem dX1_longest_41 : decode cX1_longest 41 = .ok (.iconst (-1), 1) := dk_2 (dk_at dksX1_longest_1 17 rfl rfl)
theorem dX1_longest_42 : decode cX1_longest 42 = .ok (.istore 5, 2) := dk_54 5 (dk_at dksX1_longest_1 18 rfl rfl)
theorem dX1_longest_44 : decode cX1_longest 44 = .ok (.iconst 0, 1) := dk_3 (dk_at dksX1_longest_1 20 rfl rfl)
theorem dX1_longest_45 : decode cX1_longest 45 = .ok (.istore 6, 2) := dk_54 6 (dk_at dksX1_longest_1 21 rfl rfl)
theorem dX1_longest_47 : decode cX1_longest 47 = .ok (.iload 6, 2) := dk_21 6 (dk_at dksX1_longest_2 0 rfl rfl)
theorem dX1_longest_49 : decode cX1_longest 49 = .ok (.aload_n 0, 1) := dk_42 (dk_at dksX1_longest_2 2 rfl rfl)
theorem dX1_longest_50 : decode cX1_longest 50 = .ok (.getfield 28, 3) := dk_180 0 28 (dk_at dksX1_longest_2 3 rfl rfl)
theorem dX1_longest_53 : decode cX1_longest 53 = .ok (.getfield 190, 3) := dk_180 0 190 (dk_at dksX1_longest_2 6 rfl rfl)
theorem dX1_longest_56 : decode cX1_longest 56 = .ok (.if_icmp .ge 43, 3) := dk_162 0 43 (dk_at dksX1_longest_2 9 rfl rfl)
theorem dX1_longest_59 : decode cX1_longest 59 = .ok (.aload_n 0, 1) := dk_42 (dk_at dksX1_longest_2 12 rfl rfl)
theorem dX1_longest_60 : decode cX1_longest 60 = .ok (.getfield 52, 3) := dk_180 0 52 (dk_at dksX1_longest_2 13 rfl rfl)
theorem dX1_longest_63 : decode cX1_longest 63 = .ok (.getfield 335, 3) := dk_180 1 79 (dk_at dksX1_longest_2 16 rfl rfl)
theorem dX1_longest_66 : decode cX1_longest 66 = .ok (.iload 6, 2) := dk_21 6 (dk_at dksX1_longest_2 19 rfl rfl)
theorem dX1_longest_68 : decode cX1_longest 68 = .ok (.iaload, 1) := dk_46 (dk_at dksX1_longest_2 21 rfl rfl)
theorem dX1_longest_69 : decode cX1_longest 69 = .ok (.iload 4, 2) := dk_21 4 (dk_at dksX1_longest_2 22 rfl rfl)
theorem dX1_longest_71 : decode cX1_longest 71 = .ok (.if_icmp .gt 6, 3) := dk_163 0 6 (dk_at dksX1_longest_3 0 rfl rfl)
theorem dX1_longest_74 : decode cX1_longest 74 = .ok (.goto 19, 3) := dk_167 0 19 (dk_at dksX1_longest_3 3 rfl rfl)
theorem dX1_longest_77 : decode cX1_longest 77 = .ok (.aload_n 0, 1) := dk_42 (dk_at dksX1_longest_3 6 rfl rfl)
theorem dX1_longest_78 : decode cX1_longest 78 = .ok (.getfield 52, 3) := dk_180 0 52 (dk_at dksX1_longest_3 7 rfl rfl)
theorem dX1_longest_81 : decode cX1_longest 81 = .ok (.getfield 335, 3) := dk_180 1 79 (dk_at dksX1_longest_3 10 rfl rfl)
theorem dX1_longest_84 : decode cX1_longest 84 = .ok (.iload 6, 2) := dk_21 6 (dk_at dksX1_longest_3 13 rfl rfl)
theorem dX1_longest_86 : decode cX1_longest 86 = .ok (.iaload, 1) := dk_46 (dk_at dksX1_longest_3 15 rfl rfl)
theorem dX1_longest_87 : decode cX1_longest 87 = .ok (.istore 4, 2) := dk_54 4 (dk_at dksX1_longest_3 16 rfl rfl)
theorem dX1_longest_89 : decode cX1_longest 89 = .ok (.iload 6, 2) := dk_21 6 (dk_at dksX1_longest_3 18 rfl rfl)
theorem dX1_longest_91 : decode cX1_longest 91 = .ok (.istore 5, 2) := dk_54 5 (dk_at dksX1_longest_3 20 rfl rfl)
theorem dX1_longest_93 : decode cX1_longest 93 = .ok (.iinc 6 1, 3) := dk_132 6 1 (dk_at dksX1_longest_4 0 rfl rfl)
theorem dX1_longest_96 : decode cX1_longest 96 = .ok (.goto (-49), 3) := dk_167 255 207 (dk_at dksX1_longest_4 3 rfl rfl)
theorem dX1_longest_99 : decode cX1_longest 99 = .ok (.iload_n 3, 1) := dk_29 (dk_at dksX1_longest_4 6 rfl rfl)
theorem dX1_longest_100 : decode cX1_longest 100 = .ok (.ifCond .ne 8, 3) := dk_154 0 8 (dk_at dksX1_longest_4 7 rfl rfl)
theorem dX1_longest_103 : decode cX1_longest 103 = .ok (.iload 4, 2) := dk_21 4 (dk_at dksX1_longest_4 10 rfl rfl)
theorem dX1_longest_105 : decode cX1_longest 105 = .ok (.goto 5, 3) := dk_167 0 5 (dk_at dksX1_longest_4 12 rfl rfl)
theorem dX1_longest_108 : decode cX1_longest 108 = .ok (.iload 5, 2) := dk_21 5 (dk_at dksX1_longest_4 15 rfl rfl)
theorem dX1_longest_110 : decode cX1_longest 110 = .ok (.ireturn, 1) := dk_172 (dk_at dksX1_longest_4 17 rfl rfl)
abbrev cX1_soonest : ByteArray := prog_1_method_46_code
def yX1_soonest : MethodName := ⟨RX1, "soonest", "(IIII)I"⟩
def dkwX1_soonest_5 : List UInt8 := [153, 0, 16, 42, 180, 0, 59, 180, 1, 96, 21, 4, 46, 167, 0, 4, 2, 172]
abbrev dktX1_soonest_5 : List UInt8 := dkwX1_soonest_5 ++ []
def dkwX1_soonest_4 : List UInt8 := [180, 1, 95, 167, 0, 37, 21, 4, 133, 9, 42, 180, 0, 59, 180, 1, 95, 4, 100, 133, 184, 0, 151]
abbrev dktX1_soonest_4 : List UInt8 := dkwX1_soonest_4 ++ dktX1_soonest_5
def dkwX1_soonest_3 : List UInt8 := [180, 0, 59, 8, 182, 1, 91, 154, 0, 5, 2, 172, 21, 4, 2, 160, 0, 13, 42, 180, 0, 59]
abbrev dktX1_soonest_3 : List UInt8 := dkwX1_soonest_3 ++ dktX1_soonest_4
def dkwX1_soonest_2 : List UInt8 := [180, 0, 59, 27, 181, 1, 82, 42, 180, 0, 59, 28, 181, 1, 85, 42, 180, 0, 59, 29, 181, 1, 88, 42]
abbrev dktX1_soonest_2 : List UInt8 := dkwX1_soonest_2 ++ dktX1_soonest_3
def dkwX1_soonest_1 : List UInt8 := [2, 130, 126, 154, 0, 16, 29, 21, 5, 2, 130, 126, 154, 0, 7, 4, 167, 0, 4, 3, 184, 0, 155, 42]
abbrev dktX1_soonest_1 : List UInt8 := dkwX1_soonest_1 ++ dktX1_soonest_2
def dkwX1_soonest_0 : List UInt8 := [42, 27, 182, 0, 215, 4, 42, 180, 0, 19, 180, 0, 196, 182, 0, 200, 120, 4, 100, 54, 5, 28, 21, 5]
abbrev dktX1_soonest_0 : List UInt8 := dkwX1_soonest_0 ++ dktX1_soonest_1
theorem dksX1_soonest_0 : cX1_soonest.data.toList.drop 0 = dktX1_soonest_0 := by decide +kernel
theorem dksX1_soonest_1 : cX1_soonest.data.toList.drop 24 = dktX1_soonest_1 := dk_seg dksX1_soonest_0 24 rfl rfl
theorem dksX1_soonest_2 : cX1_soonest.data.toList.drop 48 = dktX1_soonest_2 := dk_seg dksX1_soonest_1 24 rfl rfl
theorem dksX1_soonest_3 : cX1_soonest.data.toList.drop 72 = dktX1_soonest_3 := dk_seg dksX1_soonest_2 24 rfl rfl
theorem dksX1_soonest_4 : cX1_soonest.data.toList.drop 94 = dktX1_soonest_4 := dk_seg dksX1_soonest_3 22 rfl rfl
theorem dksX1_soonest_5 : cX1_soonest.data.toList.drop 117 = dktX1_soonest_5 := dk_seg dksX1_soonest_4 23 rfl rfl
theorem dX1_soonest_0 : decode cX1_soonest 0 = .ok (.aload_n 0, 1) := dk_42 (dk_at dksX1_soonest_0 0 rfl rfl)
theorem dX1_soonest_1 : decode cX1_soonest 1 = .ok (.iload_n 1, 1) := dk_27 (dk_at dksX1_soonest_0 1 rfl rfl)
theorem dX1_soonest_2 : decode cX1_soonest 2 = .ok (.invokevirtual 215, 3) := dk_182 0 215 (dk_at dksX1_soonest_0 2 rfl rfl)
theorem dX1_soonest_5 : decode cX1_soonest 5 = .ok (.iconst 1, 1) := dk_4 (dk_at dksX1_soonest_0 5 rfl rfl)
theorem dX1_soonest_6 : decode cX1_soonest 6 = .ok (.aload_n 0, 1) := dk_42 (dk_at dksX1_soonest_0 6 rfl rfl)
theorem dX1_soonest_7 : decode cX1_soonest 7 = .ok (.getfield 19, 3) := dk_180 0 19 (dk_at dksX1_soonest_0 7 rfl rfl)
theorem dX1_soonest_10 : decode cX1_soonest 10 = .ok (.getfield 196, 3) := dk_180 0 196 (dk_at dksX1_soonest_0 10 rfl rfl)
theorem dX1_soonest_13 : decode cX1_soonest 13 = .ok (.invokevirtual 200, 3) := dk_182 0 200 (dk_at dksX1_soonest_0 13 rfl rfl)
theorem dX1_soonest_16 : decode cX1_soonest 16 = .ok (.ishl, 1) := dk_120 (dk_at dksX1_soonest_0 16 rfl rfl)
theorem dX1_soonest_17 : decode cX1_soonest 17 = .ok (.iconst 1, 1) := dk_4 (dk_at dksX1_soonest_0 17 rfl rfl)
theorem dX1_soonest_18 : decode cX1_soonest 18 = .ok (.isub, 1) := dk_100 (dk_at dksX1_soonest_0 18 rfl rfl)
theorem dX1_soonest_19 : decode cX1_soonest 19 = .ok (.istore 5, 2) := dk_54 5 (dk_at dksX1_soonest_0 19 rfl rfl)
theorem dX1_soonest_21 : decode cX1_soonest 21 = .ok (.iload_n 2, 1) := dk_28 (dk_at dksX1_soonest_0 21 rfl rfl)
theorem dX1_soonest_22 : decode cX1_soonest 22 = .ok (.iload 5, 2) := dk_21 5 (dk_at dksX1_soonest_0 22 rfl rfl)
theorem dX1_soonest_24 : decode cX1_soonest 24 = .ok (.iconst (-1), 1) := dk_2 (dk_at dksX1_soonest_1 0 rfl rfl)
theorem dX1_soonest_25 : decode cX1_soonest 25 = .ok (.ixor, 1) := dk_130 (dk_at dksX1_soonest_1 1 rfl rfl)
theorem dX1_soonest_26 : decode cX1_soonest 26 = .ok (.iand, 1) := dk_126 (dk_at dksX1_soonest_1 2 rfl rfl)
theorem dX1_soonest_27 : decode cX1_soonest 27 = .ok (.ifCond .ne 16, 3) := dk_154 0 16 (dk_at dksX1_soonest_1 3 rfl rfl)
theorem dX1_soonest_30 : decode cX1_soonest 30 = .ok (.iload_n 3, 1) := dk_29 (dk_at dksX1_soonest_1 6 rfl rfl)
theorem dX1_soonest_31 : decode cX1_soonest 31 = .ok (.iload 5, 2) := dk_21 5 (dk_at dksX1_soonest_1 7 rfl rfl)
theorem dX1_soonest_33 : decode cX1_soonest 33 = .ok (.iconst (-1), 1) := dk_2 (dk_at dksX1_soonest_1 9 rfl rfl)
theorem dX1_soonest_34 : decode cX1_soonest 34 = .ok (.ixor, 1) := dk_130 (dk_at dksX1_soonest_1 10 rfl rfl)
theorem dX1_soonest_35 : decode cX1_soonest 35 = .ok (.iand, 1) := dk_126 (dk_at dksX1_soonest_1 11 rfl rfl)
theorem dX1_soonest_36 : decode cX1_soonest 36 = .ok (.ifCond .ne 7, 3) := dk_154 0 7 (dk_at dksX1_soonest_1 12 rfl rfl)
theorem dX1_soonest_39 : decode cX1_soonest 39 = .ok (.iconst 1, 1) := dk_4 (dk_at dksX1_soonest_1 15 rfl rfl)
theorem dX1_soonest_40 : decode cX1_soonest 40 = .ok (.goto 4, 3) := dk_167 0 4 (dk_at dksX1_soonest_1 16 rfl rfl)
theorem dX1_soonest_43 : decode cX1_soonest 43 = .ok (.iconst 0, 1) := dk_3 (dk_at dksX1_soonest_1 19 rfl rfl)
theorem dX1_soonest_44 : decode cX1_soonest 44 = .ok (.invokestatic 155, 3) := dk_184 0 155 (dk_at dksX1_soonest_1 20 rfl rfl)
theorem dX1_soonest_47 : decode cX1_soonest 47 = .ok (.aload_n 0, 1) := dk_42 (dk_at dksX1_soonest_1 23 rfl rfl)
theorem dX1_soonest_48 : decode cX1_soonest 48 = .ok (.getfield 59, 3) := dk_180 0 59 (dk_at dksX1_soonest_2 0 rfl rfl)
theorem dX1_soonest_51 : decode cX1_soonest 51 = .ok (.iload_n 1, 1) := dk_27 (dk_at dksX1_soonest_2 3 rfl rfl)
theorem dX1_soonest_52 : decode cX1_soonest 52 = .ok (.putfield 338, 3) := dk_181 1 82 (dk_at dksX1_soonest_2 4 rfl rfl)
theorem dX1_soonest_55 : decode cX1_soonest 55 = .ok (.aload_n 0, 1) := dk_42 (dk_at dksX1_soonest_2 7 rfl rfl)
theorem dX1_soonest_56 : decode cX1_soonest 56 = .ok (.getfield 59, 3) := dk_180 0 59 (dk_at dksX1_soonest_2 8 rfl rfl)
theorem dX1_soonest_59 : decode cX1_soonest 59 = .ok (.iload_n 2, 1) := dk_28 (dk_at dksX1_soonest_2 11 rfl rfl)
theorem dX1_soonest_60 : decode cX1_soonest 60 = .ok (.putfield 341, 3) := dk_181 1 85 (dk_at dksX1_soonest_2 12 rfl rfl)
theorem dX1_soonest_63 : decode cX1_soonest 63 = .ok (.aload_n 0, 1) := dk_42 (dk_at dksX1_soonest_2 15 rfl rfl)
theorem dX1_soonest_64 : decode cX1_soonest 64 = .ok (.getfield 59, 3) := dk_180 0 59 (dk_at dksX1_soonest_2 16 rfl rfl)
theorem dX1_soonest_67 : decode cX1_soonest 67 = .ok (.iload_n 3, 1) := dk_29 (dk_at dksX1_soonest_2 19 rfl rfl)
theorem dX1_soonest_68 : decode cX1_soonest 68 = .ok (.putfield 344, 3) := dk_181 1 88 (dk_at dksX1_soonest_2 20 rfl rfl)
theorem dX1_soonest_71 : decode cX1_soonest 71 = .ok (.aload_n 0, 1) := dk_42 (dk_at dksX1_soonest_2 23 rfl rfl)
theorem dX1_soonest_72 : decode cX1_soonest 72 = .ok (.getfield 59, 3) := dk_180 0 59 (dk_at dksX1_soonest_3 0 rfl rfl)
theorem dX1_soonest_75 : decode cX1_soonest 75 = .ok (.iconst 5, 1) := dk_8 (dk_at dksX1_soonest_3 3 rfl rfl)
theorem dX1_soonest_76 : decode cX1_soonest 76 = .ok (.invokevirtual 347, 3) := dk_182 1 91 (dk_at dksX1_soonest_3 4 rfl rfl)
theorem dX1_soonest_79 : decode cX1_soonest 79 = .ok (.ifCond .ne 5, 3) := dk_154 0 5 (dk_at dksX1_soonest_3 7 rfl rfl)
theorem dX1_soonest_82 : decode cX1_soonest 82 = .ok (.iconst (-1), 1) := dk_2 (dk_at dksX1_soonest_3 10 rfl rfl)
theorem dX1_soonest_83 : decode cX1_soonest 83 = .ok (.ireturn, 1) := dk_172 (dk_at dksX1_soonest_3 11 rfl rfl)
theorem dX1_soonest_84 : decode cX1_soonest 84 = .ok (.iload 4, 2) := dk_21 4 (dk_at dksX1_soonest_3 12 rfl rfl)
theorem dX1_soonest_86 : decode cX1_soonest 86 = .ok (.iconst (-1), 1) := dk_2 (dk_at dksX1_soonest_3 14 rfl rfl)
theorem dX1_soonest_87 : decode cX1_soonest 87 = .ok (.if_icmp .ne 13, 3) := dk_160 0 13 (dk_at dksX1_soonest_3 15 rfl rfl)
theorem dX1_soonest_90 : decode cX1_soonest 90 = .ok (.aload_n 0, 1) := dk_42 (dk_at dksX1_soonest_3 18 rfl rfl)
theorem dX1_soonest_91 : decode cX1_soonest 91 = .ok (.getfield 59, 3) := dk_180 0 59 (dk_at dksX1_soonest_3 19 rfl rfl)
theorem dX1_soonest_94 : decode cX1_soonest 94 = .ok (.getfield 351, 3) := dk_180 1 95 (dk_at dksX1_soonest_4 0 rfl rfl)
theorem dX1_soonest_97 : decode cX1_soonest 97 = .ok (.goto 37, 3) := dk_167 0 37 (dk_at dksX1_soonest_4 3 rfl rfl)
theorem dX1_soonest_100 : decode cX1_soonest 100 = .ok (.iload 4, 2) := dk_21 4 (dk_at dksX1_soonest_4 6 rfl rfl)
theorem dX1_soonest_102 : decode cX1_soonest 102 = .ok (.i2l, 1) := dk_133 (dk_at dksX1_soonest_4 8 rfl rfl)
theorem dX1_soonest_103 : decode cX1_soonest 103 = .ok (.lconst 0, 1) := dk_9 (dk_at dksX1_soonest_4 9 rfl rfl)
theorem dX1_soonest_104 : decode cX1_soonest 104 = .ok (.aload_n 0, 1) := dk_42 (dk_at dksX1_soonest_4 10 rfl rfl)
theorem dX1_soonest_105 : decode cX1_soonest 105 = .ok (.getfield 59, 3) := dk_180 0 59 (dk_at dksX1_soonest_4 11 rfl rfl)
theorem dX1_soonest_108 : decode cX1_soonest 108 = .ok (.getfield 351, 3) := dk_180 1 95 (dk_at dksX1_soonest_4 14 rfl rfl)
theorem dX1_soonest_111 : decode cX1_soonest 111 = .ok (.iconst 1, 1) := dk_4 (dk_at dksX1_soonest_4 17 rfl rfl)
theorem dX1_soonest_112 : decode cX1_soonest 112 = .ok (.isub, 1) := dk_100 (dk_at dksX1_soonest_4 18 rfl rfl)
theorem dX1_soonest_113 : decode cX1_soonest 113 = .ok (.i2l, 1) := dk_133 (dk_at dksX1_soonest_4 19 rfl rfl)
theorem dX1_soonest_114 : decode cX1_soonest 114 = .ok (.invokestatic 151, 3) := dk_184 0 151 (dk_at dksX1_soonest_4 20 rfl rfl)
theorem dX1_soonest_117 : decode cX1_soonest 117 = .ok (.ifCond .eq 16, 3) := dk_153 0 16 (dk_at dksX1_soonest_5 0 rfl rfl)
theorem dX1_soonest_120 : decode cX1_soonest 120 = .ok (.aload_n 0, 1) := dk_42 (dk_at dksX1_soonest_5 3 rfl rfl)
theorem dX1_soonest_121 : decode cX1_soonest 121 = .ok (.getfield 59, 3) := dk_180 0 59 (dk_at dksX1_soonest_5 4 rfl rfl)
theorem dX1_soonest_124 : decode cX1_soonest 124 = .ok (.getfield 352, 3) := dk_180 1 96 (dk_at dksX1_soonest_5 7 rfl rfl)
theorem dX1_soonest_127 : decode cX1_soonest 127 = .ok (.iload 4, 2) := dk_21 4 (dk_at dksX1_soonest_5 10 rfl rfl)
theorem dX1_soonest_129 : decode cX1_soonest 129 = .ok (.iaload, 1) := dk_46 (dk_at dksX1_soonest_5 12 rfl rfl)
theorem dX1_soonest_130 : decode cX1_soonest 130 = .ok (.goto 4, 3) := dk_167 0 4 (dk_at dksX1_soonest_5 13 rfl rfl)
theorem dX1_soonest_133 : decode cX1_soonest 133 = .ok (.iconst (-1), 1) := dk_2 (dk_at dksX1_soonest_5 16 rfl rfl)
theorem dX1_soonest_134 : decode cX1_soonest 134 = .ok (.ireturn, 1) := dk_172 (dk_at dksX1_soonest_5 17 rfl rfl)
abbrev cX1_shortest : ByteArray := prog_1_method_47_code
def yX1_shortest : MethodName := ⟨RX1, "shortest", "(II)I"⟩
def dkwX1_shortest_5 : List UInt8 := [42, 180, 0, 66, 180, 1, 113, 28, 16, 10, 100, 46, 167, 0, 4, 2, 172]
abbrev dktX1_shortest_5 : List UInt8 := dkwX1_shortest_5 ++ []
def dkwX1_shortest_4 : List UInt8 := [180, 1, 110, 180, 0, 190, 184, 1, 19, 172, 28, 16, 10, 100, 42, 180, 0, 66, 180, 1, 106, 162, 0, 18]
abbrev dktX1_shortest_4 : List UInt8 := dkwX1_shortest_4 ++ dktX1_shortest_5
def dkwX1_shortest_3 : List UInt8 := [160, 0, 33, 42, 180, 0, 66, 180, 1, 107, 42, 180, 0, 66, 180, 1, 106, 50, 3, 42, 180, 0, 66]
abbrev dktX1_shortest_3 : List UInt8 := dkwX1_shortest_3 ++ dktX1_shortest_4
def dkwX1_shortest_2 : List UInt8 := [27, 182, 1, 105, 154, 0, 5, 2, 172, 28, 154, 0, 11, 42, 180, 0, 66, 180, 1, 106, 172, 28, 4]
abbrev dktX1_shortest_2 : List UInt8 := dkwX1_shortest_2 ++ dktX1_shortest_3
def dkwX1_shortest_1 : List UInt8 := [20, 1, 101, 20, 1, 103, 184, 0, 151, 153, 0, 7, 4, 167, 0, 4, 3, 184, 0, 155, 42, 180, 0, 66]
abbrev dktX1_shortest_1 : List UInt8 := dkwX1_shortest_1 ++ dktX1_shortest_2
def dkwX1_shortest_0 : List UInt8 := [27, 133, 10, 20, 1, 99, 184, 0, 151, 153, 0, 31, 28, 133, 9, 10, 184, 0, 151, 154, 0, 17, 28, 133]
abbrev dktX1_shortest_0 : List UInt8 := dkwX1_shortest_0 ++ dktX1_shortest_1
theorem dksX1_shortest_0 : cX1_shortest.data.toList.drop 0 = dktX1_shortest_0 := by decide +kernel
theorem dksX1_shortest_1 : cX1_shortest.data.toList.drop 24 = dktX1_shortest_1 := dk_seg dksX1_shortest_0 24 rfl rfl
theorem dksX1_shortest_2 : cX1_shortest.data.toList.drop 48 = dktX1_shortest_2 := dk_seg dksX1_shortest_1 24 rfl rfl
theorem dksX1_shortest_3 : cX1_shortest.data.toList.drop 71 = dktX1_shortest_3 := dk_seg dksX1_shortest_2 23 rfl rfl
theorem dksX1_shortest_4 : cX1_shortest.data.toList.drop 94 = dktX1_shortest_4 := dk_seg dksX1_shortest_3 23 rfl rfl
theorem dksX1_shortest_5 : cX1_shortest.data.toList.drop 118 = dktX1_shortest_5 := dk_seg dksX1_shortest_4 24 rfl rfl
theorem dX1_shortest_0 : decode cX1_shortest 0 = .ok (.iload_n 1, 1) := dk_27 (dk_at dksX1_shortest_0 0 rfl rfl)
theorem dX1_shortest_1 : decode cX1_shortest 1 = .ok (.i2l, 1) := dk_133 (dk_at dksX1_shortest_0 1 rfl rfl)
theorem dX1_shortest_2 : decode cX1_shortest 2 = .ok (.lconst 1, 1) := dk_10 (dk_at dksX1_shortest_0 2 rfl rfl)
theorem dX1_shortest_3 : decode cX1_shortest 3 = .ok (.ldc2_w 355, 3) := dk_20 1 99 (dk_at dksX1_shortest_0 3 rfl rfl)
theorem dX1_shortest_6 : decode cX1_shortest 6 = .ok (.invokestatic 151, 3) := dk_184 0 151 (dk_at dksX1_shortest_0 6 rfl rfl)
theorem dX1_shortest_9 : decode cX1_shortest 9 = .ok (.ifCond .eq 31, 3) := dk_153 0 31 (dk_at dksX1_shortest_0 9 rfl rfl)
theorem dX1_shortest_12 : decode cX1_shortest 12 = .ok (.iload_n 2, 1) := dk_28 (dk_at dksX1_shortest_0 12 rfl rfl)
theorem dX1_shortest_13 : decode cX1_shortest 13 = .ok (.i2l, 1) := dk_133 (dk_at dksX1_shortest_0 13 rfl rfl)
theorem dX1_shortest_14 : decode cX1_shortest 14 = .ok (.lconst 0, 1) := dk_9 (dk_at dksX1_shortest_0 14 rfl rfl)
theorem dX1_shortest_15 : decode cX1_shortest 15 = .ok (.lconst 1, 1) := dk_10 (dk_at dksX1_shortest_0 15 rfl rfl)
theorem dX1_shortest_16 : decode cX1_shortest 16 = .ok (.invokestatic 151, 3) := dk_184 0 151 (dk_at dksX1_shortest_0 16 rfl rfl)
theorem dX1_shortest_19 : decode cX1_shortest 19 = .ok (.ifCond .ne 17, 3) := dk_154 0 17 (dk_at dksX1_shortest_0 19 rfl rfl)
theorem dX1_shortest_22 : decode cX1_shortest 22 = .ok (.iload_n 2, 1) := dk_28 (dk_at dksX1_shortest_0 22 rfl rfl)
theorem dX1_shortest_23 : decode cX1_shortest 23 = .ok (.i2l, 1) := dk_133 (dk_at dksX1_shortest_0 23 rfl rfl)
theorem dX1_shortest_24 : decode cX1_shortest 24 = .ok (.ldc2_w 357, 3) := dk_20 1 101 (dk_at dksX1_shortest_1 0 rfl rfl)
theorem dX1_shortest_27 : decode cX1_shortest 27 = .ok (.ldc2_w 359, 3) := dk_20 1 103 (dk_at dksX1_shortest_1 3 rfl rfl)
theorem dX1_shortest_30 : decode cX1_shortest 30 = .ok (.invokestatic 151, 3) := dk_184 0 151 (dk_at dksX1_shortest_1 6 rfl rfl)
theorem dX1_shortest_33 : decode cX1_shortest 33 = .ok (.ifCond .eq 7, 3) := dk_153 0 7 (dk_at dksX1_shortest_1 9 rfl rfl)
theorem dX1_shortest_36 : decode cX1_shortest 36 = .ok (.iconst 1, 1) := dk_4 (dk_at dksX1_shortest_1 12 rfl rfl)
theorem dX1_shortest_37 : decode cX1_shortest 37 = .ok (.goto 4, 3) := dk_167 0 4 (dk_at dksX1_shortest_1 13 rfl rfl)
theorem dX1_shortest_40 : decode cX1_shortest 40 = .ok (.iconst 0, 1) := dk_3 (dk_at dksX1_shortest_1 16 rfl rfl)
theorem dX1_shortest_41 : decode cX1_shortest 41 = .ok (.invokestatic 155, 3) := dk_184 0 155 (dk_at dksX1_shortest_1 17 rfl rfl)
theorem dX1_shortest_44 : decode cX1_shortest 44 = .ok (.aload_n 0, 1) := dk_42 (dk_at dksX1_shortest_1 20 rfl rfl)
theorem dX1_shortest_45 : decode cX1_shortest 45 = .ok (.getfield 66, 3) := dk_180 0 66 (dk_at dksX1_shortest_1 21 rfl rfl)
theorem dX1_shortest_48 : decode cX1_shortest 48 = .ok (.iload_n 1, 1) := dk_27 (dk_at dksX1_shortest_2 0 rfl rfl)
theorem dX1_shortest_49 : decode cX1_shortest 49 = .ok (.invokevirtual 361, 3) := dk_182 1 105 (dk_at dksX1_shortest_2 1 rfl rfl)
theorem dX1_shortest_52 : decode cX1_shortest 52 = .ok (.ifCond .ne 5, 3) := dk_154 0 5 (dk_at dksX1_shortest_2 4 rfl rfl)
theorem dX1_shortest_55 : decode cX1_shortest 55 = .ok (.iconst (-1), 1) := dk_2 (dk_at dksX1_shortest_2 7 rfl rfl)
theorem dX1_shortest_56 : decode cX1_shortest 56 = .ok (.ireturn, 1) := dk_172 (dk_at dksX1_shortest_2 8 rfl rfl)
theorem dX1_shortest_57 : decode cX1_shortest 57 = .ok (.iload_n 2, 1) := dk_28 (dk_at dksX1_shortest_2 9 rfl rfl)
theorem dX1_shortest_58 : decode cX1_shortest 58 = .ok (.ifCond .ne 11, 3) := dk_154 0 11 (dk_at dksX1_shortest_2 10 rfl rfl)
theorem dX1_shortest_61 : decode cX1_shortest 61 = .ok (.aload_n 0, 1) := dk_42 (dk_at dksX1_shortest_2 13 rfl rfl)
theorem dX1_shortest_62 : decode cX1_shortest 62 = .ok (.getfield 66, 3) := dk_180 0 66 (dk_at dksX1_shortest_2 14 rfl rfl)
theorem dX1_shortest_65 : decode cX1_shortest 65 = .ok (.getfield 362, 3) := dk_180 1 106 (dk_at dksX1_shortest_2 17 rfl rfl)
theorem dX1_shortest_68 : decode cX1_shortest 68 = .ok (.ireturn, 1) := dk_172 (dk_at dksX1_shortest_2 20 rfl rfl)
theorem dX1_shortest_69 : decode cX1_shortest 69 = .ok (.iload_n 2, 1) := dk_28 (dk_at dksX1_shortest_2 21 rfl rfl)
theorem dX1_shortest_70 : decode cX1_shortest 70 = .ok (.iconst 1, 1) := dk_4 (dk_at dksX1_shortest_2 22 rfl rfl)
theorem dX1_shortest_71 : decode cX1_shortest 71 = .ok (.if_icmp .ne 33, 3) := dk_160 0 33 (dk_at dksX1_shortest_3 0 rfl rfl)
theorem dX1_shortest_74 : decode cX1_shortest 74 = .ok (.aload_n 0, 1) := dk_42 (dk_at dksX1_shortest_3 3 rfl rfl)
theorem dX1_shortest_75 : decode cX1_shortest 75 = .ok (.getfield 66, 3) := dk_180 0 66 (dk_at dksX1_shortest_3 4 rfl rfl)
theorem dX1_shortest_78 : decode cX1_shortest 78 = .ok (.getfield 363, 3) := dk_180 1 107 (dk_at dksX1_shortest_3 7 rfl rfl)
theorem dX1_shortest_81 : decode cX1_shortest 81 = .ok (.aload_n 0, 1) := dk_42 (dk_at dksX1_shortest_3 10 rfl rfl)
theorem dX1_shortest_82 : decode cX1_shortest 82 = .ok (.getfield 66, 3) := dk_180 0 66 (dk_at dksX1_shortest_3 11 rfl rfl)
theorem dX1_shortest_85 : decode cX1_shortest 85 = .ok (.getfield 362, 3) := dk_180 1 106 (dk_at dksX1_shortest_3 14 rfl rfl)
theorem dX1_shortest_88 : decode cX1_shortest 88 = .ok (.aaload, 1) := dk_50 (dk_at dksX1_shortest_3 17 rfl rfl)
theorem dX1_shortest_89 : decode cX1_shortest 89 = .ok (.iconst 0, 1) := dk_3 (dk_at dksX1_shortest_3 18 rfl rfl)
theorem dX1_shortest_90 : decode cX1_shortest 90 = .ok (.aload_n 0, 1) := dk_42 (dk_at dksX1_shortest_3 19 rfl rfl)
theorem dX1_shortest_91 : decode cX1_shortest 91 = .ok (.getfield 66, 3) := dk_180 0 66 (dk_at dksX1_shortest_3 20 rfl rfl)
theorem dX1_shortest_94 : decode cX1_shortest 94 = .ok (.getfield 366, 3) := dk_180 1 110 (dk_at dksX1_shortest_4 0 rfl rfl)
theorem dX1_shortest_97 : decode cX1_shortest 97 = .ok (.getfield 190, 3) := dk_180 0 190 (dk_at dksX1_shortest_4 3 rfl rfl)
theorem dX1_shortest_100 : decode cX1_shortest 100 = .ok (.invokestatic 275, 3) := dk_184 1 19 (dk_at dksX1_shortest_4 6 rfl rfl)
theorem dX1_shortest_103 : decode cX1_shortest 103 = .ok (.ireturn, 1) := dk_172 (dk_at dksX1_shortest_4 9 rfl rfl)
theorem dX1_shortest_104 : decode cX1_shortest 104 = .ok (.iload_n 2, 1) := dk_28 (dk_at dksX1_shortest_4 10 rfl rfl)
theorem dX1_shortest_105 : decode cX1_shortest 105 = .ok (.bipush 10, 2) := dk_16 10 (dk_at dksX1_shortest_4 11 rfl rfl)
theorem dX1_shortest_107 : decode cX1_shortest 107 = .ok (.isub, 1) := dk_100 (dk_at dksX1_shortest_4 13 rfl rfl)
theorem dX1_shortest_108 : decode cX1_shortest 108 = .ok (.aload_n 0, 1) := dk_42 (dk_at dksX1_shortest_4 14 rfl rfl)
theorem dX1_shortest_109 : decode cX1_shortest 109 = .ok (.getfield 66, 3) := dk_180 0 66 (dk_at dksX1_shortest_4 15 rfl rfl)
theorem dX1_shortest_112 : decode cX1_shortest 112 = .ok (.getfield 362, 3) := dk_180 1 106 (dk_at dksX1_shortest_4 18 rfl rfl)
theorem dX1_shortest_115 : decode cX1_shortest 115 = .ok (.if_icmp .ge 18, 3) := dk_162 0 18 (dk_at dksX1_shortest_4 21 rfl rfl)
theorem dX1_shortest_118 : decode cX1_shortest 118 = .ok (.aload_n 0, 1) := dk_42 (dk_at dksX1_shortest_5 0 rfl rfl)
theorem dX1_shortest_119 : decode cX1_shortest 119 = .ok (.getfield 66, 3) := dk_180 0 66 (dk_at dksX1_shortest_5 1 rfl rfl)
theorem dX1_shortest_122 : decode cX1_shortest 122 = .ok (.getfield 369, 3) := dk_180 1 113 (dk_at dksX1_shortest_5 4 rfl rfl)
theorem dX1_shortest_125 : decode cX1_shortest 125 = .ok (.iload_n 2, 1) := dk_28 (dk_at dksX1_shortest_5 7 rfl rfl)
theorem dX1_shortest_126 : decode cX1_shortest 126 = .ok (.bipush 10, 2) := dk_16 10 (dk_at dksX1_shortest_5 8 rfl rfl)
theorem dX1_shortest_128 : decode cX1_shortest 128 = .ok (.isub, 1) := dk_100 (dk_at dksX1_shortest_5 10 rfl rfl)
theorem dX1_shortest_129 : decode cX1_shortest 129 = .ok (.iaload, 1) := dk_46 (dk_at dksX1_shortest_5 11 rfl rfl)
theorem dX1_shortest_130 : decode cX1_shortest 130 = .ok (.goto 4, 3) := dk_167 0 4 (dk_at dksX1_shortest_5 12 rfl rfl)
theorem dX1_shortest_133 : decode cX1_shortest 133 = .ok (.iconst (-1), 1) := dk_2 (dk_at dksX1_shortest_5 15 rfl rfl)
theorem dX1_shortest_134 : decode cX1_shortest 134 = .ok (.ireturn, 1) := dk_172 (dk_at dksX1_shortest_5 16 rfl rfl)
abbrev cX1_liar : ByteArray := prog_1_method_49_code
def yX1_liar : MethodName := ⟨RX1, "liar", "(I)I"⟩
def dkwX1_liar_0 : List UInt8 := [42, 27, 182, 0, 234, 42, 27, 182, 1, 117, 182, 1, 65, 172]
abbrev dktX1_liar_0 : List UInt8 := dkwX1_liar_0 ++ []
theorem dksX1_liar_0 : cX1_liar.data.toList.drop 0 = dktX1_liar_0 := by decide +kernel
theorem dX1_liar_0 : decode cX1_liar 0 = .ok (.aload_n 0, 1) := dk_42 (dk_at dksX1_liar_0 0 rfl rfl)
theorem dX1_liar_1 : decode cX1_liar 1 = .ok (.iload_n 1, 1) := dk_27 (dk_at dksX1_liar_0 1 rfl rfl)
theorem dX1_liar_2 : decode cX1_liar 2 = .ok (.invokevirtual 234, 3) := dk_182 0 234 (dk_at dksX1_liar_0 2 rfl rfl)
theorem dX1_liar_5 : decode cX1_liar 5 = .ok (.aload_n 0, 1) := dk_42 (dk_at dksX1_liar_0 5 rfl rfl)
theorem dX1_liar_6 : decode cX1_liar 6 = .ok (.iload_n 1, 1) := dk_27 (dk_at dksX1_liar_0 6 rfl rfl)
theorem dX1_liar_7 : decode cX1_liar 7 = .ok (.invokevirtual 373, 3) := dk_182 1 117 (dk_at dksX1_liar_0 7 rfl rfl)
theorem dX1_liar_10 : decode cX1_liar 10 = .ok (.invokevirtual 321, 3) := dk_182 1 65 (dk_at dksX1_liar_0 10 rfl rfl)
theorem dX1_liar_13 : decode cX1_liar 13 = .ok (.ireturn, 1) := dk_172 (dk_at dksX1_liar_0 13 rfl rfl)
abbrev cX1_orders : ByteArray := prog_1_method_51_code
def yX1_orders : MethodName := ⟨RX1, "orders", "(II)I"⟩
def dkwX1_orders_3 : List UInt8 := [46, 167, 0, 4, 2, 172]
abbrev dktX1_orders_3 : List UInt8 := dkwX1_orders_3 ++ []
def dkwX1_orders_2 : List UInt8 := [158, 0, 28, 28, 133, 9, 29, 4, 100, 133, 184, 0, 151, 153, 0, 15, 42, 180, 0, 73, 180, 1, 123, 28]
abbrev dktX1_orders_2 : List UInt8 := dkwX1_orders_2 ++ dktX1_orders_3
def dkwX1_orders_1 : List UInt8 := [42, 180, 0, 73, 27, 182, 1, 121, 54, 4, 28, 2, 160, 0, 8, 21, 4, 167, 0, 34, 21, 4]
abbrev dktX1_orders_1 : List UInt8 := dkwX1_orders_1 ++ dktX1_orders_2
def dkwX1_orders_0 : List UInt8 := [42, 27, 182, 0, 215, 42, 180, 0, 19, 180, 0, 206, 182, 0, 200, 62, 29, 16, 6, 164, 0, 5, 2, 172]
abbrev dktX1_orders_0 : List UInt8 := dkwX1_orders_0 ++ dktX1_orders_1
theorem dksX1_orders_0 : cX1_orders.data.toList.drop 0 = dktX1_orders_0 := by decide +kernel
theorem dksX1_orders_1 : cX1_orders.data.toList.drop 24 = dktX1_orders_1 := dk_seg dksX1_orders_0 24 rfl rfl
theorem dksX1_orders_2 : cX1_orders.data.toList.drop 46 = dktX1_orders_2 := dk_seg dksX1_orders_1 22 rfl rfl
theorem dksX1_orders_3 : cX1_orders.data.toList.drop 70 = dktX1_orders_3 := dk_seg dksX1_orders_2 24 rfl rfl
theorem dX1_orders_0 : decode cX1_orders 0 = .ok (.aload_n 0, 1) := dk_42 (dk_at dksX1_orders_0 0 rfl rfl)
theorem dX1_orders_1 : decode cX1_orders 1 = .ok (.iload_n 1, 1) := dk_27 (dk_at dksX1_orders_0 1 rfl rfl)
theorem dX1_orders_2 : decode cX1_orders 2 = .ok (.invokevirtual 215, 3) := dk_182 0 215 (dk_at dksX1_orders_0 2 rfl rfl)
theorem dX1_orders_5 : decode cX1_orders 5 = .ok (.aload_n 0, 1) := dk_42 (dk_at dksX1_orders_0 5 rfl rfl)
theorem dX1_orders_6 : decode cX1_orders 6 = .ok (.getfield 19, 3) := dk_180 0 19 (dk_at dksX1_orders_0 6 rfl rfl)
theorem dX1_orders_9 : decode cX1_orders 9 = .ok (.getfield 206, 3) := dk_180 0 206 (dk_at dksX1_orders_0 9 rfl rfl)
theorem dX1_orders_12 : decode cX1_orders 12 = .ok (.invokevirtual 200, 3) := dk_182 0 200 (dk_at dksX1_orders_0 12 rfl rfl)
theorem dX1_orders_15 : decode cX1_orders 15 = .ok (.istore_n 3, 1) := dk_62 (dk_at dksX1_orders_0 15 rfl rfl)
theorem dX1_orders_16 : decode cX1_orders 16 = .ok (.iload_n 3, 1) := dk_29 (dk_at dksX1_orders_0 16 rfl rfl)
theorem dX1_orders_17 : decode cX1_orders 17 = .ok (.bipush 6, 2) := dk_16 6 (dk_at dksX1_orders_0 17 rfl rfl)
theorem dX1_orders_19 : decode cX1_orders 19 = .ok (.if_icmp .le 5, 3) := dk_164 0 5 (dk_at dksX1_orders_0 19 rfl rfl)
theorem dX1_orders_22 : decode cX1_orders 22 = .ok (.iconst (-1), 1) := dk_2 (dk_at dksX1_orders_0 22 rfl rfl)
theorem dX1_orders_23 : decode cX1_orders 23 = .ok (.ireturn, 1) := dk_172 (dk_at dksX1_orders_0 23 rfl rfl)
theorem dX1_orders_24 : decode cX1_orders 24 = .ok (.aload_n 0, 1) := dk_42 (dk_at dksX1_orders_1 0 rfl rfl)
theorem dX1_orders_25 : decode cX1_orders 25 = .ok (.getfield 73, 3) := dk_180 0 73 (dk_at dksX1_orders_1 1 rfl rfl)
theorem dX1_orders_28 : decode cX1_orders 28 = .ok (.iload_n 1, 1) := dk_27 (dk_at dksX1_orders_1 4 rfl rfl)
theorem dX1_orders_29 : decode cX1_orders 29 = .ok (.invokevirtual 377, 3) := dk_182 1 121 (dk_at dksX1_orders_1 5 rfl rfl)
theorem dX1_orders_32 : decode cX1_orders 32 = .ok (.istore 4, 2) := dk_54 4 (dk_at dksX1_orders_1 8 rfl rfl)
theorem dX1_orders_34 : decode cX1_orders 34 = .ok (.iload_n 2, 1) := dk_28 (dk_at dksX1_orders_1 10 rfl rfl)
theorem dX1_orders_35 : decode cX1_orders 35 = .ok (.iconst (-1), 1) := dk_2 (dk_at dksX1_orders_1 11 rfl rfl)
theorem dX1_orders_36 : decode cX1_orders 36 = .ok (.if_icmp .ne 8, 3) := dk_160 0 8 (dk_at dksX1_orders_1 12 rfl rfl)
theorem dX1_orders_39 : decode cX1_orders 39 = .ok (.iload 4, 2) := dk_21 4 (dk_at dksX1_orders_1 15 rfl rfl)
theorem dX1_orders_41 : decode cX1_orders 41 = .ok (.goto 34, 3) := dk_167 0 34 (dk_at dksX1_orders_1 17 rfl rfl)
theorem dX1_orders_44 : decode cX1_orders 44 = .ok (.iload 4, 2) := dk_21 4 (dk_at dksX1_orders_1 20 rfl rfl)
theorem dX1_orders_46 : decode cX1_orders 46 = .ok (.ifCond .le 28, 3) := dk_158 0 28 (dk_at dksX1_orders_2 0 rfl rfl)
theorem dX1_orders_49 : decode cX1_orders 49 = .ok (.iload_n 2, 1) := dk_28 (dk_at dksX1_orders_2 3 rfl rfl)
theorem dX1_orders_50 : decode cX1_orders 50 = .ok (.i2l, 1) := dk_133 (dk_at dksX1_orders_2 4 rfl rfl)
theorem dX1_orders_51 : decode cX1_orders 51 = .ok (.lconst 0, 1) := dk_9 (dk_at dksX1_orders_2 5 rfl rfl)
theorem dX1_orders_52 : decode cX1_orders 52 = .ok (.iload_n 3, 1) := dk_29 (dk_at dksX1_orders_2 6 rfl rfl)
theorem dX1_orders_53 : decode cX1_orders 53 = .ok (.iconst 1, 1) := dk_4 (dk_at dksX1_orders_2 7 rfl rfl)
theorem dX1_orders_54 : decode cX1_orders 54 = .ok (.isub, 1) := dk_100 (dk_at dksX1_orders_2 8 rfl rfl)
theorem dX1_orders_55 : decode cX1_orders 55 = .ok (.i2l, 1) := dk_133 (dk_at dksX1_orders_2 9 rfl rfl)
theorem dX1_orders_56 : decode cX1_orders 56 = .ok (.invokestatic 151, 3) := dk_184 0 151 (dk_at dksX1_orders_2 10 rfl rfl)
theorem dX1_orders_59 : decode cX1_orders 59 = .ok (.ifCond .eq 15, 3) := dk_153 0 15 (dk_at dksX1_orders_2 13 rfl rfl)
theorem dX1_orders_62 : decode cX1_orders 62 = .ok (.aload_n 0, 1) := dk_42 (dk_at dksX1_orders_2 16 rfl rfl)
theorem dX1_orders_63 : decode cX1_orders 63 = .ok (.getfield 73, 3) := dk_180 0 73 (dk_at dksX1_orders_2 17 rfl rfl)
theorem dX1_orders_66 : decode cX1_orders 66 = .ok (.getfield 379, 3) := dk_180 1 123 (dk_at dksX1_orders_2 20 rfl rfl)
theorem dX1_orders_69 : decode cX1_orders 69 = .ok (.iload_n 2, 1) := dk_28 (dk_at dksX1_orders_2 23 rfl rfl)
theorem dX1_orders_70 : decode cX1_orders 70 = .ok (.iaload, 1) := dk_46 (dk_at dksX1_orders_3 0 rfl rfl)
theorem dX1_orders_71 : decode cX1_orders 71 = .ok (.goto 4, 3) := dk_167 0 4 (dk_at dksX1_orders_3 1 rfl rfl)
theorem dX1_orders_74 : decode cX1_orders 74 = .ok (.iconst (-1), 1) := dk_2 (dk_at dksX1_orders_3 4 rfl rfl)
theorem dX1_orders_75 : decode cX1_orders 75 = .ok (.ireturn, 1) := dk_172 (dk_at dksX1_orders_3 5 rfl rfl)
abbrev cX1_mended : ByteArray := prog_1_method_52_code
def yX1_mended : MethodName := ⟨RX1, "mended", "(I)I"⟩
def dkwX1_mended_5 : List UInt8 := [167, 255, 152, 2, 172]
abbrev dktX1_mended_5 : List UInt8 := dkwX1_mended_5 ++ []
def dkwX1_mended_4 : List UInt8 := [160, 0, 7, 29, 167, 0, 10, 42, 180, 0, 32, 182, 1, 23, 172, 132, 3, 1, 167, 255, 174, 132, 2, 1]
abbrev dktX1_mended_4 : List UInt8 := dkwX1_mended_4 ++ dktX1_mended_5
def dkwX1_mended_3 : List UInt8 := [29, 182, 0, 144, 182, 1, 65, 4, 159, 0, 6, 167, 0, 28, 27, 154, 0, 7, 28, 167, 0, 19, 27, 4]
abbrev dktX1_mended_3 : List UInt8 := dkwX1_mended_3 ++ dktX1_mended_4
def dkwX1_mended_2 : List UInt8 := [180, 0, 19, 180, 0, 206, 28, 182, 0, 209, 192, 0, 213, 180, 0, 241, 159, 0, 47, 42, 182, 1, 114, 28]
abbrev dktX1_mended_2 : List UInt8 := dkwX1_mended_2 ++ dktX1_mended_3
def dkwX1_mended_1 : List UInt8 := [182, 0, 200, 162, 0, 96, 3, 62, 29, 42, 180, 0, 19, 180, 0, 196, 182, 0, 200, 162, 0, 74, 29, 42]
abbrev dktX1_mended_1 : List UInt8 := dkwX1_mended_1 ++ dktX1_mended_2
def dkwX1_mended_0 : List UInt8 := [27, 133, 9, 20, 1, 126, 184, 0, 151, 184, 0, 155, 3, 61, 28, 42, 180, 0, 19, 180, 0, 206]
abbrev dktX1_mended_0 : List UInt8 := dkwX1_mended_0 ++ dktX1_mended_1
theorem dksX1_mended_0 : cX1_mended.data.toList.drop 0 = dktX1_mended_0 := by decide +kernel
theorem dksX1_mended_1 : cX1_mended.data.toList.drop 22 = dktX1_mended_1 := dk_seg dksX1_mended_0 22 rfl rfl
theorem dksX1_mended_2 : cX1_mended.data.toList.drop 46 = dktX1_mended_2 := dk_seg dksX1_mended_1 24 rfl rfl
theorem dksX1_mended_3 : cX1_mended.data.toList.drop 70 = dktX1_mended_3 := dk_seg dksX1_mended_2 24 rfl rfl
theorem dksX1_mended_4 : cX1_mended.data.toList.drop 94 = dktX1_mended_4 := dk_seg dksX1_mended_3 24 rfl rfl
theorem dksX1_mended_5 : cX1_mended.data.toList.drop 118 = dktX1_mended_5 := dk_seg dksX1_mended_4 24 rfl rfl
theorem dX1_mended_0 : decode cX1_mended 0 = .ok (.iload_n 1, 1) := dk_27 (dk_at dksX1_mended_0 0 rfl rfl)
theorem dX1_mended_1 : decode cX1_mended 1 = .ok (.i2l, 1) := dk_133 (dk_at dksX1_mended_0 1 rfl rfl)
theorem dX1_mended_2 : decode cX1_mended 2 = .ok (.lconst 0, 1) := dk_9 (dk_at dksX1_mended_0 2 rfl rfl)
theorem dX1_mended_3 : decode cX1_mended 3 = .ok (.ldc2_w 382, 3) := dk_20 1 126 (dk_at dksX1_mended_0 3 rfl rfl)
theorem dX1_mended_6 : decode cX1_mended 6 = .ok (.invokestatic 151, 3) := dk_184 0 151 (dk_at dksX1_mended_0 6 rfl rfl)
theorem dX1_mended_9 : decode cX1_mended 9 = .ok (.invokestatic 155, 3) := dk_184 0 155 (dk_at dksX1_mended_0 9 rfl rfl)
theorem dX1_mended_12 : decode cX1_mended 12 = .ok (.iconst 0, 1) := dk_3 (dk_at dksX1_mended_0 12 rfl rfl)
theorem dX1_mended_13 : decode cX1_mended 13 = .ok (.istore_n 2, 1) := dk_61 (dk_at dksX1_mended_0 13 rfl rfl)
theorem dX1_mended_14 : decode cX1_mended 14 = .ok (.iload_n 2, 1) := dk_28 (dk_at dksX1_mended_0 14 rfl rfl)
theorem dX1_mended_15 : decode cX1_mended 15 = .ok (.aload_n 0, 1) := dk_42 (dk_at dksX1_mended_0 15 rfl rfl)
theorem dX1_mended_16 : decode cX1_mended 16 = .ok (.getfield 19, 3) := dk_180 0 19 (dk_at dksX1_mended_0 16 rfl rfl)
theorem dX1_mended_19 : decode cX1_mended 19 = .ok (.getfield 206, 3) := dk_180 0 206 (dk_at dksX1_mended_0 19 rfl rfl)
theorem dX1_mended_22 : decode cX1_mended 22 = .ok (.invokevirtual 200, 3) := dk_182 0 200 (dk_at dksX1_mended_1 0 rfl rfl)
theorem dX1_mended_25 : decode cX1_mended 25 = .ok (.if_icmp .ge 96, 3) := dk_162 0 96 (dk_at dksX1_mended_1 3 rfl rfl)
theorem dX1_mended_28 : decode cX1_mended 28 = .ok (.iconst 0, 1) := dk_3 (dk_at dksX1_mended_1 6 rfl rfl)
theorem dX1_mended_29 : decode cX1_mended 29 = .ok (.istore_n 3, 1) := dk_62 (dk_at dksX1_mended_1 7 rfl rfl)
theorem dX1_mended_30 : decode cX1_mended 30 = .ok (.iload_n 3, 1) := dk_29 (dk_at dksX1_mended_1 8 rfl rfl)
theorem dX1_mended_31 : decode cX1_mended 31 = .ok (.aload_n 0, 1) := dk_42 (dk_at dksX1_mended_1 9 rfl rfl)
theorem dX1_mended_32 : decode cX1_mended 32 = .ok (.getfield 19, 3) := dk_180 0 19 (dk_at dksX1_mended_1 10 rfl rfl)
theorem dX1_mended_35 : decode cX1_mended 35 = .ok (.getfield 196, 3) := dk_180 0 196 (dk_at dksX1_mended_1 13 rfl rfl)
theorem dX1_mended_38 : decode cX1_mended 38 = .ok (.invokevirtual 200, 3) := dk_182 0 200 (dk_at dksX1_mended_1 16 rfl rfl)
theorem dX1_mended_41 : decode cX1_mended 41 = .ok (.if_icmp .ge 74, 3) := dk_162 0 74 (dk_at dksX1_mended_1 19 rfl rfl)
theorem dX1_mended_44 : decode cX1_mended 44 = .ok (.iload_n 3, 1) := dk_29 (dk_at dksX1_mended_1 22 rfl rfl)
theorem dX1_mended_45 : decode cX1_mended 45 = .ok (.aload_n 0, 1) := dk_42 (dk_at dksX1_mended_1 23 rfl rfl)
theorem dX1_mended_46 : decode cX1_mended 46 = .ok (.getfield 19, 3) := dk_180 0 19 (dk_at dksX1_mended_2 0 rfl rfl)
theorem dX1_mended_49 : decode cX1_mended 49 = .ok (.getfield 206, 3) := dk_180 0 206 (dk_at dksX1_mended_2 3 rfl rfl)
theorem dX1_mended_52 : decode cX1_mended 52 = .ok (.iload_n 2, 1) := dk_28 (dk_at dksX1_mended_2 6 rfl rfl)
theorem dX1_mended_53 : decode cX1_mended 53 = .ok (.invokevirtual 209, 3) := dk_182 0 209 (dk_at dksX1_mended_2 7 rfl rfl)
theorem dX1_mended_56 : decode cX1_mended 56 = .ok (.checkcast 213, 3) := dk_192 0 213 (dk_at dksX1_mended_2 10 rfl rfl)
theorem dX1_mended_59 : decode cX1_mended 59 = .ok (.getfield 241, 3) := dk_180 0 241 (dk_at dksX1_mended_2 13 rfl rfl)
theorem dX1_mended_62 : decode cX1_mended 62 = .ok (.if_icmp .eq 47, 3) := dk_159 0 47 (dk_at dksX1_mended_2 16 rfl rfl)
theorem dX1_mended_65 : decode cX1_mended 65 = .ok (.aload_n 0, 1) := dk_42 (dk_at dksX1_mended_2 19 rfl rfl)
theorem dX1_mended_66 : decode cX1_mended 66 = .ok (.invokevirtual 370, 3) := dk_182 1 114 (dk_at dksX1_mended_2 20 rfl rfl)
theorem dX1_mended_69 : decode cX1_mended 69 = .ok (.iload_n 2, 1) := dk_28 (dk_at dksX1_mended_2 23 rfl rfl)
theorem dX1_mended_70 : decode cX1_mended 70 = .ok (.iload_n 3, 1) := dk_29 (dk_at dksX1_mended_3 0 rfl rfl)
theorem dX1_mended_71 : decode cX1_mended 71 = .ok (.invokevirtual 144, 3) := dk_182 0 144 (dk_at dksX1_mended_3 1 rfl rfl)
theorem dX1_mended_74 : decode cX1_mended 74 = .ok (.invokevirtual 321, 3) := dk_182 1 65 (dk_at dksX1_mended_3 4 rfl rfl)
theorem dX1_mended_77 : decode cX1_mended 77 = .ok (.iconst 1, 1) := dk_4 (dk_at dksX1_mended_3 7 rfl rfl)
theorem dX1_mended_78 : decode cX1_mended 78 = .ok (.if_icmp .eq 6, 3) := dk_159 0 6 (dk_at dksX1_mended_3 8 rfl rfl)
theorem dX1_mended_81 : decode cX1_mended 81 = .ok (.goto 28, 3) := dk_167 0 28 (dk_at dksX1_mended_3 11 rfl rfl)
theorem dX1_mended_84 : decode cX1_mended 84 = .ok (.iload_n 1, 1) := dk_27 (dk_at dksX1_mended_3 14 rfl rfl)
theorem dX1_mended_85 : decode cX1_mended 85 = .ok (.ifCond .ne 7, 3) := dk_154 0 7 (dk_at dksX1_mended_3 15 rfl rfl)
theorem dX1_mended_88 : decode cX1_mended 88 = .ok (.iload_n 2, 1) := dk_28 (dk_at dksX1_mended_3 18 rfl rfl)
theorem dX1_mended_89 : decode cX1_mended 89 = .ok (.goto 19, 3) := dk_167 0 19 (dk_at dksX1_mended_3 19 rfl rfl)
theorem dX1_mended_92 : decode cX1_mended 92 = .ok (.iload_n 1, 1) := dk_27 (dk_at dksX1_mended_3 22 rfl rfl)
theorem dX1_mended_93 : decode cX1_mended 93 = .ok (.iconst 1, 1) := dk_4 (dk_at dksX1_mended_3 23 rfl rfl)
theorem dX1_mended_94 : decode cX1_mended 94 = .ok (.if_icmp .ne 7, 3) := dk_160 0 7 (dk_at dksX1_mended_4 0 rfl rfl)
theorem dX1_mended_97 : decode cX1_mended 97 = .ok (.iload_n 3, 1) := dk_29 (dk_at dksX1_mended_4 3 rfl rfl)
theorem dX1_mended_98 : decode cX1_mended 98 = .ok (.goto 10, 3) := dk_167 0 10 (dk_at dksX1_mended_4 4 rfl rfl)
theorem dX1_mended_101 : decode cX1_mended 101 = .ok (.aload_n 0, 1) := dk_42 (dk_at dksX1_mended_4 7 rfl rfl)
theorem dX1_mended_102 : decode cX1_mended 102 = .ok (.getfield 32, 3) := dk_180 0 32 (dk_at dksX1_mended_4 8 rfl rfl)
theorem dX1_mended_105 : decode cX1_mended 105 = .ok (.invokevirtual 279, 3) := dk_182 1 23 (dk_at dksX1_mended_4 11 rfl rfl)
theorem dX1_mended_108 : decode cX1_mended 108 = .ok (.ireturn, 1) := dk_172 (dk_at dksX1_mended_4 14 rfl rfl)
theorem dX1_mended_109 : decode cX1_mended 109 = .ok (.iinc 3 1, 3) := dk_132 3 1 (dk_at dksX1_mended_4 15 rfl rfl)
theorem dX1_mended_112 : decode cX1_mended 112 = .ok (.goto (-82), 3) := dk_167 255 174 (dk_at dksX1_mended_4 18 rfl rfl)
theorem dX1_mended_115 : decode cX1_mended 115 = .ok (.iinc 2 1, 3) := dk_132 2 1 (dk_at dksX1_mended_4 21 rfl rfl)
theorem dX1_mended_118 : decode cX1_mended 118 = .ok (.goto (-104), 3) := dk_167 255 152 (dk_at dksX1_mended_5 0 rfl rfl)
theorem dX1_mended_121 : decode cX1_mended 121 = .ok (.iconst (-1), 1) := dk_2 (dk_at dksX1_mended_5 3 rfl rfl)
theorem dX1_mended_122 : decode cX1_mended 122 = .ok (.ireturn, 1) := dk_172 (dk_at dksX1_mended_5 4 rfl rfl)
abbrev cX1_answers : ByteArray := prog_1_method_55_code
def yX1_answers : MethodName := ⟨RX1, "answers", "(II)I"⟩
def dkwX1_answers_3 : List UInt8 := [184, 1, 19, 167, 0, 5, 21, 4, 172]
abbrev dktX1_answers_3 : List UInt8 := dkwX1_answers_3 ++ []
def dkwX1_answers_2 : List UInt8 := [184, 1, 15, 167, 0, 28, 28, 4, 160, 0, 21, 42, 180, 0, 84, 3, 42, 180, 0, 28, 180, 0, 190]
abbrev dktX1_answers_2 : List UInt8 := dkwX1_answers_2 ++ dktX1_answers_3
def dkwX1_answers_1 : List UInt8 := [20, 1, 126, 184, 0, 151, 184, 0, 155, 42, 45, 182, 1, 156, 54, 4, 28, 154, 0, 13, 42, 180, 0, 84]
abbrev dktX1_answers_1 : List UInt8 := dkwX1_answers_1 ++ dktX1_answers_2
def dkwX1_answers_0 : List UInt8 := [42, 27, 182, 1, 146, 78, 45, 180, 1, 150, 198, 0, 7, 4, 167, 0, 4, 3, 184, 1, 153, 28, 133, 9]
abbrev dktX1_answers_0 : List UInt8 := dkwX1_answers_0 ++ dktX1_answers_1
theorem dksX1_answers_0 : cX1_answers.data.toList.drop 0 = dktX1_answers_0 := by decide +kernel
theorem dksX1_answers_1 : cX1_answers.data.toList.drop 24 = dktX1_answers_1 := dk_seg dksX1_answers_0 24 rfl rfl
theorem dksX1_answers_2 : cX1_answers.data.toList.drop 48 = dktX1_answers_2 := dk_seg dksX1_answers_1 24 rfl rfl
theorem dksX1_answers_3 : cX1_answers.data.toList.drop 71 = dktX1_answers_3 := dk_seg dksX1_answers_2 23 rfl rfl
theorem dX1_answers_0 : decode cX1_answers 0 = .ok (.aload_n 0, 1) := dk_42 (dk_at dksX1_answers_0 0 rfl rfl)
theorem dX1_answers_1 : decode cX1_answers 1 = .ok (.iload_n 1, 1) := dk_27 (dk_at dksX1_answers_0 1 rfl rfl)
theorem dX1_answers_2 : decode cX1_answers 2 = .ok (.invokevirtual 402, 3) := dk_182 1 146 (dk_at dksX1_answers_0 2 rfl rfl)
theorem dX1_answers_5 : decode cX1_answers 5 = .ok (.astore_n 3, 1) := dk_78 (dk_at dksX1_answers_0 5 rfl rfl)
theorem dX1_answers_6 : decode cX1_answers 6 = .ok (.aload_n 3, 1) := dk_45 (dk_at dksX1_answers_0 6 rfl rfl)
theorem dX1_answers_7 : decode cX1_answers 7 = .ok (.getfield 406, 3) := dk_180 1 150 (dk_at dksX1_answers_0 7 rfl rfl)
theorem dX1_answers_10 : decode cX1_answers 10 = .ok (.ifnull 7, 3) := dk_198 0 7 (dk_at dksX1_answers_0 10 rfl rfl)
theorem dX1_answers_13 : decode cX1_answers 13 = .ok (.iconst 1, 1) := dk_4 (dk_at dksX1_answers_0 13 rfl rfl)
theorem dX1_answers_14 : decode cX1_answers 14 = .ok (.goto 4, 3) := dk_167 0 4 (dk_at dksX1_answers_0 14 rfl rfl)
theorem dX1_answers_17 : decode cX1_answers 17 = .ok (.iconst 0, 1) := dk_3 (dk_at dksX1_answers_0 17 rfl rfl)
theorem dX1_answers_18 : decode cX1_answers 18 = .ok (.invokestatic 409, 3) := dk_184 1 153 (dk_at dksX1_answers_0 18 rfl rfl)
theorem dX1_answers_21 : decode cX1_answers 21 = .ok (.iload_n 2, 1) := dk_28 (dk_at dksX1_answers_0 21 rfl rfl)
theorem dX1_answers_22 : decode cX1_answers 22 = .ok (.i2l, 1) := dk_133 (dk_at dksX1_answers_0 22 rfl rfl)
theorem dX1_answers_23 : decode cX1_answers 23 = .ok (.lconst 0, 1) := dk_9 (dk_at dksX1_answers_0 23 rfl rfl)
theorem dX1_answers_24 : decode cX1_answers 24 = .ok (.ldc2_w 382, 3) := dk_20 1 126 (dk_at dksX1_answers_1 0 rfl rfl)
theorem dX1_answers_27 : decode cX1_answers 27 = .ok (.invokestatic 151, 3) := dk_184 0 151 (dk_at dksX1_answers_1 3 rfl rfl)
theorem dX1_answers_30 : decode cX1_answers 30 = .ok (.invokestatic 155, 3) := dk_184 0 155 (dk_at dksX1_answers_1 6 rfl rfl)
theorem dX1_answers_33 : decode cX1_answers 33 = .ok (.aload_n 0, 1) := dk_42 (dk_at dksX1_answers_1 9 rfl rfl)
theorem dX1_answers_34 : decode cX1_answers 34 = .ok (.aload_n 3, 1) := dk_45 (dk_at dksX1_answers_1 10 rfl rfl)
theorem dX1_answers_35 : decode cX1_answers 35 = .ok (.invokevirtual 412, 3) := dk_182 1 156 (dk_at dksX1_answers_1 11 rfl rfl)
theorem dX1_answers_38 : decode cX1_answers 38 = .ok (.istore 4, 2) := dk_54 4 (dk_at dksX1_answers_1 14 rfl rfl)
theorem dX1_answers_40 : decode cX1_answers 40 = .ok (.iload_n 2, 1) := dk_28 (dk_at dksX1_answers_1 16 rfl rfl)
theorem dX1_answers_41 : decode cX1_answers 41 = .ok (.ifCond .ne 13, 3) := dk_154 0 13 (dk_at dksX1_answers_1 17 rfl rfl)
theorem dX1_answers_44 : decode cX1_answers 44 = .ok (.aload_n 0, 1) := dk_42 (dk_at dksX1_answers_1 20 rfl rfl)
theorem dX1_answers_45 : decode cX1_answers 45 = .ok (.getfield 84, 3) := dk_180 0 84 (dk_at dksX1_answers_1 21 rfl rfl)
theorem dX1_answers_48 : decode cX1_answers 48 = .ok (.invokestatic 271, 3) := dk_184 1 15 (dk_at dksX1_answers_2 0 rfl rfl)
theorem dX1_answers_51 : decode cX1_answers 51 = .ok (.goto 28, 3) := dk_167 0 28 (dk_at dksX1_answers_2 3 rfl rfl)
theorem dX1_answers_54 : decode cX1_answers 54 = .ok (.iload_n 2, 1) := dk_28 (dk_at dksX1_answers_2 6 rfl rfl)
theorem dX1_answers_55 : decode cX1_answers 55 = .ok (.iconst 1, 1) := dk_4 (dk_at dksX1_answers_2 7 rfl rfl)
theorem dX1_answers_56 : decode cX1_answers 56 = .ok (.if_icmp .ne 21, 3) := dk_160 0 21 (dk_at dksX1_answers_2 8 rfl rfl)
theorem dX1_answers_59 : decode cX1_answers 59 = .ok (.aload_n 0, 1) := dk_42 (dk_at dksX1_answers_2 11 rfl rfl)
theorem dX1_answers_60 : decode cX1_answers 60 = .ok (.getfield 84, 3) := dk_180 0 84 (dk_at dksX1_answers_2 12 rfl rfl)
theorem dX1_answers_63 : decode cX1_answers 63 = .ok (.iconst 0, 1) := dk_3 (dk_at dksX1_answers_2 15 rfl rfl)
theorem dX1_answers_64 : decode cX1_answers 64 = .ok (.aload_n 0, 1) := dk_42 (dk_at dksX1_answers_2 16 rfl rfl)
theorem dX1_answers_65 : decode cX1_answers 65 = .ok (.getfield 28, 3) := dk_180 0 28 (dk_at dksX1_answers_2 17 rfl rfl)
theorem dX1_answers_68 : decode cX1_answers 68 = .ok (.getfield 190, 3) := dk_180 0 190 (dk_at dksX1_answers_2 20 rfl rfl)
theorem dX1_answers_71 : decode cX1_answers 71 = .ok (.invokestatic 275, 3) := dk_184 1 19 (dk_at dksX1_answers_3 0 rfl rfl)
theorem dX1_answers_74 : decode cX1_answers 74 = .ok (.goto 5, 3) := dk_167 0 5 (dk_at dksX1_answers_3 3 rfl rfl)
theorem dX1_answers_77 : decode cX1_answers 77 = .ok (.iload 4, 2) := dk_21 4 (dk_at dksX1_answers_3 6 rfl rfl)
theorem dX1_answers_79 : decode cX1_answers 79 = .ok (.ireturn, 1) := dk_172 (dk_at dksX1_answers_3 8 rfl rfl)
abbrev cX1_trayOf : ByteArray := prog_1_method_53_code
def yX1_trayOf : MethodName := ⟨RX1, "trayOf", "(I)LTwoSlips$Tray;"⟩
def dkwX1_trayOf_0 : List UInt8 := [27, 133, 9, 20, 1, 128, 184, 0, 151, 184, 0, 193, 42, 180, 0, 80, 27, 50, 176]
abbrev dktX1_trayOf_0 : List UInt8 := dkwX1_trayOf_0 ++ []
theorem dksX1_trayOf_0 : cX1_trayOf.data.toList.drop 0 = dktX1_trayOf_0 := by decide +kernel
theorem dX1_trayOf_0 : decode cX1_trayOf 0 = .ok (.iload_n 1, 1) := dk_27 (dk_at dksX1_trayOf_0 0 rfl rfl)
theorem dX1_trayOf_1 : decode cX1_trayOf 1 = .ok (.i2l, 1) := dk_133 (dk_at dksX1_trayOf_0 1 rfl rfl)
theorem dX1_trayOf_2 : decode cX1_trayOf 2 = .ok (.lconst 0, 1) := dk_9 (dk_at dksX1_trayOf_0 2 rfl rfl)
theorem dX1_trayOf_3 : decode cX1_trayOf 3 = .ok (.ldc2_w 384, 3) := dk_20 1 128 (dk_at dksX1_trayOf_0 3 rfl rfl)
theorem dX1_trayOf_6 : decode cX1_trayOf 6 = .ok (.invokestatic 151, 3) := dk_184 0 151 (dk_at dksX1_trayOf_0 6 rfl rfl)
theorem dX1_trayOf_9 : decode cX1_trayOf 9 = .ok (.invokestatic 193, 3) := dk_184 0 193 (dk_at dksX1_trayOf_0 9 rfl rfl)
theorem dX1_trayOf_12 : decode cX1_trayOf 12 = .ok (.aload_n 0, 1) := dk_42 (dk_at dksX1_trayOf_0 12 rfl rfl)
theorem dX1_trayOf_13 : decode cX1_trayOf 13 = .ok (.getfield 80, 3) := dk_180 0 80 (dk_at dksX1_trayOf_0 13 rfl rfl)
theorem dX1_trayOf_16 : decode cX1_trayOf 16 = .ok (.iload_n 1, 1) := dk_27 (dk_at dksX1_trayOf_0 16 rfl rfl)
theorem dX1_trayOf_17 : decode cX1_trayOf 17 = .ok (.aaload, 1) := dk_50 (dk_at dksX1_trayOf_0 17 rfl rfl)
theorem dX1_trayOf_18 : decode cX1_trayOf 18 = .ok (.areturn, 1) := dk_176 (dk_at dksX1_trayOf_0 18 rfl rfl)
abbrev cX1_can : ByteArray := prog_1_method_3_code
def yX1_can : MethodName := ⟨RX1, "can", "(Z)V"⟩
def dkwX1_can_0 : List UInt8 := [26, 154, 0, 11, 187, 0, 7, 89, 183, 0, 9, 191, 177]
abbrev dktX1_can_0 : List UInt8 := dkwX1_can_0 ++ []
theorem dksX1_can_0 : cX1_can.data.toList.drop 0 = dktX1_can_0 := by decide +kernel
theorem dX1_can_0 : decode cX1_can 0 = .ok (.iload_n 0, 1) := dk_26 (dk_at dksX1_can_0 0 rfl rfl)
theorem dX1_can_1 : decode cX1_can 1 = .ok (.ifCond .ne 11, 3) := dk_154 0 11 (dk_at dksX1_can_0 1 rfl rfl)
theorem dX1_can_4 : decode cX1_can 4 = .ok (.new 7, 3) := dk_187 0 7 (dk_at dksX1_can_0 4 rfl rfl)
theorem dX1_can_7 : decode cX1_can 7 = .ok (.dup, 1) := dk_89 (dk_at dksX1_can_0 7 rfl rfl)
theorem dX1_can_8 : decode cX1_can 8 = .ok (.invokespecial 9, 3) := dk_183 0 9 (dk_at dksX1_can_0 8 rfl rfl)
theorem dX1_can_11 : decode cX1_can 11 = .ok (.athrow, 1) := dk_191 (dk_at dksX1_can_0 11 rfl rfl)
theorem dX1_can_12 : decode cX1_can 12 = .ok (.return_, 1) := dk_177 (dk_at dksX1_can_0 12 rfl rfl)
abbrev cX1_answersOf : ByteArray := prog_1_method_54_code
def yX1_answersOf : MethodName := ⟨RX1, "answersOf", "(LTwoSlips$Tray;)I"⟩
def dkwX1_answersOf_5 : List UInt8 := [132, 3, 1, 167, 255, 159, 43, 182, 1, 138, 172]
abbrev dktX1_answersOf_5 : List UInt8 := dkwX1_answersOf_5 ++ []
def dkwX1_answersOf_4 : List UInt8 := [182, 1, 142, 42, 180, 0, 84, 58, 6, 42, 42, 180, 0, 88, 181, 0, 84, 42, 25, 6, 181, 0, 88]
abbrev dktX1_answersOf_4 : List UInt8 := dkwX1_answersOf_4 ++ dktX1_answersOf_5
def dkwX1_answersOf_3 : List UInt8 := [20, 1, 126, 113, 10, 148, 154, 0, 7, 4, 167, 0, 4, 3, 42, 180, 0, 84, 42, 180, 0, 88]
abbrev dktX1_answersOf_3 : List UInt8 := dkwX1_answersOf_3 ++ dktX1_answersOf_4
def dkwX1_answersOf_2 : List UInt8 := [182, 0, 200, 104, 4, 100, 133, 184, 0, 151, 154, 0, 5, 29, 172, 44, 22, 4, 136, 5, 108, 22, 4]
abbrev dktX1_answersOf_2 : List UInt8 := dkwX1_answersOf_2 ++ dktX1_answersOf_3
def dkwX1_answersOf_1 : List UInt8 := [182, 1, 138, 162, 0, 95, 43, 29, 182, 1, 139, 55, 4, 22, 4, 9, 5, 42, 180, 0, 19, 180, 0, 196]
abbrev dktX1_answersOf_1 : List UInt8 := dkwX1_answersOf_1 ++ dktX1_answersOf_2
def dkwX1_answersOf_0 : List UInt8 := [42, 182, 0, 186, 77, 44, 180, 1, 130, 3, 42, 180, 0, 84, 3, 16, 29, 184, 1, 132, 3, 62, 29, 43]
abbrev dktX1_answersOf_0 : List UInt8 := dkwX1_answersOf_0 ++ dktX1_answersOf_1
theorem dksX1_answersOf_0 : cX1_answersOf.data.toList.drop 0 = dktX1_answersOf_0 := by decide +kernel
theorem dksX1_answersOf_1 : cX1_answersOf.data.toList.drop 24 = dktX1_answersOf_1 := dk_seg dksX1_answersOf_0 24 rfl rfl
theorem dksX1_answersOf_2 : cX1_answersOf.data.toList.drop 48 = dktX1_answersOf_2 := dk_seg dksX1_answersOf_1 24 rfl rfl
theorem dksX1_answersOf_3 : cX1_answersOf.data.toList.drop 71 = dktX1_answersOf_3 := dk_seg dksX1_answersOf_2 23 rfl rfl
theorem dksX1_answersOf_4 : cX1_answersOf.data.toList.drop 93 = dktX1_answersOf_4 := dk_seg dksX1_answersOf_3 22 rfl rfl
theorem dksX1_answersOf_5 : cX1_answersOf.data.toList.drop 116 = dktX1_answersOf_5 := dk_seg dksX1_answersOf_4 23 rfl rfl
theorem dX1_answersOf_0 : decode cX1_answersOf 0 = .ok (.aload_n 0, 1) := dk_42 (dk_at dksX1_answersOf_0 0 rfl rfl)
theorem dX1_answersOf_1 : decode cX1_answersOf 1 = .ok (.invokevirtual 186, 3) := dk_182 0 186 (dk_at dksX1_answersOf_0 1 rfl rfl)
theorem dX1_answersOf_4 : decode cX1_answersOf 4 = .ok (.astore_n 2, 1) := dk_77 (dk_at dksX1_answersOf_0 4 rfl rfl)
theorem dX1_answersOf_5 : decode cX1_answersOf 5 = .ok (.aload_n 2, 1) := dk_44 (dk_at dksX1_answersOf_0 5 rfl rfl)
theorem dX1_answersOf_6 : decode cX1_answersOf 6 = .ok (.getfield 386, 3) := dk_180 1 130 (dk_at dksX1_answersOf_0 6 rfl rfl)
theorem dX1_answersOf_9 : decode cX1_answersOf 9 = .ok (.iconst 0, 1) := dk_3 (dk_at dksX1_answersOf_0 9 rfl rfl)
theorem dX1_answersOf_10 : decode cX1_answersOf 10 = .ok (.aload_n 0, 1) := dk_42 (dk_at dksX1_answersOf_0 10 rfl rfl)
theorem dX1_answersOf_11 : decode cX1_answersOf 11 = .ok (.getfield 84, 3) := dk_180 0 84 (dk_at dksX1_answersOf_0 11 rfl rfl)
theorem dX1_answersOf_14 : decode cX1_answersOf 14 = .ok (.iconst 0, 1) := dk_3 (dk_at dksX1_answersOf_0 14 rfl rfl)
theorem dX1_answersOf_15 : decode cX1_answersOf 15 = .ok (.bipush 29, 2) := dk_16 29 (dk_at dksX1_answersOf_0 15 rfl rfl)
theorem dX1_answersOf_17 : decode cX1_answersOf 17 = .ok (.invokestatic 388, 3) := dk_184 1 132 (dk_at dksX1_answersOf_0 17 rfl rfl)
theorem dX1_answersOf_20 : decode cX1_answersOf 20 = .ok (.iconst 0, 1) := dk_3 (dk_at dksX1_answersOf_0 20 rfl rfl)
theorem dX1_answersOf_21 : decode cX1_answersOf 21 = .ok (.istore_n 3, 1) := dk_62 (dk_at dksX1_answersOf_0 21 rfl rfl)
theorem dX1_answersOf_22 : decode cX1_answersOf 22 = .ok (.iload_n 3, 1) := dk_29 (dk_at dksX1_answersOf_0 22 rfl rfl)
theorem dX1_answersOf_23 : decode cX1_answersOf 23 = .ok (.aload_n 1, 1) := dk_43 (dk_at dksX1_answersOf_0 23 rfl rfl)
theorem dX1_answersOf_24 : decode cX1_answersOf 24 = .ok (.invokevirtual 394, 3) := dk_182 1 138 (dk_at dksX1_answersOf_1 0 rfl rfl)
theorem dX1_answersOf_27 : decode cX1_answersOf 27 = .ok (.if_icmp .ge 95, 3) := dk_162 0 95 (dk_at dksX1_answersOf_1 3 rfl rfl)
theorem dX1_answersOf_30 : decode cX1_answersOf 30 = .ok (.aload_n 1, 1) := dk_43 (dk_at dksX1_answersOf_1 6 rfl rfl)
theorem dX1_answersOf_31 : decode cX1_answersOf 31 = .ok (.iload_n 3, 1) := dk_29 (dk_at dksX1_answersOf_1 7 rfl rfl)
theorem dX1_answersOf_32 : decode cX1_answersOf 32 = .ok (.invokevirtual 395, 3) := dk_182 1 139 (dk_at dksX1_answersOf_1 8 rfl rfl)
theorem dX1_answersOf_35 : decode cX1_answersOf 35 = .ok (.lstore 4, 2) := dk_55 4 (dk_at dksX1_answersOf_1 11 rfl rfl)
theorem dX1_answersOf_37 : decode cX1_answersOf 37 = .ok (.lload 4, 2) := dk_22 4 (dk_at dksX1_answersOf_1 13 rfl rfl)
theorem dX1_answersOf_39 : decode cX1_answersOf 39 = .ok (.lconst 0, 1) := dk_9 (dk_at dksX1_answersOf_1 15 rfl rfl)
theorem dX1_answersOf_40 : decode cX1_answersOf 40 = .ok (.iconst 2, 1) := dk_5 (dk_at dksX1_answersOf_1 16 rfl rfl)
theorem dX1_answersOf_41 : decode cX1_answersOf 41 = .ok (.aload_n 0, 1) := dk_42 (dk_at dksX1_answersOf_1 17 rfl rfl)
theorem dX1_answersOf_42 : decode cX1_answersOf 42 = .ok (.getfield 19, 3) := dk_180 0 19 (dk_at dksX1_answersOf_1 18 rfl rfl)
theorem dX1_answersOf_45 : decode cX1_answersOf 45 = .ok (.getfield 196, 3) := dk_180 0 196 (dk_at dksX1_answersOf_1 21 rfl rfl)
theorem dX1_answersOf_48 : decode cX1_answersOf 48 = .ok (.invokevirtual 200, 3) := dk_182 0 200 (dk_at dksX1_answersOf_2 0 rfl rfl)
theorem dX1_answersOf_51 : decode cX1_answersOf 51 = .ok (.imul, 1) := dk_104 (dk_at dksX1_answersOf_2 3 rfl rfl)
theorem dX1_answersOf_52 : decode cX1_answersOf 52 = .ok (.iconst 1, 1) := dk_4 (dk_at dksX1_answersOf_2 4 rfl rfl)
theorem dX1_answersOf_53 : decode cX1_answersOf 53 = .ok (.isub, 1) := dk_100 (dk_at dksX1_answersOf_2 5 rfl rfl)
theorem dX1_answersOf_54 : decode cX1_answersOf 54 = .ok (.i2l, 1) := dk_133 (dk_at dksX1_answersOf_2 6 rfl rfl)
theorem dX1_answersOf_55 : decode cX1_answersOf 55 = .ok (.invokestatic 151, 3) := dk_184 0 151 (dk_at dksX1_answersOf_2 7 rfl rfl)
theorem dX1_answersOf_58 : decode cX1_answersOf 58 = .ok (.ifCond .ne 5, 3) := dk_154 0 5 (dk_at dksX1_answersOf_2 10 rfl rfl)
theorem dX1_answersOf_61 : decode cX1_answersOf 61 = .ok (.iload_n 3, 1) := dk_29 (dk_at dksX1_answersOf_2 13 rfl rfl)
theorem dX1_answersOf_62 : decode cX1_answersOf 62 = .ok (.ireturn, 1) := dk_172 (dk_at dksX1_answersOf_2 14 rfl rfl)
theorem dX1_answersOf_63 : decode cX1_answersOf 63 = .ok (.aload_n 2, 1) := dk_44 (dk_at dksX1_answersOf_2 15 rfl rfl)
theorem dX1_answersOf_64 : decode cX1_answersOf 64 = .ok (.lload 4, 2) := dk_22 4 (dk_at dksX1_answersOf_2 16 rfl rfl)
theorem dX1_answersOf_66 : decode cX1_answersOf 66 = .ok (.l2i, 1) := dk_136 (dk_at dksX1_answersOf_2 18 rfl rfl)
theorem dX1_answersOf_67 : decode cX1_answersOf 67 = .ok (.iconst 2, 1) := dk_5 (dk_at dksX1_answersOf_2 19 rfl rfl)
theorem dX1_answersOf_68 : decode cX1_answersOf 68 = .ok (.idiv, 1) := dk_108 (dk_at dksX1_answersOf_2 20 rfl rfl)
theorem dX1_answersOf_69 : decode cX1_answersOf 69 = .ok (.lload 4, 2) := dk_22 4 (dk_at dksX1_answersOf_2 21 rfl rfl)
theorem dX1_answersOf_71 : decode cX1_answersOf 71 = .ok (.ldc2_w 382, 3) := dk_20 1 126 (dk_at dksX1_answersOf_3 0 rfl rfl)
theorem dX1_answersOf_74 : decode cX1_answersOf 74 = .ok (.lrem, 1) := dk_113 (dk_at dksX1_answersOf_3 3 rfl rfl)
theorem dX1_answersOf_75 : decode cX1_answersOf 75 = .ok (.lconst 1, 1) := dk_10 (dk_at dksX1_answersOf_3 4 rfl rfl)
theorem dX1_answersOf_76 : decode cX1_answersOf 76 = .ok (.lcmp, 1) := dk_148 (dk_at dksX1_answersOf_3 5 rfl rfl)
theorem dX1_answersOf_77 : decode cX1_answersOf 77 = .ok (.ifCond .ne 7, 3) := dk_154 0 7 (dk_at dksX1_answersOf_3 6 rfl rfl)
theorem dX1_answersOf_80 : decode cX1_answersOf 80 = .ok (.iconst 1, 1) := dk_4 (dk_at dksX1_answersOf_3 9 rfl rfl)
theorem dX1_answersOf_81 : decode cX1_answersOf 81 = .ok (.goto 4, 3) := dk_167 0 4 (dk_at dksX1_answersOf_3 10 rfl rfl)
theorem dX1_answersOf_84 : decode cX1_answersOf 84 = .ok (.iconst 0, 1) := dk_3 (dk_at dksX1_answersOf_3 13 rfl rfl)
theorem dX1_answersOf_85 : decode cX1_answersOf 85 = .ok (.aload_n 0, 1) := dk_42 (dk_at dksX1_answersOf_3 14 rfl rfl)
theorem dX1_answersOf_86 : decode cX1_answersOf 86 = .ok (.getfield 84, 3) := dk_180 0 84 (dk_at dksX1_answersOf_3 15 rfl rfl)
theorem dX1_answersOf_89 : decode cX1_answersOf 89 = .ok (.aload_n 0, 1) := dk_42 (dk_at dksX1_answersOf_3 18 rfl rfl)
theorem dX1_answersOf_90 : decode cX1_answersOf 90 = .ok (.getfield 88, 3) := dk_180 0 88 (dk_at dksX1_answersOf_3 19 rfl rfl)
theorem dX1_answersOf_93 : decode cX1_answersOf 93 = .ok (.invokevirtual 398, 3) := dk_182 1 142 (dk_at dksX1_answersOf_4 0 rfl rfl)
theorem dX1_answersOf_96 : decode cX1_answersOf 96 = .ok (.aload_n 0, 1) := dk_42 (dk_at dksX1_answersOf_4 3 rfl rfl)
theorem dX1_answersOf_97 : decode cX1_answersOf 97 = .ok (.getfield 84, 3) := dk_180 0 84 (dk_at dksX1_answersOf_4 4 rfl rfl)
theorem dX1_answersOf_100 : decode cX1_answersOf 100 = .ok (.astore 6, 2) := dk_58 6 (dk_at dksX1_answersOf_4 7 rfl rfl)
theorem dX1_answersOf_102 : decode cX1_answersOf 102 = .ok (.aload_n 0, 1) := dk_42 (dk_at dksX1_answersOf_4 9 rfl rfl)
theorem dX1_answersOf_103 : decode cX1_answersOf 103 = .ok (.aload_n 0, 1) := dk_42 (dk_at dksX1_answersOf_4 10 rfl rfl)
theorem dX1_answersOf_104 : decode cX1_answersOf 104 = .ok (.getfield 88, 3) := dk_180 0 88 (dk_at dksX1_answersOf_4 11 rfl rfl)
theorem dX1_answersOf_107 : decode cX1_answersOf 107 = .ok (.putfield 84, 3) := dk_181 0 84 (dk_at dksX1_answersOf_4 14 rfl rfl)
theorem dX1_answersOf_110 : decode cX1_answersOf 110 = .ok (.aload_n 0, 1) := dk_42 (dk_at dksX1_answersOf_4 17 rfl rfl)
theorem dX1_answersOf_111 : decode cX1_answersOf 111 = .ok (.aload 6, 2) := dk_25 6 (dk_at dksX1_answersOf_4 18 rfl rfl)
theorem dX1_answersOf_113 : decode cX1_answersOf 113 = .ok (.putfield 88, 3) := dk_181 0 88 (dk_at dksX1_answersOf_4 20 rfl rfl)
theorem dX1_answersOf_116 : decode cX1_answersOf 116 = .ok (.iinc 3 1, 3) := dk_132 3 1 (dk_at dksX1_answersOf_5 0 rfl rfl)
theorem dX1_answersOf_119 : decode cX1_answersOf 119 = .ok (.goto (-97), 3) := dk_167 255 159 (dk_at dksX1_answersOf_5 3 rfl rfl)
theorem dX1_answersOf_122 : decode cX1_answersOf 122 = .ok (.aload_n 1, 1) := dk_43 (dk_at dksX1_answersOf_5 6 rfl rfl)
theorem dX1_answersOf_123 : decode cX1_answersOf 123 = .ok (.invokevirtual 394, 3) := dk_182 1 138 (dk_at dksX1_answersOf_5 7 rfl rfl)
theorem dX1_answersOf_126 : decode cX1_answersOf 126 = .ok (.ireturn, 1) := dk_172 (dk_at dksX1_answersOf_5 10 rfl rfl)
abbrev cX1_tray : ByteArray := prog_1_method_56_code
def yX1_tray : MethodName := ⟨RX1, "tray", "(III)V"⟩
def dkwX1_tray_2 : List UInt8 := [187, 0, 1, 89, 183, 0, 3, 191, 177]
abbrev dktX1_tray_2 : List UInt8 := dkwX1_tray_2 ++ []
def dkwX1_tray_1 : List UInt8 := [163, 0, 7, 4, 167, 0, 4, 3, 184, 0, 155, 25, 4, 28, 29, 182, 1, 160, 167, 0, 13, 58, 5]
abbrev dktX1_tray_1 : List UInt8 := dkwX1_tray_1 ++ dktX1_tray_2
def dkwX1_tray_0 : List UInt8 := [42, 27, 182, 1, 146, 58, 4, 28, 133, 9, 20, 1, 128, 184, 0, 151, 153, 0, 13, 29, 16, 40]
abbrev dktX1_tray_0 : List UInt8 := dkwX1_tray_0 ++ dktX1_tray_1
theorem dksX1_tray_0 : cX1_tray.data.toList.drop 0 = dktX1_tray_0 := by decide +kernel
theorem dksX1_tray_1 : cX1_tray.data.toList.drop 22 = dktX1_tray_1 := dk_seg dksX1_tray_0 22 rfl rfl
theorem dksX1_tray_2 : cX1_tray.data.toList.drop 45 = dktX1_tray_2 := dk_seg dksX1_tray_1 23 rfl rfl
theorem dX1_tray_0 : decode cX1_tray 0 = .ok (.aload_n 0, 1) := dk_42 (dk_at dksX1_tray_0 0 rfl rfl)
theorem dX1_tray_1 : decode cX1_tray 1 = .ok (.iload_n 1, 1) := dk_27 (dk_at dksX1_tray_0 1 rfl rfl)
theorem dX1_tray_2 : decode cX1_tray 2 = .ok (.invokevirtual 402, 3) := dk_182 1 146 (dk_at dksX1_tray_0 2 rfl rfl)
theorem dX1_tray_5 : decode cX1_tray 5 = .ok (.astore 4, 2) := dk_58 4 (dk_at dksX1_tray_0 5 rfl rfl)
theorem dX1_tray_7 : decode cX1_tray 7 = .ok (.iload_n 2, 1) := dk_28 (dk_at dksX1_tray_0 7 rfl rfl)
theorem dX1_tray_8 : decode cX1_tray 8 = .ok (.i2l, 1) := dk_133 (dk_at dksX1_tray_0 8 rfl rfl)
theorem dX1_tray_9 : decode cX1_tray 9 = .ok (.lconst 0, 1) := dk_9 (dk_at dksX1_tray_0 9 rfl rfl)
theorem dX1_tray_10 : decode cX1_tray 10 = .ok (.ldc2_w 384, 3) := dk_20 1 128 (dk_at dksX1_tray_0 10 rfl rfl)
theorem dX1_tray_13 : decode cX1_tray 13 = .ok (.invokestatic 151, 3) := dk_184 0 151 (dk_at dksX1_tray_0 13 rfl rfl)
theorem dX1_tray_16 : decode cX1_tray 16 = .ok (.ifCond .eq 13, 3) := dk_153 0 13 (dk_at dksX1_tray_0 16 rfl rfl)
theorem dX1_tray_19 : decode cX1_tray 19 = .ok (.iload_n 3, 1) := dk_29 (dk_at dksX1_tray_0 19 rfl rfl)
theorem dX1_tray_20 : decode cX1_tray 20 = .ok (.bipush 40, 2) := dk_16 40 (dk_at dksX1_tray_0 20 rfl rfl)
theorem dX1_tray_22 : decode cX1_tray 22 = .ok (.if_icmp .gt 7, 3) := dk_163 0 7 (dk_at dksX1_tray_1 0 rfl rfl)
theorem dX1_tray_25 : decode cX1_tray 25 = .ok (.iconst 1, 1) := dk_4 (dk_at dksX1_tray_1 3 rfl rfl)
theorem dX1_tray_26 : decode cX1_tray 26 = .ok (.goto 4, 3) := dk_167 0 4 (dk_at dksX1_tray_1 4 rfl rfl)
theorem dX1_tray_29 : decode cX1_tray 29 = .ok (.iconst 0, 1) := dk_3 (dk_at dksX1_tray_1 7 rfl rfl)
theorem dX1_tray_30 : decode cX1_tray 30 = .ok (.invokestatic 155, 3) := dk_184 0 155 (dk_at dksX1_tray_1 8 rfl rfl)
theorem dX1_tray_33 : decode cX1_tray 33 = .ok (.aload 4, 2) := dk_25 4 (dk_at dksX1_tray_1 11 rfl rfl)
theorem dX1_tray_35 : decode cX1_tray 35 = .ok (.iload_n 2, 1) := dk_28 (dk_at dksX1_tray_1 13 rfl rfl)
theorem dX1_tray_36 : decode cX1_tray 36 = .ok (.iload_n 3, 1) := dk_29 (dk_at dksX1_tray_1 14 rfl rfl)
theorem dX1_tray_37 : decode cX1_tray 37 = .ok (.invokevirtual 416, 3) := dk_182 1 160 (dk_at dksX1_tray_1 15 rfl rfl)
theorem dX1_tray_40 : decode cX1_tray 40 = .ok (.goto 13, 3) := dk_167 0 13 (dk_at dksX1_tray_1 18 rfl rfl)
theorem dX1_tray_43 : decode cX1_tray 43 = .ok (.astore 5, 2) := dk_58 5 (dk_at dksX1_tray_1 21 rfl rfl)
theorem dX1_tray_45 : decode cX1_tray 45 = .ok (.new 1, 3) := dk_187 0 1 (dk_at dksX1_tray_2 0 rfl rfl)
theorem dX1_tray_48 : decode cX1_tray 48 = .ok (.dup, 1) := dk_89 (dk_at dksX1_tray_2 3 rfl rfl)
theorem dX1_tray_49 : decode cX1_tray 49 = .ok (.invokespecial 3, 3) := dk_183 0 3 (dk_at dksX1_tray_2 4 rfl rfl)
theorem dX1_tray_52 : decode cX1_tray 52 = .ok (.athrow, 1) := dk_191 (dk_at dksX1_tray_2 7 rfl rfl)
theorem dX1_tray_53 : decode cX1_tray 53 = .ok (.return_, 1) := dk_177 (dk_at dksX1_tray_2 8 rfl rfl)
abbrev cX1_write : ByteArray := prog_1_method_57_code
def yX1_write : MethodName := ⟨RX1, "write", "(IIJ)J"⟩
def dkwX1_write_1 : List UInt8 := [187, 0, 7, 89, 183, 0, 9, 191, 58, 6, 187, 1, 173, 89, 183, 1, 175, 191]
abbrev dktX1_write_1 : List UInt8 := dkwX1_write_1 ++ []
def dkwX1_write_0 : List UInt8 := [42, 27, 182, 1, 146, 58, 5, 25, 5, 28, 33, 182, 1, 165, 25, 5, 28, 182, 1, 139, 173, 58, 6]
abbrev dktX1_write_0 : List UInt8 := dkwX1_write_0 ++ dktX1_write_1
theorem dksX1_write_0 : cX1_write.data.toList.drop 0 = dktX1_write_0 := by decide +kernel
theorem dksX1_write_1 : cX1_write.data.toList.drop 23 = dktX1_write_1 := dk_seg dksX1_write_0 23 rfl rfl
theorem dX1_write_0 : decode cX1_write 0 = .ok (.aload_n 0, 1) := dk_42 (dk_at dksX1_write_0 0 rfl rfl)
theorem dX1_write_1 : decode cX1_write 1 = .ok (.iload_n 1, 1) := dk_27 (dk_at dksX1_write_0 1 rfl rfl)
theorem dX1_write_2 : decode cX1_write 2 = .ok (.invokevirtual 402, 3) := dk_182 1 146 (dk_at dksX1_write_0 2 rfl rfl)
theorem dX1_write_5 : decode cX1_write 5 = .ok (.astore 5, 2) := dk_58 5 (dk_at dksX1_write_0 5 rfl rfl)
theorem dX1_write_7 : decode cX1_write 7 = .ok (.aload 5, 2) := dk_25 5 (dk_at dksX1_write_0 7 rfl rfl)
theorem dX1_write_9 : decode cX1_write 9 = .ok (.iload_n 2, 1) := dk_28 (dk_at dksX1_write_0 9 rfl rfl)
theorem dX1_write_10 : decode cX1_write 10 = .ok (.lload_n 3, 1) := dk_33 (dk_at dksX1_write_0 10 rfl rfl)
theorem dX1_write_11 : decode cX1_write 11 = .ok (.invokevirtual 421, 3) := dk_182 1 165 (dk_at dksX1_write_0 11 rfl rfl)
theorem dX1_write_14 : decode cX1_write 14 = .ok (.aload 5, 2) := dk_25 5 (dk_at dksX1_write_0 14 rfl rfl)
theorem dX1_write_16 : decode cX1_write 16 = .ok (.iload_n 2, 1) := dk_28 (dk_at dksX1_write_0 16 rfl rfl)
theorem dX1_write_17 : decode cX1_write 17 = .ok (.invokevirtual 395, 3) := dk_182 1 139 (dk_at dksX1_write_0 17 rfl rfl)
theorem dX1_write_20 : decode cX1_write 20 = .ok (.lreturn, 1) := dk_173 (dk_at dksX1_write_0 20 rfl rfl)
theorem dX1_write_21 : decode cX1_write 21 = .ok (.astore 6, 2) := dk_58 6 (dk_at dksX1_write_0 21 rfl rfl)
theorem dX1_write_23 : decode cX1_write 23 = .ok (.new 7, 3) := dk_187 0 7 (dk_at dksX1_write_1 0 rfl rfl)
theorem dX1_write_26 : decode cX1_write 26 = .ok (.dup, 1) := dk_89 (dk_at dksX1_write_1 3 rfl rfl)
theorem dX1_write_27 : decode cX1_write 27 = .ok (.invokespecial 9, 3) := dk_183 0 9 (dk_at dksX1_write_1 4 rfl rfl)
theorem dX1_write_30 : decode cX1_write 30 = .ok (.athrow, 1) := dk_191 (dk_at dksX1_write_1 7 rfl rfl)
theorem dX1_write_31 : decode cX1_write 31 = .ok (.astore 6, 2) := dk_58 6 (dk_at dksX1_write_1 8 rfl rfl)
theorem dX1_write_33 : decode cX1_write 33 = .ok (.new 429, 3) := dk_187 1 173 (dk_at dksX1_write_1 10 rfl rfl)
theorem dX1_write_36 : decode cX1_write 36 = .ok (.dup, 1) := dk_89 (dk_at dksX1_write_1 13 rfl rfl)
theorem dX1_write_37 : decode cX1_write 37 = .ok (.invokespecial 431, 3) := dk_183 1 175 (dk_at dksX1_write_1 14 rfl rfl)
theorem dX1_write_40 : decode cX1_write 40 = .ok (.athrow, 1) := dk_191 (dk_at dksX1_write_1 17 rfl rfl)
abbrev cX1_pour : ByteArray := prog_1_method_58_code
def yX1_pour : MethodName := ⟨RX1, "pour", "(I)I"⟩
def dkwX1_pour_3 : List UInt8 := [180, 0, 190, 184, 1, 19, 133, 182, 1, 165, 132, 5, 1, 167, 255, 215, 21, 4, 172]
abbrev dktX1_pour_3 : List UInt8 := dkwX1_pour_3 ++ []
def dkwX1_pour_2 : List UInt8 := [162, 0, 40, 44, 21, 5, 45, 180, 1, 11, 42, 180, 0, 19, 180, 0, 206, 182, 0, 200, 50, 21, 5, 45]
abbrev dktX1_pour_2 : List UInt8 := dkwX1_pour_2 ++ dktX1_pour_3
def dkwX1_pour_1 : List UInt8 := [182, 0, 186, 78, 44, 182, 1, 138, 45, 182, 1, 65, 184, 0, 225, 54, 4, 3, 54, 5, 21, 5, 21, 4]
abbrev dktX1_pour_1 : List UInt8 := dkwX1_pour_1 ++ dktX1_pour_2
def dkwX1_pour_0 : List UInt8 := [42, 27, 182, 1, 146, 77, 44, 180, 1, 150, 198, 0, 7, 4, 167, 0, 4, 3, 184, 1, 153, 42]
abbrev dktX1_pour_0 : List UInt8 := dkwX1_pour_0 ++ dktX1_pour_1
theorem dksX1_pour_0 : cX1_pour.data.toList.drop 0 = dktX1_pour_0 := by decide +kernel
theorem dksX1_pour_1 : cX1_pour.data.toList.drop 22 = dktX1_pour_1 := dk_seg dksX1_pour_0 22 rfl rfl
theorem dksX1_pour_2 : cX1_pour.data.toList.drop 46 = dktX1_pour_2 := dk_seg dksX1_pour_1 24 rfl rfl
theorem dksX1_pour_3 : cX1_pour.data.toList.drop 70 = dktX1_pour_3 := dk_seg dksX1_pour_2 24 rfl rfl
theorem dX1_pour_0 : decode cX1_pour 0 = .ok (.aload_n 0, 1) := dk_42 (dk_at dksX1_pour_0 0 rfl rfl)
theorem dX1_pour_1 : decode cX1_pour 1 = .ok (.iload_n 1, 1) := dk_27 (dk_at dksX1_pour_0 1 rfl rfl)
theorem dX1_pour_2 : decode cX1_pour 2 = .ok (.invokevirtual 402, 3) := dk_182 1 146 (dk_at dksX1_pour_0 2 rfl rfl)
theorem dX1_pour_5 : decode cX1_pour 5 = .ok (.astore_n 2, 1) := dk_77 (dk_at dksX1_pour_0 5 rfl rfl)
theorem dX1_pour_6 : decode cX1_pour 6 = .ok (.aload_n 2, 1) := dk_44 (dk_at dksX1_pour_0 6 rfl rfl)
theorem dX1_pour_7 : decode cX1_pour 7 = .ok (.getfield 406, 3) := dk_180 1 150 (dk_at dksX1_pour_0 7 rfl rfl)
theorem dX1_pour_10 : decode cX1_pour 10 = .ok (.ifnull 7, 3) := dk_198 0 7 (dk_at dksX1_pour_0 10 rfl rfl)
theorem dX1_pour_13 : decode cX1_pour 13 = .ok (.iconst 1, 1) := dk_4 (dk_at dksX1_pour_0 13 rfl rfl)
theorem dX1_pour_14 : decode cX1_pour 14 = .ok (.goto 4, 3) := dk_167 0 4 (dk_at dksX1_pour_0 14 rfl rfl)
theorem dX1_pour_17 : decode cX1_pour 17 = .ok (.iconst 0, 1) := dk_3 (dk_at dksX1_pour_0 17 rfl rfl)
theorem dX1_pour_18 : decode cX1_pour 18 = .ok (.invokestatic 409, 3) := dk_184 1 153 (dk_at dksX1_pour_0 18 rfl rfl)
theorem dX1_pour_21 : decode cX1_pour 21 = .ok (.aload_n 0, 1) := dk_42 (dk_at dksX1_pour_0 21 rfl rfl)
theorem dX1_pour_22 : decode cX1_pour 22 = .ok (.invokevirtual 186, 3) := dk_182 0 186 (dk_at dksX1_pour_1 0 rfl rfl)
theorem dX1_pour_25 : decode cX1_pour 25 = .ok (.astore_n 3, 1) := dk_78 (dk_at dksX1_pour_1 3 rfl rfl)
theorem dX1_pour_26 : decode cX1_pour 26 = .ok (.aload_n 2, 1) := dk_44 (dk_at dksX1_pour_1 4 rfl rfl)
theorem dX1_pour_27 : decode cX1_pour 27 = .ok (.invokevirtual 394, 3) := dk_182 1 138 (dk_at dksX1_pour_1 5 rfl rfl)
theorem dX1_pour_30 : decode cX1_pour 30 = .ok (.aload_n 3, 1) := dk_45 (dk_at dksX1_pour_1 8 rfl rfl)
theorem dX1_pour_31 : decode cX1_pour 31 = .ok (.invokevirtual 321, 3) := dk_182 1 65 (dk_at dksX1_pour_1 9 rfl rfl)
theorem dX1_pour_34 : decode cX1_pour 34 = .ok (.invokestatic 225, 3) := dk_184 0 225 (dk_at dksX1_pour_1 12 rfl rfl)
theorem dX1_pour_37 : decode cX1_pour 37 = .ok (.istore 4, 2) := dk_54 4 (dk_at dksX1_pour_1 15 rfl rfl)
theorem dX1_pour_39 : decode cX1_pour 39 = .ok (.iconst 0, 1) := dk_3 (dk_at dksX1_pour_1 17 rfl rfl)
theorem dX1_pour_40 : decode cX1_pour 40 = .ok (.istore 5, 2) := dk_54 5 (dk_at dksX1_pour_1 18 rfl rfl)
theorem dX1_pour_42 : decode cX1_pour 42 = .ok (.iload 5, 2) := dk_21 5 (dk_at dksX1_pour_1 20 rfl rfl)
theorem dX1_pour_44 : decode cX1_pour 44 = .ok (.iload 4, 2) := dk_21 4 (dk_at dksX1_pour_1 22 rfl rfl)
theorem dX1_pour_46 : decode cX1_pour 46 = .ok (.if_icmp .ge 40, 3) := dk_162 0 40 (dk_at dksX1_pour_2 0 rfl rfl)
theorem dX1_pour_49 : decode cX1_pour 49 = .ok (.aload_n 2, 1) := dk_44 (dk_at dksX1_pour_2 3 rfl rfl)
theorem dX1_pour_50 : decode cX1_pour 50 = .ok (.iload 5, 2) := dk_21 5 (dk_at dksX1_pour_2 4 rfl rfl)
theorem dX1_pour_52 : decode cX1_pour 52 = .ok (.aload_n 3, 1) := dk_45 (dk_at dksX1_pour_2 6 rfl rfl)
theorem dX1_pour_53 : decode cX1_pour 53 = .ok (.getfield 267, 3) := dk_180 1 11 (dk_at dksX1_pour_2 7 rfl rfl)
theorem dX1_pour_56 : decode cX1_pour 56 = .ok (.aload_n 0, 1) := dk_42 (dk_at dksX1_pour_2 10 rfl rfl)
theorem dX1_pour_57 : decode cX1_pour 57 = .ok (.getfield 19, 3) := dk_180 0 19 (dk_at dksX1_pour_2 11 rfl rfl)
theorem dX1_pour_60 : decode cX1_pour 60 = .ok (.getfield 206, 3) := dk_180 0 206 (dk_at dksX1_pour_2 14 rfl rfl)
theorem dX1_pour_63 : decode cX1_pour 63 = .ok (.invokevirtual 200, 3) := dk_182 0 200 (dk_at dksX1_pour_2 17 rfl rfl)
theorem dX1_pour_66 : decode cX1_pour 66 = .ok (.aaload, 1) := dk_50 (dk_at dksX1_pour_2 20 rfl rfl)
theorem dX1_pour_67 : decode cX1_pour 67 = .ok (.iload 5, 2) := dk_21 5 (dk_at dksX1_pour_2 21 rfl rfl)
theorem dX1_pour_69 : decode cX1_pour 69 = .ok (.aload_n 3, 1) := dk_45 (dk_at dksX1_pour_2 23 rfl rfl)
theorem dX1_pour_70 : decode cX1_pour 70 = .ok (.getfield 190, 3) := dk_180 0 190 (dk_at dksX1_pour_3 0 rfl rfl)
theorem dX1_pour_73 : decode cX1_pour 73 = .ok (.invokestatic 275, 3) := dk_184 1 19 (dk_at dksX1_pour_3 3 rfl rfl)
theorem dX1_pour_76 : decode cX1_pour 76 = .ok (.i2l, 1) := dk_133 (dk_at dksX1_pour_3 6 rfl rfl)
theorem dX1_pour_77 : decode cX1_pour 77 = .ok (.invokevirtual 421, 3) := dk_182 1 165 (dk_at dksX1_pour_3 7 rfl rfl)
theorem dX1_pour_80 : decode cX1_pour 80 = .ok (.iinc 5 1, 3) := dk_132 5 1 (dk_at dksX1_pour_3 10 rfl rfl)
theorem dX1_pour_83 : decode cX1_pour 83 = .ok (.goto (-41), 3) := dk_167 255 215 (dk_at dksX1_pour_3 13 rfl rfl)
theorem dX1_pour_86 : decode cX1_pour 86 = .ok (.iload 4, 2) := dk_21 4 (dk_at dksX1_pour_3 16 rfl rfl)
theorem dX1_pour_88 : decode cX1_pour 88 = .ok (.ireturn, 1) := dk_172 (dk_at dksX1_pour_3 18 rfl rfl)
abbrev cX1_image : ByteArray := prog_1_method_59_code
def yX1_image : MethodName := ⟨RX1, "image", "(I)V"⟩
def dkwX1_image_0 : List UInt8 := [27, 133, 9, 20, 1, 126, 184, 0, 151, 184, 0, 193, 42, 180, 0, 35, 27, 42, 180, 0, 19, 83, 177]
abbrev dktX1_image_0 : List UInt8 := dkwX1_image_0 ++ []
theorem dksX1_image_0 : cX1_image.data.toList.drop 0 = dktX1_image_0 := by decide +kernel
theorem dX1_image_0 : decode cX1_image 0 = .ok (.iload_n 1, 1) := dk_27 (dk_at dksX1_image_0 0 rfl rfl)
theorem dX1_image_1 : decode cX1_image 1 = .ok (.i2l, 1) := dk_133 (dk_at dksX1_image_0 1 rfl rfl)
theorem dX1_image_2 : decode cX1_image 2 = .ok (.lconst 0, 1) := dk_9 (dk_at dksX1_image_0 2 rfl rfl)
theorem dX1_image_3 : decode cX1_image 3 = .ok (.ldc2_w 382, 3) := dk_20 1 126 (dk_at dksX1_image_0 3 rfl rfl)
theorem dX1_image_6 : decode cX1_image 6 = .ok (.invokestatic 151, 3) := dk_184 0 151 (dk_at dksX1_image_0 6 rfl rfl)
theorem dX1_image_9 : decode cX1_image 9 = .ok (.invokestatic 193, 3) := dk_184 0 193 (dk_at dksX1_image_0 9 rfl rfl)
theorem dX1_image_12 : decode cX1_image 12 = .ok (.aload_n 0, 1) := dk_42 (dk_at dksX1_image_0 12 rfl rfl)
theorem dX1_image_13 : decode cX1_image 13 = .ok (.getfield 35, 3) := dk_180 0 35 (dk_at dksX1_image_0 13 rfl rfl)
theorem dX1_image_16 : decode cX1_image 16 = .ok (.iload_n 1, 1) := dk_27 (dk_at dksX1_image_0 16 rfl rfl)
theorem dX1_image_17 : decode cX1_image 17 = .ok (.aload_n 0, 1) := dk_42 (dk_at dksX1_image_0 17 rfl rfl)
theorem dX1_image_18 : decode cX1_image 18 = .ok (.getfield 19, 3) := dk_180 0 19 (dk_at dksX1_image_0 18 rfl rfl)
theorem dX1_image_21 : decode cX1_image 21 = .ok (.aastore, 1) := dk_83 (dk_at dksX1_image_0 21 rfl rfl)
theorem dX1_image_22 : decode cX1_image 22 = .ok (.return_, 1) := dk_177 (dk_at dksX1_image_0 22 rfl rfl)
abbrev cX1_restore : ByteArray := prog_1_method_60_code
def yX1_restore : MethodName := ⟨RX1, "restore", "(I)V"⟩
def dkwX1_restore_1 : List UInt8 := [167, 0, 4, 3, 184, 1, 153, 42, 42, 180, 0, 35, 27, 50, 182, 0, 171, 177]
abbrev dktX1_restore_1 : List UInt8 := dkwX1_restore_1 ++ []
def dkwX1_restore_0 : List UInt8 := [27, 133, 9, 20, 1, 126, 184, 0, 151, 184, 0, 193, 42, 180, 0, 35, 27, 50, 198, 0, 7, 4]
abbrev dktX1_restore_0 : List UInt8 := dkwX1_restore_0 ++ dktX1_restore_1
theorem dksX1_restore_0 : cX1_restore.data.toList.drop 0 = dktX1_restore_0 := by decide +kernel
theorem dksX1_restore_1 : cX1_restore.data.toList.drop 22 = dktX1_restore_1 := dk_seg dksX1_restore_0 22 rfl rfl
theorem dX1_restore_0 : decode cX1_restore 0 = .ok (.iload_n 1, 1) := dk_27 (dk_at dksX1_restore_0 0 rfl rfl)
theorem dX1_restore_1 : decode cX1_restore 1 = .ok (.i2l, 1) := dk_133 (dk_at dksX1_restore_0 1 rfl rfl)
theorem dX1_restore_2 : decode cX1_restore 2 = .ok (.lconst 0, 1) := dk_9 (dk_at dksX1_restore_0 2 rfl rfl)
theorem dX1_restore_3 : decode cX1_restore 3 = .ok (.ldc2_w 382, 3) := dk_20 1 126 (dk_at dksX1_restore_0 3 rfl rfl)
theorem dX1_restore_6 : decode cX1_restore 6 = .ok (.invokestatic 151, 3) := dk_184 0 151 (dk_at dksX1_restore_0 6 rfl rfl)
theorem dX1_restore_9 : decode cX1_restore 9 = .ok (.invokestatic 193, 3) := dk_184 0 193 (dk_at dksX1_restore_0 9 rfl rfl)
theorem dX1_restore_12 : decode cX1_restore 12 = .ok (.aload_n 0, 1) := dk_42 (dk_at dksX1_restore_0 12 rfl rfl)
theorem dX1_restore_13 : decode cX1_restore 13 = .ok (.getfield 35, 3) := dk_180 0 35 (dk_at dksX1_restore_0 13 rfl rfl)
theorem dX1_restore_16 : decode cX1_restore 16 = .ok (.iload_n 1, 1) := dk_27 (dk_at dksX1_restore_0 16 rfl rfl)
theorem dX1_restore_17 : decode cX1_restore 17 = .ok (.aaload, 1) := dk_50 (dk_at dksX1_restore_0 17 rfl rfl)
theorem dX1_restore_18 : decode cX1_restore 18 = .ok (.ifnull 7, 3) := dk_198 0 7 (dk_at dksX1_restore_0 18 rfl rfl)
theorem dX1_restore_21 : decode cX1_restore 21 = .ok (.iconst 1, 1) := dk_4 (dk_at dksX1_restore_0 21 rfl rfl)
theorem dX1_restore_22 : decode cX1_restore 22 = .ok (.goto 4, 3) := dk_167 0 4 (dk_at dksX1_restore_1 0 rfl rfl)
theorem dX1_restore_25 : decode cX1_restore 25 = .ok (.iconst 0, 1) := dk_3 (dk_at dksX1_restore_1 3 rfl rfl)
theorem dX1_restore_26 : decode cX1_restore 26 = .ok (.invokestatic 409, 3) := dk_184 1 153 (dk_at dksX1_restore_1 4 rfl rfl)
theorem dX1_restore_29 : decode cX1_restore 29 = .ok (.aload_n 0, 1) := dk_42 (dk_at dksX1_restore_1 7 rfl rfl)
theorem dX1_restore_30 : decode cX1_restore 30 = .ok (.aload_n 0, 1) := dk_42 (dk_at dksX1_restore_1 8 rfl rfl)
theorem dX1_restore_31 : decode cX1_restore 31 = .ok (.getfield 35, 3) := dk_180 0 35 (dk_at dksX1_restore_1 9 rfl rfl)
theorem dX1_restore_34 : decode cX1_restore 34 = .ok (.iload_n 1, 1) := dk_27 (dk_at dksX1_restore_1 12 rfl rfl)
theorem dX1_restore_35 : decode cX1_restore 35 = .ok (.aaload, 1) := dk_50 (dk_at dksX1_restore_1 13 rfl rfl)
theorem dX1_restore_36 : decode cX1_restore 36 = .ok (.invokevirtual 171, 3) := dk_182 0 171 (dk_at dksX1_restore_1 14 rfl rfl)
theorem dX1_restore_39 : decode cX1_restore 39 = .ok (.return_, 1) := dk_177 (dk_at dksX1_restore_1 17 rfl rfl)
theorem q106 : (Jvm.Cond.initialized "TwoSlips") ∈ lw_all := lw_g (lw_at lw_m1 1 rfl) rfl
theorem q163 : (Jvm.Cond.instantiable "TwoSlips" (16 : Nat)) ∈ lw_all := lw_g (lw_at lw_m1 58 rfl) rfl
theorem q165 : (Jvm.Cond.instanceMethod ({ cls := "TwoSlips", name := "<init>", desc := "()V" } : Jvm.MethodName)) ∈ lw_all := lw_g (lw_at lw_m1 60 rfl) rfl
theorem q166 : (Jvm.Cond.code ({ cls := "TwoSlips", name := "<init>", desc := "()V" } : Jvm.MethodName) prog_1_method_5_code (1 : Nat) (Option.none : Option Jvm.ClassFile.FieldType)) ∈ lw_all := lw_g (lw_at lw_m1 61 rfl) rfl
theorem q167 : (Jvm.Cond.methodLink "TwoSlips" (13 : Nat) ({ cls := "java/lang/Object", name := "<init>", desc := "()V" } : Jvm.MethodName)) ∈ lw_all := lw_g (lw_at lw_m1 62 rfl) rfl
theorem q170 : (Jvm.Cond.classLink "TwoSlips" (16 : Nat) "TwoSlips$Talk") ∈ lw_all := lw_g (lw_at lw_m1 65 rfl) rfl
theorem q172 : (Jvm.Cond.methodLinkNest "TwoSlips" (18 : Nat) ({ cls := "TwoSlips$Talk", name := "<init>", desc := "()V" } : Jvm.MethodName) "TwoSlips") ∈ lw_tbl := lw_at lw_m1 67 rfl
theorem q207 : (Jvm.Cond.fieldLinkNest "TwoSlips" (196 : Nat) "TwoSlips$Talk" "speakers" "Ljava/util/ArrayList;" "TwoSlips") ∈ lw_tbl := lw_at lw_m1 102 rfl
theorem q212 : (Jvm.Cond.fieldLinkNest "TwoSlips" (206 : Nat) "TwoSlips$Talk" "turns" "Ljava/util/ArrayList;" "TwoSlips") ∈ lw_tbl := lw_at lw_m1 107 rfl
theorem q214 : (Jvm.Cond.fieldLinkNest "TwoSlips" (134 : Nat) "TwoSlips$Talk" "low" "I" "TwoSlips") ∈ lw_tbl := lw_at lw_m1 109 rfl
theorem q217 : (Jvm.Cond.fieldLinkNest "TwoSlips" (137 : Nat) "TwoSlips$Talk" "high" "I" "TwoSlips") ∈ lw_tbl := lw_at lw_m1 112 rfl
theorem q222 : (Jvm.Cond.fieldLinkNest "TwoSlips" (432 : Nat) "TwoSlips$Talk" "most" "I" "TwoSlips") ∈ lw_tbl := lw_at lw_m1 117 rfl
theorem q223 : (Jvm.Cond.fieldLinkNest "TwoSlips" (175 : Nat) "TwoSlips$Talk" "lines" "I" "TwoSlips") ∈ lw_tbl := lw_at lw_m1 118 rfl
theorem q227 : (Jvm.Cond.fieldLinkNest "TwoSlips" (435 : Nat) "TwoSlips$Talk" "isUnlike" "Z" "TwoSlips") ∈ lw_tbl := lw_at lw_m1 122 rfl
theorem q243 : (Jvm.Cond.classLink "TwoSlips" (25 : Nat) "TwoSlips$Course") ∈ lw_all := lw_g (lw_at lw_m1 138 rfl) rfl
theorem q245 : (Jvm.Cond.methodLinkNest "TwoSlips" (27 : Nat) ({ cls := "TwoSlips$Course", name := "<init>", desc := "()V" } : Jvm.MethodName) "TwoSlips") ∈ lw_tbl := lw_at lw_m1 140 rfl
theorem q255 : (Jvm.Cond.fieldLinkNest "TwoSlips" (218 : Nat) "TwoSlips$Course" "x" "[I" "TwoSlips") ∈ lw_tbl := lw_at lw_m1 150 rfl
theorem q258 : (Jvm.Cond.fieldLinkNest "TwoSlips" (222 : Nat) "TwoSlips$Course" "y" "[I" "TwoSlips") ∈ lw_tbl := lw_at lw_m1 153 rfl
theorem q260 : (Jvm.Cond.fieldLinkNest "TwoSlips" (314 : Nat) "TwoSlips$Course" "heaps" "[I" "TwoSlips") ∈ lw_tbl := lw_at lw_m1 155 rfl
theorem q262 : (Jvm.Cond.fieldLinkNest "TwoSlips" (237 : Nat) "TwoSlips$Course" "slips" "[[I" "TwoSlips") ∈ lw_tbl := lw_at lw_m1 157 rfl
theorem q267 : (Jvm.Cond.fieldLinkNest "TwoSlips" (386 : Nat) "TwoSlips$Course" "all" "[J" "TwoSlips") ∈ lw_tbl := lw_at lw_m1 162 rfl
theorem q270 : (Jvm.Cond.fieldLinkNest "TwoSlips" (267 : Nat) "TwoSlips$Course" "left" "[[J" "TwoSlips") ∈ lw_tbl := lw_at lw_m1 165 rfl
theorem q276 : (Jvm.Cond.fieldLinkNest "TwoSlips" (190 : Nat) "TwoSlips$Course" "many" "I" "TwoSlips") ∈ lw_tbl := lw_at lw_m1 171 rfl
theorem q279 : (Jvm.Cond.fieldLinkNest "TwoSlips" (148 : Nat) "TwoSlips$Course" "liar" "I" "TwoSlips") ∈ lw_tbl := lw_at lw_m1 174 rfl
theorem q306 : (Jvm.Cond.classLink "TwoSlips" (47 : Nat) "TwoSlips$Mute") ∈ lw_all := lw_g (lw_at lw_m1 201 rfl) rfl
theorem q308 : (Jvm.Cond.methodLinkNest "TwoSlips" (49 : Nat) ({ cls := "TwoSlips$Mute", name := "<init>", desc := "(LTwoSlips;)V" } : Jvm.MethodName) "TwoSlips") ∈ lw_tbl := lw_at lw_m1 203 rfl
theorem q313 : (Jvm.Cond.fieldLinkNest "TwoSlips" (335 : Nat) "TwoSlips$Mute" "when" "[I" "TwoSlips") ∈ lw_tbl := lw_at lw_m1 208 rfl
theorem q315 : (Jvm.Cond.fieldLinkNest "TwoSlips" (332 : Nat) "TwoSlips$Mute" "now" "[J" "TwoSlips") ∈ lw_tbl := lw_at lw_m1 210 rfl
theorem q328 : (Jvm.Cond.classLink "TwoSlips" (56 : Nat) "TwoSlips$Soonest") ∈ lw_all := lw_g (lw_at lw_m1 223 rfl) rfl
theorem q330 : (Jvm.Cond.methodLinkNest "TwoSlips" (58 : Nat) ({ cls := "TwoSlips$Soonest", name := "<init>", desc := "(LTwoSlips;)V" } : Jvm.MethodName) "TwoSlips") ∈ lw_tbl := lw_at lw_m1 225 rfl
theorem q339 : (Jvm.Cond.fieldLinkNest "TwoSlips" (338 : Nat) "TwoSlips$Soonest" "world" "I" "TwoSlips") ∈ lw_tbl := lw_at lw_m1 234 rfl
theorem q341 : (Jvm.Cond.fieldLinkNest "TwoSlips" (341 : Nat) "TwoSlips$Soonest" "wanted" "I" "TwoSlips") ∈ lw_tbl := lw_at lw_m1 236 rfl
theorem q343 : (Jvm.Cond.fieldLinkNest "TwoSlips" (344 : Nat) "TwoSlips$Soonest" "hidden" "I" "TwoSlips") ∈ lw_tbl := lw_at lw_m1 238 rfl
theorem q350 : (Jvm.Cond.fieldLink "TwoSlips" (363 : Nat) "TwoSlips$Shortest" "sets" "[[J") ∈ lw_all := lw_g (lw_at lw_m2 5 rfl) rfl
theorem q352 : (Jvm.Cond.fieldLink "TwoSlips" (352 : Nat) "TwoSlips$Soonest" "row" "[I") ∈ lw_all := lw_g (lw_at lw_m2 7 rfl) rfl
theorem q354 : (Jvm.Cond.fieldLink "TwoSlips" (369 : Nat) "TwoSlips$Shortest" "row" "[I") ∈ lw_all := lw_g (lw_at lw_m2 9 rfl) rfl
theorem q362 : (Jvm.Cond.fieldLink "TwoSlips" (366 : Nat) "TwoSlips$Shortest" "in" "LTwoSlips$Course;") ∈ lw_all := lw_g (lw_at lw_m2 17 rfl) rfl
theorem q364 : (Jvm.Cond.fieldLink "TwoSlips" (351 : Nat) "TwoSlips$Soonest" "many" "I") ∈ lw_all := lw_g (lw_at lw_m2 19 rfl) rfl
theorem q366 : (Jvm.Cond.fieldLink "TwoSlips" (362 : Nat) "TwoSlips$Shortest" "many" "I") ∈ lw_all := lw_g (lw_at lw_m2 21 rfl) rfl
theorem q390 : (Jvm.Cond.classLink "TwoSlips" (63 : Nat) "TwoSlips$Shortest") ∈ lw_all := lw_g (lw_at lw_m2 45 rfl) rfl
theorem q392 : (Jvm.Cond.methodLinkNest "TwoSlips" (65 : Nat) ({ cls := "TwoSlips$Shortest", name := "<init>", desc := "(LTwoSlips;)V" } : Jvm.MethodName) "TwoSlips") ∈ lw_tbl := lw_at lw_m2 47 rfl
theorem q406 : (Jvm.Cond.classLink "TwoSlips" (70 : Nat) "TwoSlips$Orders") ∈ lw_all := lw_g (lw_at lw_m2 61 rfl) rfl
theorem q408 : (Jvm.Cond.methodLinkNest "TwoSlips" (72 : Nat) ({ cls := "TwoSlips$Orders", name := "<init>", desc := "(LTwoSlips;)V" } : Jvm.MethodName) "TwoSlips") ∈ lw_tbl := lw_at lw_m2 63 rfl
theorem q414 : (Jvm.Cond.fieldLinkNest "TwoSlips" (379 : Nat) "TwoSlips$Orders" "first" "[I" "TwoSlips") ∈ lw_tbl := lw_at lw_m2 69 rfl
theorem q429 : (Jvm.Cond.classLink "TwoSlips" (77 : Nat) "TwoSlips$Tray") ∈ lw_all := lw_g (lw_at lw_m2 84 rfl) rfl
theorem q432 : (Jvm.Cond.methodLinkNest "TwoSlips" (79 : Nat) ({ cls := "TwoSlips$Tray", name := "<init>", desc := "()V" } : Jvm.MethodName) "TwoSlips") ∈ lw_tbl := lw_at lw_m2 87 rfl
theorem q437 : (Jvm.Cond.fieldLinkNest "TwoSlips" (406 : Nat) "TwoSlips$Tray" "row" "Ljava/lang/Object;" "TwoSlips") ∈ lw_tbl := lw_at lw_m2 92 rfl
theorem q444 : (Jvm.Cond.fieldLink "TwoSlips" (19 : Nat) "TwoSlips" "talk" "LTwoSlips$Talk;") ∈ lw_all := lw_g (lw_at lw_m2 99 rfl) rfl
theorem q445 : (Jvm.Cond.fieldLink "TwoSlips" (28 : Nat) "TwoSlips" "course" "LTwoSlips$Course;") ∈ lw_all := lw_g (lw_at lw_m2 100 rfl) rfl
theorem q447 : (Jvm.Cond.fieldLink "TwoSlips" (32 : Nat) "TwoSlips" "tried" "LTwoSlips$Course;") ∈ lw_all := lw_g (lw_at lw_m2 102 rfl) rfl
theorem q448 : (Jvm.Cond.fieldLink "TwoSlips" (130 : Nat) "TwoSlips" "isLaid" "Z") ∈ lw_all := lw_g (lw_at lw_m2 103 rfl) rfl
theorem q449 : (Jvm.Cond.fieldLink "TwoSlips" (35 : Nat) "TwoSlips" "images" "[LTwoSlips$Talk;") ∈ lw_all := lw_g (lw_at lw_m2 104 rfl) rfl
theorem q450 : (Jvm.Cond.fieldLink "TwoSlips" (39 : Nat) "TwoSlips" "tape" "[B") ∈ lw_all := lw_g (lw_at lw_m2 105 rfl) rfl
theorem q451 : (Jvm.Cond.fieldLink "TwoSlips" (124 : Nat) "TwoSlips" "taped" "I") ∈ lw_all := lw_g (lw_at lw_m2 106 rfl) rfl
theorem q452 : (Jvm.Cond.fieldLink "TwoSlips" (159 : Nat) "TwoSlips" "faultKind" "I") ∈ lw_all := lw_g (lw_at lw_m2 107 rfl) rfl
theorem q453 : (Jvm.Cond.fieldLink "TwoSlips" (43 : Nat) "TwoSlips" "faultAt" "I") ∈ lw_all := lw_g (lw_at lw_m2 108 rfl) rfl
theorem q454 : (Jvm.Cond.fieldLink "TwoSlips" (52 : Nat) "TwoSlips" "mute" "LTwoSlips$Mute;") ∈ lw_all := lw_g (lw_at lw_m2 109 rfl) rfl
theorem q455 : (Jvm.Cond.fieldLink "TwoSlips" (59 : Nat) "TwoSlips" "soon" "LTwoSlips$Soonest;") ∈ lw_all := lw_g (lw_at lw_m2 110 rfl) rfl
theorem q456 : (Jvm.Cond.fieldLink "TwoSlips" (66 : Nat) "TwoSlips" "brief" "LTwoSlips$Shortest;") ∈ lw_all := lw_g (lw_at lw_m2 111 rfl) rfl
theorem q457 : (Jvm.Cond.fieldLink "TwoSlips" (73 : Nat) "TwoSlips" "orders" "LTwoSlips$Orders;") ∈ lw_all := lw_g (lw_at lw_m2 112 rfl) rfl
theorem q458 : (Jvm.Cond.fieldLink "TwoSlips" (80 : Nat) "TwoSlips" "trays" "[LTwoSlips$Tray;") ∈ lw_all := lw_g (lw_at lw_m2 113 rfl) rfl
theorem q459 : (Jvm.Cond.fieldLink "TwoSlips" (84 : Nat) "TwoSlips" "answered" "[J") ∈ lw_all := lw_g (lw_at lw_m2 114 rfl) rfl
theorem q460 : (Jvm.Cond.fieldLink "TwoSlips" (88 : Nat) "TwoSlips" "next" "[J") ∈ lw_all := lw_g (lw_at lw_m2 115 rfl) rfl
theorem q461 : (Jvm.Cond.lays "TwoSlips" "TwoSlips" "talk" "LTwoSlips$Talk;") ∈ lw_all := lw_g (lw_at lw_m2 116 rfl) rfl
theorem q462 : (Jvm.Cond.soleField "TwoSlips" "talk") ∈ lw_all := lw_g (lw_at lw_m2 117 rfl) rfl
theorem q463 : (Jvm.Cond.laysFinal "TwoSlips" "TwoSlips" "course" "LTwoSlips$Course;") ∈ lw_all := lw_g (lw_at lw_m2 118 rfl) rfl
theorem q464 : (Jvm.Cond.soleField "TwoSlips" "course") ∈ lw_all := lw_g (lw_at lw_m2 119 rfl) rfl
theorem q465 : (Jvm.Cond.laysFinal "TwoSlips" "TwoSlips" "tried" "LTwoSlips$Course;") ∈ lw_all := lw_g (lw_at lw_m2 120 rfl) rfl
theorem q466 : (Jvm.Cond.soleField "TwoSlips" "tried") ∈ lw_all := lw_g (lw_at lw_m2 121 rfl) rfl
theorem q467 : (Jvm.Cond.lays "TwoSlips" "TwoSlips" "isLaid" "Z") ∈ lw_all := lw_g (lw_at lw_m2 122 rfl) rfl
theorem q468 : (Jvm.Cond.soleField "TwoSlips" "isLaid") ∈ lw_all := lw_g (lw_at lw_m2 123 rfl) rfl
theorem q469 : (Jvm.Cond.laysFinal "TwoSlips" "TwoSlips" "images" "[LTwoSlips$Talk;") ∈ lw_all := lw_g (lw_at lw_m2 124 rfl) rfl
theorem q470 : (Jvm.Cond.soleField "TwoSlips" "images") ∈ lw_all := lw_g (lw_at lw_m2 125 rfl) rfl
theorem q471 : (Jvm.Cond.laysFinal "TwoSlips" "TwoSlips" "tape" "[B") ∈ lw_all := lw_g (lw_at lw_m2 126 rfl) rfl
theorem q472 : (Jvm.Cond.soleField "TwoSlips" "tape") ∈ lw_all := lw_g (lw_at lw_m2 127 rfl) rfl
theorem q473 : (Jvm.Cond.lays "TwoSlips" "TwoSlips" "taped" "I") ∈ lw_all := lw_g (lw_at lw_m2 128 rfl) rfl
theorem q474 : (Jvm.Cond.soleField "TwoSlips" "taped") ∈ lw_all := lw_g (lw_at lw_m2 129 rfl) rfl
theorem q475 : (Jvm.Cond.lays "TwoSlips" "TwoSlips" "faultKind" "I") ∈ lw_all := lw_g (lw_at lw_m2 130 rfl) rfl
theorem q476 : (Jvm.Cond.soleField "TwoSlips" "faultKind") ∈ lw_all := lw_g (lw_at lw_m2 131 rfl) rfl
theorem q477 : (Jvm.Cond.lays "TwoSlips" "TwoSlips" "faultAt" "I") ∈ lw_all := lw_g (lw_at lw_m2 132 rfl) rfl
theorem q478 : (Jvm.Cond.soleField "TwoSlips" "faultAt") ∈ lw_all := lw_g (lw_at lw_m2 133 rfl) rfl
theorem q479 : (Jvm.Cond.laysFinal "TwoSlips" "TwoSlips" "mute" "LTwoSlips$Mute;") ∈ lw_all := lw_g (lw_at lw_m2 134 rfl) rfl
theorem q480 : (Jvm.Cond.soleField "TwoSlips" "mute") ∈ lw_all := lw_g (lw_at lw_m2 135 rfl) rfl
theorem q481 : (Jvm.Cond.laysFinal "TwoSlips" "TwoSlips" "soon" "LTwoSlips$Soonest;") ∈ lw_all := lw_g (lw_at lw_m2 136 rfl) rfl
theorem q482 : (Jvm.Cond.soleField "TwoSlips" "soon") ∈ lw_all := lw_g (lw_at lw_m2 137 rfl) rfl
theorem q483 : (Jvm.Cond.laysFinal "TwoSlips" "TwoSlips" "brief" "LTwoSlips$Shortest;") ∈ lw_all := lw_g (lw_at lw_m2 138 rfl) rfl
theorem q484 : (Jvm.Cond.soleField "TwoSlips" "brief") ∈ lw_all := lw_g (lw_at lw_m2 139 rfl) rfl
theorem q485 : (Jvm.Cond.laysFinal "TwoSlips" "TwoSlips" "orders" "LTwoSlips$Orders;") ∈ lw_all := lw_g (lw_at lw_m2 140 rfl) rfl
theorem q486 : (Jvm.Cond.soleField "TwoSlips" "orders") ∈ lw_all := lw_g (lw_at lw_m2 141 rfl) rfl
theorem q487 : (Jvm.Cond.laysFinal "TwoSlips" "TwoSlips" "trays" "[LTwoSlips$Tray;") ∈ lw_all := lw_g (lw_at lw_m2 142 rfl) rfl
theorem q488 : (Jvm.Cond.soleField "TwoSlips" "trays") ∈ lw_all := lw_g (lw_at lw_m2 143 rfl) rfl
theorem q489 : (Jvm.Cond.lays "TwoSlips" "TwoSlips" "answered" "[J") ∈ lw_all := lw_g (lw_at lw_m2 144 rfl) rfl
theorem q490 : (Jvm.Cond.soleField "TwoSlips" "answered") ∈ lw_all := lw_g (lw_at lw_m2 145 rfl) rfl
theorem q491 : (Jvm.Cond.lays "TwoSlips" "TwoSlips" "next" "[J") ∈ lw_all := lw_g (lw_at lw_m2 146 rfl) rfl
theorem q492 : (Jvm.Cond.soleField "TwoSlips" "next") ∈ lw_all := lw_g (lw_at lw_m2 147 rfl) rfl
theorem q493 : (Jvm.Cond.superclass "TwoSlips" "java/lang/Object") ∈ lw_all := lw_g (lw_at lw_m2 148 rfl) rfl
theorem q495 : (Jvm.Cond.instanceMethod ({ cls := "TwoSlips", name := "feed", desc := "(IIIII)I" } : Jvm.MethodName)) ∈ lw_all := lw_g (lw_at lw_m2 150 rfl) rfl
theorem q496 : (Jvm.Cond.selects "TwoSlips" ({ cls := "TwoSlips", name := "feed", desc := "(IIIII)I" } : Jvm.MethodName) ({ cls := "TwoSlips", name := "feed", desc := "(IIIII)I" } : Jvm.MethodName)) ∈ lw_all := lw_g (lw_at lw_m2 151 rfl) rfl
theorem q497 : (Jvm.Cond.code ({ cls := "TwoSlips", name := "feed", desc := "(IIIII)I" } : Jvm.MethodName) prog_1_method_11_code (6 : Nat) (Option.some Jvm.ClassFile.FieldType.int)) ∈ lw_all := lw_g (lw_at lw_m2 152 rfl) rfl
theorem q498 : (Jvm.Cond.methodLink "TwoSlips" (127 : Nat) ({ cls := "TwoSlips", name := "four", desc := "(I)V" } : Jvm.MethodName)) ∈ lw_all := lw_g (lw_at lw_m2 153 rfl) rfl
theorem q499 : (Jvm.Cond.privateMethod ({ cls := "TwoSlips", name := "four", desc := "(I)V" } : Jvm.MethodName)) ∈ lw_tbl := lw_at lw_m2 154 rfl
theorem q500 : (Jvm.Cond.instanceMethod ({ cls := "TwoSlips", name := "four", desc := "(I)V" } : Jvm.MethodName)) ∈ lw_all := lw_g (lw_at lw_m2 155 rfl) rfl
theorem q501 : (Jvm.Cond.code ({ cls := "TwoSlips", name := "four", desc := "(I)V" } : Jvm.MethodName) prog_1_method_12_code (3 : Nat) (Option.none : Option Jvm.ClassFile.FieldType)) ∈ lw_all := lw_g (lw_at lw_m2 156 rfl) rfl
theorem q503 : (Jvm.Cond.instanceMethod ({ cls := "TwoSlips", name := "fault", desc := "(I)I" } : Jvm.MethodName)) ∈ lw_all := lw_g (lw_at lw_m2 158 rfl) rfl
theorem q504 : (Jvm.Cond.selects "TwoSlips" ({ cls := "TwoSlips", name := "fault", desc := "(I)I" } : Jvm.MethodName) ({ cls := "TwoSlips", name := "fault", desc := "(I)I" } : Jvm.MethodName)) ∈ lw_all := lw_g (lw_at lw_m2 159 rfl) rfl
theorem q505 : (Jvm.Cond.code ({ cls := "TwoSlips", name := "fault", desc := "(I)I" } : Jvm.MethodName) prog_1_method_17_code (2 : Nat) (Option.some Jvm.ClassFile.FieldType.int)) ∈ lw_all := lw_g (lw_at lw_m2 160 rfl) rfl
theorem q507 : (Jvm.Cond.instanceMethod ({ cls := "TwoSlips", name := "pair", desc := "(II)I" } : Jvm.MethodName)) ∈ lw_all := lw_g (lw_at lw_m2 162 rfl) rfl
theorem q508 : (Jvm.Cond.selects "TwoSlips" ({ cls := "TwoSlips", name := "pair", desc := "(II)I" } : Jvm.MethodName) ({ cls := "TwoSlips", name := "pair", desc := "(II)I" } : Jvm.MethodName)) ∈ lw_all := lw_g (lw_at lw_m2 163 rfl) rfl
theorem q509 : (Jvm.Cond.code ({ cls := "TwoSlips", name := "pair", desc := "(II)I" } : Jvm.MethodName) prog_1_method_23_code (5 : Nat) (Option.some Jvm.ClassFile.FieldType.int)) ∈ lw_all := lw_g (lw_at lw_m2 164 rfl) rfl
theorem q510 : (Jvm.Cond.methodLink "TwoSlips" (186 : Nat) ({ cls := "TwoSlips", name := "laid", desc := "()LTwoSlips$Course;" } : Jvm.MethodName)) ∈ lw_all := lw_g (lw_at lw_m2 165 rfl) rfl
theorem q511 : (Jvm.Cond.privateMethod ({ cls := "TwoSlips", name := "laid", desc := "()LTwoSlips$Course;" } : Jvm.MethodName)) ∈ lw_tbl := lw_at lw_m2 166 rfl
theorem q512 : (Jvm.Cond.instanceMethod ({ cls := "TwoSlips", name := "laid", desc := "()LTwoSlips$Course;" } : Jvm.MethodName)) ∈ lw_all := lw_g (lw_at lw_m2 167 rfl) rfl
theorem q513 : (Jvm.Cond.code ({ cls := "TwoSlips", name := "laid", desc := "()LTwoSlips$Course;" } : Jvm.MethodName) prog_1_method_14_code (1 : Nat) (Option.some (Jvm.ClassFile.FieldType.object "TwoSlips$Course"))) ∈ lw_all := lw_g (lw_at lw_m2 168 rfl) rfl
theorem q514 : (Jvm.Cond.methodLink "TwoSlips" (140 : Nat) ({ cls := "TwoSlips$Course", name := "worlds", desc := "(LTwoSlips$Talk;II)V" } : Jvm.MethodName)) ∈ lw_all := lw_g (lw_at lw_m2 169 rfl) rfl
theorem q575 : (Jvm.Cond.static ({ cls := "TwoSlips", name := "puts", desc := "([JI)V" } : Jvm.MethodName)) ∈ lw_all := lw_g (lw_at lw_m2 230 rfl) rfl
theorem q576 : (Jvm.Cond.code ({ cls := "TwoSlips", name := "puts", desc := "([JI)V" } : Jvm.MethodName) prog_1_method_7_code (2 : Nat) (Option.none : Option Jvm.ClassFile.FieldType)) ∈ lw_all := lw_g (lw_at lw_m2 231 rfl) rfl
theorem q580 : (Jvm.Cond.methodLink "TwoSlips" (144 : Nat) ({ cls := "TwoSlips$Course", name := "goes", desc := "(II)LTwoSlips$Course;" } : Jvm.MethodName)) ∈ lw_all := lw_g (lw_at lw_m2 235 rfl) rfl
theorem q647 : (Jvm.Cond.static ({ cls := "TwoSlips", name := "has", desc := "([JI)Z" } : Jvm.MethodName)) ∈ lw_all := lw_g (lw_at lw_m3 62 rfl) rfl
theorem q648 : (Jvm.Cond.code ({ cls := "TwoSlips", name := "has", desc := "([JI)Z" } : Jvm.MethodName) prog_1_method_6_code (2 : Nat) (Option.some Jvm.ClassFile.FieldType.boolean)) ∈ lw_all := lw_g (lw_at lw_m3 63 rfl) rfl
theorem q681 : (Jvm.Cond.methodLink "TwoSlips" (225 : Nat) ({ cls := "java/lang/Math", name := "min", desc := "(II)I" } : Jvm.MethodName)) ∈ lw_all := lw_g (lw_at lw_m3 96 rfl) rfl
theorem q682 : (Jvm.Cond.methodLink "TwoSlips" (231 : Nat) ({ cls := "java/lang/Math", name := "max", desc := "(II)I" } : Jvm.MethodName)) ∈ lw_all := lw_g (lw_at lw_m3 97 rfl) rfl
theorem q686 : (Jvm.Cond.instanceMethod ({ cls := "TwoSlips", name := "only", desc := "()I" } : Jvm.MethodName)) ∈ lw_all := lw_g (lw_at lw_m3 101 rfl) rfl
theorem q687 : (Jvm.Cond.selects "TwoSlips" ({ cls := "TwoSlips", name := "only", desc := "()I" } : Jvm.MethodName) ({ cls := "TwoSlips", name := "only", desc := "()I" } : Jvm.MethodName)) ∈ lw_all := lw_g (lw_at lw_m3 102 rfl) rfl
theorem q688 : (Jvm.Cond.code ({ cls := "TwoSlips", name := "only", desc := "()I" } : Jvm.MethodName) prog_1_method_31_code (1 : Nat) (Option.some Jvm.ClassFile.FieldType.int)) ∈ lw_all := lw_g (lw_at lw_m3 103 rfl) rfl
theorem q689 : (Jvm.Cond.methodLink "TwoSlips" (279 : Nat) ({ cls := "TwoSlips$Course", name := "only", desc := "()I" } : Jvm.MethodName)) ∈ lw_all := lw_g (lw_at lw_m3 104 rfl) rfl
theorem q698 : (Jvm.Cond.static ({ cls := "TwoSlips", name := "count", desc := "([J)I" } : Jvm.MethodName)) ∈ lw_all := lw_g (lw_at lw_m3 113 rfl) rfl
theorem q699 : (Jvm.Cond.code ({ cls := "TwoSlips", name := "count", desc := "([J)I" } : Jvm.MethodName) prog_1_method_8_code (3 : Nat) (Option.some Jvm.ClassFile.FieldType.int)) ∈ lw_all := lw_g (lw_at lw_m3 114 rfl) rfl
theorem q700 : (Jvm.Cond.methodLink "TwoSlips" (91 : Nat) ({ cls := "java/lang/Long", name := "bitCount", desc := "(J)I" } : Jvm.MethodName)) ∈ lw_all := lw_g (lw_at lw_m3 115 rfl) rfl
theorem q707 : (Jvm.Cond.static ({ cls := "TwoSlips", name := "at", desc := "([JII)I" } : Jvm.MethodName)) ∈ lw_all := lw_g (lw_at lw_m3 122 rfl) rfl
theorem q708 : (Jvm.Cond.code ({ cls := "TwoSlips", name := "at", desc := "([JII)I" } : Jvm.MethodName) prog_1_method_9_code (5 : Nat) (Option.some Jvm.ClassFile.FieldType.int)) ∈ lw_all := lw_g (lw_at lw_m3 123 rfl) rfl
theorem q709 : (Jvm.Cond.methodLink "TwoSlips" (97 : Nat) ({ cls := "TwoSlips", name := "has", desc := "([JI)Z" } : Jvm.MethodName)) ∈ lw_all := lw_g (lw_at lw_m3 124 rfl) rfl
theorem q711 : (Jvm.Cond.instanceMethod ({ cls := "TwoSlips", name := "which", desc := "()I" } : Jvm.MethodName)) ∈ lw_all := lw_g (lw_at lw_m3 126 rfl) rfl
theorem q712 : (Jvm.Cond.selects "TwoSlips" ({ cls := "TwoSlips", name := "which", desc := "()I" } : Jvm.MethodName) ({ cls := "TwoSlips", name := "which", desc := "()I" } : Jvm.MethodName)) ∈ lw_all := lw_g (lw_at lw_m3 127 rfl) rfl
theorem q713 : (Jvm.Cond.code ({ cls := "TwoSlips", name := "which", desc := "()I" } : Jvm.MethodName) prog_1_method_50_code (3 : Nat) (Option.some Jvm.ClassFile.FieldType.int)) ∈ lw_all := lw_g (lw_at lw_m3 128 rfl) rfl
theorem q714 : (Jvm.Cond.methodLink "TwoSlips" (200 : Nat) ({ cls := "java/util/ArrayList", name := "size", desc := "()I" } : Jvm.MethodName)) ∈ lw_all := lw_g (lw_at lw_m3 129 rfl) rfl
theorem q715 : (Jvm.Cond.methodLink "TwoSlips" (373 : Nat) ({ cls := "TwoSlips", name := "lying", desc := "(I)LTwoSlips$Course;" } : Jvm.MethodName)) ∈ lw_all := lw_g (lw_at lw_m3 130 rfl) rfl
theorem q716 : (Jvm.Cond.privateMethod ({ cls := "TwoSlips", name := "lying", desc := "(I)LTwoSlips$Course;" } : Jvm.MethodName)) ∈ lw_tbl := lw_at lw_m3 131 rfl
theorem q717 : (Jvm.Cond.instanceMethod ({ cls := "TwoSlips", name := "lying", desc := "(I)LTwoSlips$Course;" } : Jvm.MethodName)) ∈ lw_all := lw_g (lw_at lw_m3 132 rfl) rfl
theorem q718 : (Jvm.Cond.code ({ cls := "TwoSlips", name := "lying", desc := "(I)LTwoSlips$Course;" } : Jvm.MethodName) prog_1_method_48_code (2 : Nat) (Option.some (Jvm.ClassFile.FieldType.object "TwoSlips$Course"))) ∈ lw_all := lw_g (lw_at lw_m3 133 rfl) rfl
theorem q719 : (Jvm.Cond.methodLink "TwoSlips" (370 : Nat) ({ cls := "TwoSlips", name := "fresh", desc := "()LTwoSlips$Course;" } : Jvm.MethodName)) ∈ lw_all := lw_g (lw_at lw_m3 134 rfl) rfl
theorem q720 : (Jvm.Cond.privateMethod ({ cls := "TwoSlips", name := "fresh", desc := "()LTwoSlips$Course;" } : Jvm.MethodName)) ∈ lw_tbl := lw_at lw_m3 135 rfl
theorem q721 : (Jvm.Cond.instanceMethod ({ cls := "TwoSlips", name := "fresh", desc := "()LTwoSlips$Course;" } : Jvm.MethodName)) ∈ lw_all := lw_g (lw_at lw_m3 136 rfl) rfl
theorem q722 : (Jvm.Cond.code ({ cls := "TwoSlips", name := "fresh", desc := "()LTwoSlips$Course;" } : Jvm.MethodName) prog_1_method_15_code (1 : Nat) (Option.some (Jvm.ClassFile.FieldType.object "TwoSlips$Course"))) ∈ lw_all := lw_g (lw_at lw_m3 137 rfl) rfl
theorem q723 : (Jvm.Cond.methodLink "TwoSlips" (321 : Nat) ({ cls := "TwoSlips$Course", name := "end", desc := "()I" } : Jvm.MethodName)) ∈ lw_all := lw_g (lw_at lw_m3 138 rfl) rfl
theorem q725 : (Jvm.Cond.instanceMethod ({ cls := "TwoSlips", name := "count", desc := "(I)I" } : Jvm.MethodName)) ∈ lw_all := lw_g (lw_at lw_m3 140 rfl) rfl
theorem q726 : (Jvm.Cond.selects "TwoSlips" ({ cls := "TwoSlips", name := "count", desc := "(I)I" } : Jvm.MethodName) ({ cls := "TwoSlips", name := "count", desc := "(I)I" } : Jvm.MethodName)) ∈ lw_all := lw_g (lw_at lw_m3 141 rfl) rfl
theorem q727 : (Jvm.Cond.code ({ cls := "TwoSlips", name := "count", desc := "(I)I" } : Jvm.MethodName) prog_1_method_61_code (2 : Nat) (Option.some Jvm.ClassFile.FieldType.int)) ∈ lw_all := lw_g (lw_at lw_m3 142 rfl) rfl
theorem q733 : (Jvm.Cond.instanceMethod ({ cls := "TwoSlips", name := "talk", desc := "(I)I" } : Jvm.MethodName)) ∈ lw_all := lw_g (lw_at lw_m3 148 rfl) rfl
theorem q734 : (Jvm.Cond.selects "TwoSlips" ({ cls := "TwoSlips", name := "talk", desc := "(I)I" } : Jvm.MethodName) ({ cls := "TwoSlips", name := "talk", desc := "(I)I" } : Jvm.MethodName)) ∈ lw_all := lw_g (lw_at lw_m3 149 rfl) rfl
theorem q735 : (Jvm.Cond.codeWith ({ cls := "TwoSlips", name := "talk", desc := "(I)I" } : Jvm.MethodName) prog_1_method_16_code (5 : Nat) (Option.some Jvm.ClassFile.FieldType.int) [((24 : Nat), (51 : Nat), (58 : Nat), (178 : Nat)), ((24 : Nat), (51 : Nat), (90 : Nat), (0 : Nat)), ((58 : Nat), (83 : Nat), (90 : Nat), (0 : Nat)), ((90 : Nat), (92 : Nat), (90 : Nat), (0 : Nat))]) ∈ lw_all := lw_g (lw_at lw_m3 150 rfl) rfl
theorem q736 : (Jvm.Cond.classLink "TwoSlips" (178 : Nat) "TwoSlips$Bad") ∈ lw_all := lw_g (lw_at lw_m3 151 rfl) rfl
theorem q737 : (Jvm.Cond.methodLink "TwoSlips" (151 : Nat) ({ cls := "TwoSlips", name := "isIn", desc := "(JJJ)Z" } : Jvm.MethodName)) ∈ lw_all := lw_g (lw_at lw_m3 152 rfl) rfl
theorem q738 : (Jvm.Cond.static ({ cls := "TwoSlips", name := "isIn", desc := "(JJJ)Z" } : Jvm.MethodName)) ∈ lw_all := lw_g (lw_at lw_m3 153 rfl) rfl
theorem q739 : (Jvm.Cond.code ({ cls := "TwoSlips", name := "isIn", desc := "(JJJ)Z" } : Jvm.MethodName) prog_1_method_1_code (6 : Nat) (Option.some Jvm.ClassFile.FieldType.boolean)) ∈ lw_all := lw_g (lw_at lw_m3 154 rfl) rfl
theorem q740 : (Jvm.Cond.methodLink "TwoSlips" (155 : Nat) ({ cls := "TwoSlips", name := "right", desc := "(Z)V" } : Jvm.MethodName)) ∈ lw_all := lw_g (lw_at lw_m3 155 rfl) rfl
theorem q741 : (Jvm.Cond.static ({ cls := "TwoSlips", name := "right", desc := "(Z)V" } : Jvm.MethodName)) ∈ lw_all := lw_g (lw_at lw_m3 156 rfl) rfl
theorem q742 : (Jvm.Cond.code ({ cls := "TwoSlips", name := "right", desc := "(Z)V" } : Jvm.MethodName) prog_1_method_2_code (1 : Nat) (Option.none : Option Jvm.ClassFile.FieldType)) ∈ lw_all := lw_g (lw_at lw_m3 157 rfl) rfl
theorem q743 : (Jvm.Cond.classLink "TwoSlips" (1 : Nat) "java/lang/IllegalArgumentException") ∈ lw_all := lw_g (lw_at lw_m3 158 rfl) rfl
theorem q802 : (Jvm.Cond.methodLink "TwoSlips" (3 : Nat) ({ cls := "java/lang/IllegalArgumentException", name := "<init>", desc := "()V" } : Jvm.MethodName)) ∈ lw_all := lw_g (lw_at lw_m3 217 rfl) rfl
theorem q825 : (Jvm.Cond.classLink "TwoSlips" (162 : Nat) "TwoSlips$Reader") ∈ lw_all := lw_g (lw_at lw_m4 0 rfl) rfl
theorem q827 : (Jvm.Cond.methodLink "TwoSlips" (164 : Nat) ({ cls := "TwoSlips$Reader", name := "<init>", desc := "([BI)V" } : Jvm.MethodName)) ∈ lw_all := lw_g (lw_at lw_m4 2 rfl) rfl
theorem q873 : (Jvm.Cond.methodLink "TwoSlips" (167 : Nat) ({ cls := "TwoSlips$Reader", name := "all", desc := "()LTwoSlips$Talk;" } : Jvm.MethodName)) ∈ lw_all := lw_g (lw_at lw_m4 48 rfl) rfl
theorem q967 : (Jvm.Cond.fieldLinkNest "TwoSlips" (180 : Nat) "TwoSlips$Bad" "kind" "I" "TwoSlips") ∈ lw_tbl := lw_at lw_m4 142 rfl
theorem q969 : (Jvm.Cond.fieldLinkNest "TwoSlips" (183 : Nat) "TwoSlips$Bad" "place" "I" "TwoSlips") ∈ lw_tbl := lw_at lw_m4 144 rfl
theorem q1051 : (Jvm.Cond.static ({ cls := "TwoSlips", name := "sight", desc := "(I)LTwoSlips$Sight;" } : Jvm.MethodName)) ∈ lw_all := lw_g (lw_at lw_m4 226 rfl) rfl
theorem q1052 : (Jvm.Cond.code ({ cls := "TwoSlips", name := "sight", desc := "(I)LTwoSlips$Sight;" } : Jvm.MethodName) prog_1_method_10_code (1 : Nat) (Option.some (Jvm.ClassFile.FieldType.object "TwoSlips$Sight"))) ∈ lw_all := lw_g (lw_at lw_m4 227 rfl) rfl
theorem q1053 : (Jvm.Cond.classLink "TwoSlips" (101 : Nat) "TwoSlips$Sum") ∈ lw_all := lw_g (lw_at lw_m4 228 rfl) rfl
theorem q1055 : (Jvm.Cond.methodLinkNest "TwoSlips" (103 : Nat) ({ cls := "TwoSlips$Sum", name := "<init>", desc := "()V" } : Jvm.MethodName) "TwoSlips") ∈ lw_tbl := lw_at lw_m4 230 rfl
theorem q1063 : (Jvm.Cond.classLink "TwoSlips" (104 : Nat) "TwoSlips$Product") ∈ lw_all := lw_g (lw_at lw_m4 238 rfl) rfl
theorem q1065 : (Jvm.Cond.methodLinkNest "TwoSlips" (106 : Nat) ({ cls := "TwoSlips$Product", name := "<init>", desc := "()V" } : Jvm.MethodName) "TwoSlips") ∈ lw_tbl := lw_at lw_m5 0 rfl
theorem q1070 : (Jvm.Cond.classLink "TwoSlips" (107 : Nat) "TwoSlips$Greater") ∈ lw_all := lw_g (lw_at lw_m5 5 rfl) rfl
theorem q1072 : (Jvm.Cond.methodLinkNest "TwoSlips" (109 : Nat) ({ cls := "TwoSlips$Greater", name := "<init>", desc := "()V" } : Jvm.MethodName) "TwoSlips") ∈ lw_tbl := lw_at lw_m5 7 rfl
theorem q1079 : (Jvm.Cond.classLink "TwoSlips" (110 : Nat) "TwoSlips$Less") ∈ lw_all := lw_g (lw_at lw_m5 14 rfl) rfl
theorem q1081 : (Jvm.Cond.methodLinkNest "TwoSlips" (112 : Nat) ({ cls := "TwoSlips$Less", name := "<init>", desc := "()V" } : Jvm.MethodName) "TwoSlips") ∈ lw_tbl := lw_at lw_m5 16 rfl
theorem q1083 : (Jvm.Cond.classLink "TwoSlips" (113 : Nat) "TwoSlips$Difference") ∈ lw_all := lw_g (lw_at lw_m5 18 rfl) rfl
theorem q1085 : (Jvm.Cond.methodLinkNest "TwoSlips" (115 : Nat) ({ cls := "TwoSlips$Difference", name := "<init>", desc := "()V" } : Jvm.MethodName) "TwoSlips") ∈ lw_tbl := lw_at lw_m5 20 rfl
theorem q1089 : (Jvm.Cond.classLink "TwoSlips" (116 : Nat) "TwoSlips$Squares") ∈ lw_all := lw_g (lw_at lw_m5 24 rfl) rfl
theorem q1091 : (Jvm.Cond.methodLinkNest "TwoSlips" (118 : Nat) ({ cls := "TwoSlips$Squares", name := "<init>", desc := "()V" } : Jvm.MethodName) "TwoSlips") ∈ lw_tbl := lw_at lw_m5 26 rfl
theorem q1096 : (Jvm.Cond.classLink "TwoSlips" (119 : Nat) "TwoSlips$Rest") ∈ lw_all := lw_g (lw_at lw_m5 31 rfl) rfl
theorem q1098 : (Jvm.Cond.methodLink "TwoSlips" (121 : Nat) ({ cls := "TwoSlips$Rest", name := "<init>", desc := "(I)V" } : Jvm.MethodName)) ∈ lw_all := lw_g (lw_at lw_m5 33 rfl) rfl
theorem q1106 : (Jvm.Cond.fieldLinkNest "TwoSlips" (247 : Nat) "TwoSlips$Speaker" "kind" "I" "TwoSlips") ∈ lw_tbl := lw_at lw_m5 41 rfl
theorem q1111 : (Jvm.Cond.fieldLinkNest "TwoSlips" (250 : Nat) "TwoSlips$Speaker" "isLiar" "Z" "TwoSlips") ∈ lw_tbl := lw_at lw_m5 46 rfl
theorem q1114 : (Jvm.Cond.fieldLinkNest "TwoSlips" (253 : Nat) "TwoSlips$Speaker" "isDeaf" "Z" "TwoSlips") ∈ lw_tbl := lw_at lw_m5 49 rfl
theorem q1156 : (Jvm.Cond.selects "TwoSlips" ({ cls := "java/lang/Object", name := "getClass", desc := "()Ljava/lang/Class;" } : Jvm.MethodName) ({ cls := "java/lang/Object", name := "getClass", desc := "()Ljava/lang/Class;" } : Jvm.MethodName)) ∈ lw_all := lw_g (lw_at lw_m5 91 rfl) rfl
theorem q1346 : (Jvm.Cond.fieldLinkNest "TwoSlips" (241 : Nat) "TwoSlips$Turn" "speaker" "I" "TwoSlips") ∈ lw_tbl := lw_at lw_m6 41 rfl
theorem q1350 : (Jvm.Cond.fieldLinkNest "TwoSlips" (286 : Nat) "TwoSlips$Turn" "saying" "LTwoSlips$Saying;" "TwoSlips") ∈ lw_tbl := lw_at lw_m6 45 rfl
theorem q1358 : (Jvm.Cond.methodLink "TwoSlips" (171 : Nat) ({ cls := "TwoSlips", name := "begins", desc := "(LTwoSlips$Talk;)V" } : Jvm.MethodName)) ∈ lw_all := lw_g (lw_at lw_m6 53 rfl) rfl
theorem q1359 : (Jvm.Cond.privateMethod ({ cls := "TwoSlips", name := "begins", desc := "(LTwoSlips$Talk;)V" } : Jvm.MethodName)) ∈ lw_tbl := lw_at lw_m6 54 rfl
theorem q1360 : (Jvm.Cond.instanceMethod ({ cls := "TwoSlips", name := "begins", desc := "(LTwoSlips$Talk;)V" } : Jvm.MethodName)) ∈ lw_all := lw_g (lw_at lw_m6 55 rfl) rfl
theorem q1361 : (Jvm.Cond.code ({ cls := "TwoSlips", name := "begins", desc := "(LTwoSlips$Talk;)V" } : Jvm.MethodName) prog_1_method_13_code (2 : Nat) (Option.none : Option Jvm.ClassFile.FieldType)) ∈ lw_all := lw_g (lw_at lw_m6 56 rfl) rfl
theorem q1367 : (Jvm.Cond.instanceMethod ({ cls := "TwoSlips", name := "world", desc := "(II)I" } : Jvm.MethodName)) ∈ lw_all := lw_g (lw_at lw_m6 62 rfl) rfl
theorem q1368 : (Jvm.Cond.selects "TwoSlips" ({ cls := "TwoSlips", name := "world", desc := "(II)I" } : Jvm.MethodName) ({ cls := "TwoSlips", name := "world", desc := "(II)I" } : Jvm.MethodName)) ∈ lw_all := lw_g (lw_at lw_m6 63 rfl) rfl
theorem q1369 : (Jvm.Cond.code ({ cls := "TwoSlips", name := "world", desc := "(II)I" } : Jvm.MethodName) prog_1_method_22_code (3 : Nat) (Option.some Jvm.ClassFile.FieldType.int)) ∈ lw_all := lw_g (lw_at lw_m6 64 rfl) rfl
theorem q1370 : (Jvm.Cond.methodLink "TwoSlips" (215 : Nat) ({ cls := "TwoSlips", name := "mustWorld", desc := "(I)V" } : Jvm.MethodName)) ∈ lw_all := lw_g (lw_at lw_m6 65 rfl) rfl
theorem q1371 : (Jvm.Cond.privateMethod ({ cls := "TwoSlips", name := "mustWorld", desc := "(I)V" } : Jvm.MethodName)) ∈ lw_tbl := lw_at lw_m6 66 rfl
theorem q1372 : (Jvm.Cond.instanceMethod ({ cls := "TwoSlips", name := "mustWorld", desc := "(I)V" } : Jvm.MethodName)) ∈ lw_all := lw_g (lw_at lw_m6 67 rfl) rfl
theorem q1373 : (Jvm.Cond.code ({ cls := "TwoSlips", name := "mustWorld", desc := "(I)V" } : Jvm.MethodName) prog_1_method_18_code (2 : Nat) (Option.none : Option Jvm.ClassFile.FieldType)) ∈ lw_all := lw_g (lw_at lw_m6 68 rfl) rfl
theorem q1374 : (Jvm.Cond.methodLink "TwoSlips" (193 : Nat) ({ cls := "TwoSlips", name := "there", desc := "(Z)V" } : Jvm.MethodName)) ∈ lw_all := lw_g (lw_at lw_m6 69 rfl) rfl
theorem q1375 : (Jvm.Cond.static ({ cls := "TwoSlips", name := "there", desc := "(Z)V" } : Jvm.MethodName)) ∈ lw_all := lw_g (lw_at lw_m6 70 rfl) rfl
theorem q1376 : (Jvm.Cond.code ({ cls := "TwoSlips", name := "there", desc := "(Z)V" } : Jvm.MethodName) prog_1_method_4_code (1 : Nat) (Option.none : Option Jvm.ClassFile.FieldType)) ∈ lw_all := lw_g (lw_at lw_m6 71 rfl) rfl
theorem q1377 : (Jvm.Cond.classLink "TwoSlips" (10 : Nat) "java/util/NoSuchElementException") ∈ lw_all := lw_g (lw_at lw_m6 72 rfl) rfl
theorem q1386 : (Jvm.Cond.methodLink "TwoSlips" (12 : Nat) ({ cls := "java/util/NoSuchElementException", name := "<init>", desc := "()V" } : Jvm.MethodName)) ∈ lw_all := lw_g (lw_at lw_m6 81 rfl) rfl
theorem q1396 : (Jvm.Cond.instanceMethod ({ cls := "TwoSlips", name := "told", desc := "(II)I" } : Jvm.MethodName)) ∈ lw_all := lw_g (lw_at lw_m6 91 rfl) rfl
theorem q1397 : (Jvm.Cond.selects "TwoSlips" ({ cls := "TwoSlips", name := "told", desc := "(II)I" } : Jvm.MethodName) ({ cls := "TwoSlips", name := "told", desc := "(II)I" } : Jvm.MethodName)) ∈ lw_all := lw_g (lw_at lw_m6 92 rfl) rfl
theorem q1398 : (Jvm.Cond.code ({ cls := "TwoSlips", name := "told", desc := "(II)I" } : Jvm.MethodName) prog_1_method_24_code (3 : Nat) (Option.some Jvm.ClassFile.FieldType.int)) ∈ lw_all := lw_g (lw_at lw_m6 93 rfl) rfl
theorem q1399 : (Jvm.Cond.methodLink "TwoSlips" (234 : Nat) ({ cls := "TwoSlips", name := "mustSpeaker", desc := "(I)V" } : Jvm.MethodName)) ∈ lw_all := lw_g (lw_at lw_m6 94 rfl) rfl
theorem q1400 : (Jvm.Cond.privateMethod ({ cls := "TwoSlips", name := "mustSpeaker", desc := "(I)V" } : Jvm.MethodName)) ∈ lw_tbl := lw_at lw_m6 95 rfl
theorem q1401 : (Jvm.Cond.instanceMethod ({ cls := "TwoSlips", name := "mustSpeaker", desc := "(I)V" } : Jvm.MethodName)) ∈ lw_all := lw_g (lw_at lw_m6 96 rfl) rfl
theorem q1402 : (Jvm.Cond.code ({ cls := "TwoSlips", name := "mustSpeaker", desc := "(I)V" } : Jvm.MethodName) prog_1_method_19_code (2 : Nat) (Option.none : Option Jvm.ClassFile.FieldType)) ∈ lw_all := lw_g (lw_at lw_m6 97 rfl) rfl
theorem q1407 : (Jvm.Cond.instanceMethod ({ cls := "TwoSlips", name := "speaker", desc := "(II)I" } : Jvm.MethodName)) ∈ lw_all := lw_g (lw_at lw_m6 102 rfl) rfl
theorem q1408 : (Jvm.Cond.selects "TwoSlips" ({ cls := "TwoSlips", name := "speaker", desc := "(II)I" } : Jvm.MethodName) ({ cls := "TwoSlips", name := "speaker", desc := "(II)I" } : Jvm.MethodName)) ∈ lw_all := lw_g (lw_at lw_m6 103 rfl) rfl
theorem q1409 : (Jvm.Cond.code ({ cls := "TwoSlips", name := "speaker", desc := "(II)I" } : Jvm.MethodName) prog_1_method_26_code (3 : Nat) (Option.some Jvm.ClassFile.FieldType.int)) ∈ lw_all := lw_g (lw_at lw_m6 104 rfl) rfl
theorem q1410 : (Jvm.Cond.methodLink "TwoSlips" (244 : Nat) ({ cls := "TwoSlips$Talk", name := "speaker", desc := "(I)LTwoSlips$Speaker;" } : Jvm.MethodName)) ∈ lw_all := lw_g (lw_at lw_m6 105 rfl) rfl
theorem q1411 : (Jvm.Cond.methodLink "TwoSlips" (256 : Nat) ({ cls := "TwoSlips", name := "turnsOf", desc := "(I)I" } : Jvm.MethodName)) ∈ lw_all := lw_g (lw_at lw_m6 106 rfl) rfl
theorem q1412 : (Jvm.Cond.privateMethod ({ cls := "TwoSlips", name := "turnsOf", desc := "(I)I" } : Jvm.MethodName)) ∈ lw_tbl := lw_at lw_m6 107 rfl
theorem q1413 : (Jvm.Cond.instanceMethod ({ cls := "TwoSlips", name := "turnsOf", desc := "(I)I" } : Jvm.MethodName)) ∈ lw_all := lw_g (lw_at lw_m6 108 rfl) rfl
theorem q1414 : (Jvm.Cond.code ({ cls := "TwoSlips", name := "turnsOf", desc := "(I)I" } : Jvm.MethodName) prog_1_method_25_code (4 : Nat) (Option.some Jvm.ClassFile.FieldType.int)) ∈ lw_all := lw_g (lw_at lw_m6 109 rfl) rfl
theorem q1415 : (Jvm.Cond.methodLink "TwoSlips" (209 : Nat) ({ cls := "java/util/ArrayList", name := "get", desc := "(I)Ljava/lang/Object;" } : Jvm.MethodName)) ∈ lw_all := lw_g (lw_at lw_m6 110 rfl) rfl
theorem q1416 : (Jvm.Cond.classLink "TwoSlips" (213 : Nat) "TwoSlips$Turn") ∈ lw_all := lw_g (lw_at lw_m6 111 rfl) rfl
theorem q1421 : (Jvm.Cond.instanceMethod ({ cls := "TwoSlips", name := "turn", desc := "(I)I" } : Jvm.MethodName)) ∈ lw_all := lw_g (lw_at lw_m6 116 rfl) rfl
theorem q1422 : (Jvm.Cond.selects "TwoSlips" ({ cls := "TwoSlips", name := "turn", desc := "(I)I" } : Jvm.MethodName) ({ cls := "TwoSlips", name := "turn", desc := "(I)I" } : Jvm.MethodName)) ∈ lw_all := lw_g (lw_at lw_m6 117 rfl) rfl
theorem q1423 : (Jvm.Cond.code ({ cls := "TwoSlips", name := "turn", desc := "(I)I" } : Jvm.MethodName) prog_1_method_27_code (2 : Nat) (Option.some Jvm.ClassFile.FieldType.int)) ∈ lw_all := lw_g (lw_at lw_m6 118 rfl) rfl
theorem q1424 : (Jvm.Cond.methodLink "TwoSlips" (260 : Nat) ({ cls := "TwoSlips", name := "turnOf", desc := "(I)LTwoSlips$Turn;" } : Jvm.MethodName)) ∈ lw_all := lw_g (lw_at lw_m6 119 rfl) rfl
theorem q1425 : (Jvm.Cond.privateMethod ({ cls := "TwoSlips", name := "turnOf", desc := "(I)LTwoSlips$Turn;" } : Jvm.MethodName)) ∈ lw_tbl := lw_at lw_m6 120 rfl
theorem q1426 : (Jvm.Cond.instanceMethod ({ cls := "TwoSlips", name := "turnOf", desc := "(I)LTwoSlips$Turn;" } : Jvm.MethodName)) ∈ lw_all := lw_g (lw_at lw_m6 121 rfl) rfl
theorem q1427 : (Jvm.Cond.code ({ cls := "TwoSlips", name := "turnOf", desc := "(I)LTwoSlips$Turn;" } : Jvm.MethodName) prog_1_method_20_code (2 : Nat) (Option.some (Jvm.ClassFile.FieldType.object "TwoSlips$Turn"))) ∈ lw_all := lw_g (lw_at lw_m6 122 rfl) rfl
theorem q1432 : (Jvm.Cond.instanceMethod ({ cls := "TwoSlips", name := "left", desc := "(I)I" } : Jvm.MethodName)) ∈ lw_all := lw_g (lw_at lw_m6 127 rfl) rfl
theorem q1433 : (Jvm.Cond.selects "TwoSlips" ({ cls := "TwoSlips", name := "left", desc := "(I)I" } : Jvm.MethodName) ({ cls := "TwoSlips", name := "left", desc := "(I)I" } : Jvm.MethodName)) ∈ lw_all := lw_g (lw_at lw_m6 128 rfl) rfl
theorem q1434 : (Jvm.Cond.code ({ cls := "TwoSlips", name := "left", desc := "(I)I" } : Jvm.MethodName) prog_1_method_28_code (2 : Nat) (Option.some Jvm.ClassFile.FieldType.int)) ∈ lw_all := lw_g (lw_at lw_m6 129 rfl) rfl
theorem q1435 : (Jvm.Cond.methodLink "TwoSlips" (264 : Nat) ({ cls := "TwoSlips", name := "mustTurns", desc := "(I)V" } : Jvm.MethodName)) ∈ lw_all := lw_g (lw_at lw_m6 130 rfl) rfl
theorem q1436 : (Jvm.Cond.privateMethod ({ cls := "TwoSlips", name := "mustTurns", desc := "(I)V" } : Jvm.MethodName)) ∈ lw_tbl := lw_at lw_m6 131 rfl
theorem q1437 : (Jvm.Cond.instanceMethod ({ cls := "TwoSlips", name := "mustTurns", desc := "(I)V" } : Jvm.MethodName)) ∈ lw_all := lw_g (lw_at lw_m6 132 rfl) rfl
theorem q1438 : (Jvm.Cond.code ({ cls := "TwoSlips", name := "mustTurns", desc := "(I)V" } : Jvm.MethodName) prog_1_method_21_code (2 : Nat) (Option.none : Option Jvm.ClassFile.FieldType)) ∈ lw_all := lw_g (lw_at lw_m6 133 rfl) rfl
theorem q1439 : (Jvm.Cond.methodLink "TwoSlips" (271 : Nat) ({ cls := "TwoSlips", name := "count", desc := "([J)I" } : Jvm.MethodName)) ∈ lw_all := lw_g (lw_at lw_m6 134 rfl) rfl
theorem q1444 : (Jvm.Cond.instanceMethod ({ cls := "TwoSlips", name := "leftAt", desc := "(II)I" } : Jvm.MethodName)) ∈ lw_all := lw_g (lw_at lw_m6 139 rfl) rfl
theorem q1445 : (Jvm.Cond.selects "TwoSlips" ({ cls := "TwoSlips", name := "leftAt", desc := "(II)I" } : Jvm.MethodName) ({ cls := "TwoSlips", name := "leftAt", desc := "(II)I" } : Jvm.MethodName)) ∈ lw_all := lw_g (lw_at lw_m6 140 rfl) rfl
theorem q1446 : (Jvm.Cond.code ({ cls := "TwoSlips", name := "leftAt", desc := "(II)I" } : Jvm.MethodName) prog_1_method_29_code (3 : Nat) (Option.some Jvm.ClassFile.FieldType.int)) ∈ lw_all := lw_g (lw_at lw_m6 141 rfl) rfl
theorem q1447 : (Jvm.Cond.methodLink "TwoSlips" (275 : Nat) ({ cls := "TwoSlips", name := "at", desc := "([JII)I" } : Jvm.MethodName)) ∈ lw_all := lw_g (lw_at lw_m6 142 rfl) rfl
theorem q1452 : (Jvm.Cond.instanceMethod ({ cls := "TwoSlips", name := "isLeft", desc := "(II)Z" } : Jvm.MethodName)) ∈ lw_all := lw_g (lw_at lw_m6 147 rfl) rfl
theorem q1453 : (Jvm.Cond.selects "TwoSlips" ({ cls := "TwoSlips", name := "isLeft", desc := "(II)Z" } : Jvm.MethodName) ({ cls := "TwoSlips", name := "isLeft", desc := "(II)Z" } : Jvm.MethodName)) ∈ lw_all := lw_g (lw_at lw_m6 148 rfl) rfl
theorem q1454 : (Jvm.Cond.code ({ cls := "TwoSlips", name := "isLeft", desc := "(II)Z" } : Jvm.MethodName) prog_1_method_30_code (3 : Nat) (Option.some Jvm.ClassFile.FieldType.boolean)) ∈ lw_all := lw_g (lw_at lw_m6 149 rfl) rfl
theorem q1459 : (Jvm.Cond.instanceMethod ({ cls := "TwoSlips", name := "so", desc := "(II)Z" } : Jvm.MethodName)) ∈ lw_all := lw_g (lw_at lw_m6 154 rfl) rfl
theorem q1460 : (Jvm.Cond.selects "TwoSlips" ({ cls := "TwoSlips", name := "so", desc := "(II)Z" } : Jvm.MethodName) ({ cls := "TwoSlips", name := "so", desc := "(II)Z" } : Jvm.MethodName)) ∈ lw_all := lw_g (lw_at lw_m6 155 rfl) rfl
theorem q1461 : (Jvm.Cond.code ({ cls := "TwoSlips", name := "so", desc := "(II)Z" } : Jvm.MethodName) prog_1_method_32_code (5 : Nat) (Option.some Jvm.ClassFile.FieldType.boolean)) ∈ lw_all := lw_g (lw_at lw_m6 156 rfl) rfl
theorem q1462 : (Jvm.Cond.methodLink "TwoSlips" (282 : Nat) ({ cls := "TwoSlips$Course", name := "taken", desc := "()[J" } : Jvm.MethodName)) ∈ lw_all := lw_g (lw_at lw_m6 157 rfl) rfl
theorem q1463 : (Jvm.Cond.methodLink "TwoSlips" (290 : Nat) ({ cls := "TwoSlips$Saying", name := "fill", desc := "(LTwoSlips$Course;I[J)V" } : Jvm.MethodName)) ∈ lw_all := lw_g (lw_at lw_m6 158 rfl) rfl
theorem q1464 : (Jvm.Cond.methodLink "TwoSlips" (296 : Nat) ({ cls := "TwoSlips$Course", name := "given", desc := "()V" } : Jvm.MethodName)) ∈ lw_all := lw_g (lw_at lw_m6 159 rfl) rfl
theorem q1469 : (Jvm.Cond.instanceMethod ({ cls := "TwoSlips", name := "may", desc := "(II)Z" } : Jvm.MethodName)) ∈ lw_all := lw_g (lw_at lw_m6 164 rfl) rfl
theorem q1470 : (Jvm.Cond.selects "TwoSlips" ({ cls := "TwoSlips", name := "may", desc := "(II)Z" } : Jvm.MethodName) ({ cls := "TwoSlips", name := "may", desc := "(II)Z" } : Jvm.MethodName)) ∈ lw_all := lw_g (lw_at lw_m6 165 rfl) rfl
theorem q1471 : (Jvm.Cond.code ({ cls := "TwoSlips", name := "may", desc := "(II)Z" } : Jvm.MethodName) prog_1_method_33_code (5 : Nat) (Option.some Jvm.ClassFile.FieldType.boolean)) ∈ lw_all := lw_g (lw_at lw_m6 166 rfl) rfl
theorem q1472 : (Jvm.Cond.methodLink "TwoSlips" (299 : Nat) ({ cls := "TwoSlips$Course", name := "may", desc := "(ILTwoSlips$Saying;I[J)V" } : Jvm.MethodName)) ∈ lw_all := lw_g (lw_at lw_m6 167 rfl) rfl
theorem q1477 : (Jvm.Cond.instanceMethod ({ cls := "TwoSlips", name := "judge", desc := "(I)I" } : Jvm.MethodName)) ∈ lw_all := lw_g (lw_at lw_m6 172 rfl) rfl
theorem q1478 : (Jvm.Cond.selects "TwoSlips" ({ cls := "TwoSlips", name := "judge", desc := "(I)I" } : Jvm.MethodName) ({ cls := "TwoSlips", name := "judge", desc := "(I)I" } : Jvm.MethodName)) ∈ lw_all := lw_g (lw_at lw_m6 173 rfl) rfl
theorem q1479 : (Jvm.Cond.code ({ cls := "TwoSlips", name := "judge", desc := "(I)I" } : Jvm.MethodName) prog_1_method_34_code (3 : Nat) (Option.some Jvm.ClassFile.FieldType.int)) ∈ lw_all := lw_g (lw_at lw_m6 174 rfl) rfl
theorem q1484 : (Jvm.Cond.instanceMethod ({ cls := "TwoSlips", name := "knows", desc := "(III)Z" } : Jvm.MethodName)) ∈ lw_all := lw_g (lw_at lw_m6 179 rfl) rfl
theorem q1485 : (Jvm.Cond.selects "TwoSlips" ({ cls := "TwoSlips", name := "knows", desc := "(III)Z" } : Jvm.MethodName) ({ cls := "TwoSlips", name := "knows", desc := "(III)Z" } : Jvm.MethodName)) ∈ lw_all := lw_g (lw_at lw_m6 180 rfl) rfl
theorem q1486 : (Jvm.Cond.code ({ cls := "TwoSlips", name := "knows", desc := "(III)Z" } : Jvm.MethodName) prog_1_method_35_code (4 : Nat) (Option.some Jvm.ClassFile.FieldType.boolean)) ∈ lw_all := lw_g (lw_at lw_m6 181 rfl) rfl
theorem q1487 : (Jvm.Cond.methodLink "TwoSlips" (303 : Nat) ({ cls := "TwoSlips$Course", name := "heard", desc := "(II)I" } : Jvm.MethodName)) ∈ lw_all := lw_g (lw_at lw_m6 182 rfl) rfl
theorem q1488 : (Jvm.Cond.methodLink "TwoSlips" (306 : Nat) ({ cls := "TwoSlips$Course", name := "knowsIn", desc := "(II[J)Z" } : Jvm.MethodName)) ∈ lw_all := lw_g (lw_at lw_m6 183 rfl) rfl
theorem q1496 : (Jvm.Cond.instanceMethod ({ cls := "TwoSlips", name := "knowing", desc := "(II)I" } : Jvm.MethodName)) ∈ lw_all := lw_g (lw_at lw_m6 191 rfl) rfl
theorem q1497 : (Jvm.Cond.selects "TwoSlips" ({ cls := "TwoSlips", name := "knowing", desc := "(II)I" } : Jvm.MethodName) ({ cls := "TwoSlips", name := "knowing", desc := "(II)I" } : Jvm.MethodName)) ∈ lw_all := lw_g (lw_at lw_m6 192 rfl) rfl
theorem q1498 : (Jvm.Cond.code ({ cls := "TwoSlips", name := "knowing", desc := "(II)I" } : Jvm.MethodName) prog_1_method_36_code (6 : Nat) (Option.some Jvm.ClassFile.FieldType.int)) ∈ lw_all := lw_g (lw_at lw_m6 193 rfl) rfl
theorem q1503 : (Jvm.Cond.instanceMethod ({ cls := "TwoSlips", name := "heap", desc := "(III)I" } : Jvm.MethodName)) ∈ lw_all := lw_g (lw_at lw_m6 198 rfl) rfl
theorem q1504 : (Jvm.Cond.selects "TwoSlips" ({ cls := "TwoSlips", name := "heap", desc := "(III)I" } : Jvm.MethodName) ({ cls := "TwoSlips", name := "heap", desc := "(III)I" } : Jvm.MethodName)) ∈ lw_all := lw_g (lw_at lw_m6 199 rfl) rfl
theorem q1505 : (Jvm.Cond.code ({ cls := "TwoSlips", name := "heap", desc := "(III)I" } : Jvm.MethodName) prog_1_method_37_code (4 : Nat) (Option.some Jvm.ClassFile.FieldType.int)) ∈ lw_all := lw_g (lw_at lw_m6 200 rfl) rfl
theorem q1506 : (Jvm.Cond.methodLinkNest "TwoSlips" (310 : Nat) ({ cls := "TwoSlips$Course", name := "heaps", desc := "(I[J)V" } : Jvm.MethodName) "TwoSlips") ∈ lw_tbl := lw_at lw_m6 201 rfl
theorem q1511 : (Jvm.Cond.instanceMethod ({ cls := "TwoSlips", name := "strikes", desc := "(I)I" } : Jvm.MethodName)) ∈ lw_all := lw_g (lw_at lw_m6 206 rfl) rfl
theorem q1512 : (Jvm.Cond.selects "TwoSlips" ({ cls := "TwoSlips", name := "strikes", desc := "(I)I" } : Jvm.MethodName) ({ cls := "TwoSlips", name := "strikes", desc := "(I)I" } : Jvm.MethodName)) ∈ lw_all := lw_g (lw_at lw_m6 207 rfl) rfl
theorem q1513 : (Jvm.Cond.code ({ cls := "TwoSlips", name := "strikes", desc := "(I)I" } : Jvm.MethodName) prog_1_method_38_code (7 : Nat) (Option.some Jvm.ClassFile.FieldType.int)) ∈ lw_all := lw_g (lw_at lw_m6 208 rfl) rfl
theorem q1518 : (Jvm.Cond.instanceMethod ({ cls := "TwoSlips", name := "ends", desc := "(II)I" } : Jvm.MethodName)) ∈ lw_all := lw_g (lw_at lw_m6 213 rfl) rfl
theorem q1519 : (Jvm.Cond.selects "TwoSlips" ({ cls := "TwoSlips", name := "ends", desc := "(II)I" } : Jvm.MethodName) ({ cls := "TwoSlips", name := "ends", desc := "(II)I" } : Jvm.MethodName)) ∈ lw_all := lw_g (lw_at lw_m6 214 rfl) rfl
theorem q1520 : (Jvm.Cond.code ({ cls := "TwoSlips", name := "ends", desc := "(II)I" } : Jvm.MethodName) prog_1_method_40_code (3 : Nat) (Option.some Jvm.ClassFile.FieldType.int)) ∈ lw_all := lw_g (lw_at lw_m6 215 rfl) rfl
theorem q1521 : (Jvm.Cond.constantLong "TwoSlips" (316 : Nat) (60 : Int64)) ∈ lw_all := lw_g (lw_at lw_m6 216 rfl) rfl
theorem q1522 : (Jvm.Cond.methodLink "TwoSlips" (318 : Nat) ({ cls := "TwoSlips", name := "reaching", desc := "(II)LTwoSlips$Course;" } : Jvm.MethodName)) ∈ lw_all := lw_g (lw_at lw_m6 217 rfl) rfl
theorem q1523 : (Jvm.Cond.privateMethod ({ cls := "TwoSlips", name := "reaching", desc := "(II)LTwoSlips$Course;" } : Jvm.MethodName)) ∈ lw_tbl := lw_at lw_m6 218 rfl
theorem q1524 : (Jvm.Cond.instanceMethod ({ cls := "TwoSlips", name := "reaching", desc := "(II)LTwoSlips$Course;" } : Jvm.MethodName)) ∈ lw_all := lw_g (lw_at lw_m6 219 rfl) rfl
theorem q1525 : (Jvm.Cond.code ({ cls := "TwoSlips", name := "reaching", desc := "(II)LTwoSlips$Course;" } : Jvm.MethodName) prog_1_method_39_code (3 : Nat) (Option.some (Jvm.ClassFile.FieldType.object "TwoSlips$Course"))) ∈ lw_all := lw_g (lw_at lw_m6 220 rfl) rfl
theorem q1530 : (Jvm.Cond.instanceMethod ({ cls := "TwoSlips", name := "upTo", desc := "(I)I" } : Jvm.MethodName)) ∈ lw_all := lw_g (lw_at lw_m6 225 rfl) rfl
theorem q1531 : (Jvm.Cond.selects "TwoSlips" ({ cls := "TwoSlips", name := "upTo", desc := "(I)I" } : Jvm.MethodName) ({ cls := "TwoSlips", name := "upTo", desc := "(I)I" } : Jvm.MethodName)) ∈ lw_all := lw_g (lw_at lw_m6 226 rfl) rfl
theorem q1532 : (Jvm.Cond.code ({ cls := "TwoSlips", name := "upTo", desc := "(I)I" } : Jvm.MethodName) prog_1_method_41_code (4 : Nat) (Option.some Jvm.ClassFile.FieldType.int)) ∈ lw_all := lw_g (lw_at lw_m6 227 rfl) rfl
theorem q1537 : (Jvm.Cond.instanceMethod ({ cls := "TwoSlips", name := "rest", desc := "(II)I" } : Jvm.MethodName)) ∈ lw_all := lw_g (lw_at lw_m6 232 rfl) rfl
theorem q1538 : (Jvm.Cond.selects "TwoSlips" ({ cls := "TwoSlips", name := "rest", desc := "(II)I" } : Jvm.MethodName) ({ cls := "TwoSlips", name := "rest", desc := "(II)I" } : Jvm.MethodName)) ∈ lw_all := lw_g (lw_at lw_m6 233 rfl) rfl
theorem q1539 : (Jvm.Cond.code ({ cls := "TwoSlips", name := "rest", desc := "(II)I" } : Jvm.MethodName) prog_1_method_43_code (3 : Nat) (Option.some Jvm.ClassFile.FieldType.int)) ∈ lw_all := lw_g (lw_at lw_m6 234 rfl) rfl
theorem q1540 : (Jvm.Cond.methodLink "TwoSlips" (324 : Nat) ({ cls := "TwoSlips", name := "mustTwo", desc := "(II)V" } : Jvm.MethodName)) ∈ lw_all := lw_g (lw_at lw_m6 235 rfl) rfl
theorem q1541 : (Jvm.Cond.privateMethod ({ cls := "TwoSlips", name := "mustTwo", desc := "(II)V" } : Jvm.MethodName)) ∈ lw_tbl := lw_at lw_m6 236 rfl
theorem q1542 : (Jvm.Cond.instanceMethod ({ cls := "TwoSlips", name := "mustTwo", desc := "(II)V" } : Jvm.MethodName)) ∈ lw_all := lw_g (lw_at lw_m6 237 rfl) rfl
theorem q1543 : (Jvm.Cond.code ({ cls := "TwoSlips", name := "mustTwo", desc := "(II)V" } : Jvm.MethodName) prog_1_method_42_code (3 : Nat) (Option.none : Option Jvm.ClassFile.FieldType)) ∈ lw_all := lw_g (lw_at lw_m6 238 rfl) rfl
theorem q1544 : (Jvm.Cond.methodLink "TwoSlips" (328 : Nat) ({ cls := "TwoSlips$Mute", name := "of", desc := "(II)LTwoSlips$Mute;" } : Jvm.MethodName)) ∈ lw_all := lw_g (lw_at lw_m6 239 rfl) rfl
theorem q1560 : (Jvm.Cond.instanceMethod ({ cls := "TwoSlips", name := "when", desc := "(III)I" } : Jvm.MethodName)) ∈ lw_all := lw_g (lw_at lw_m7 15 rfl) rfl
theorem q1561 : (Jvm.Cond.selects "TwoSlips" ({ cls := "TwoSlips", name := "when", desc := "(III)I" } : Jvm.MethodName) ({ cls := "TwoSlips", name := "when", desc := "(III)I" } : Jvm.MethodName)) ∈ lw_all := lw_g (lw_at lw_m7 16 rfl) rfl
theorem q1562 : (Jvm.Cond.code ({ cls := "TwoSlips", name := "when", desc := "(III)I" } : Jvm.MethodName) prog_1_method_44_code (4 : Nat) (Option.some Jvm.ClassFile.FieldType.int)) ∈ lw_all := lw_g (lw_at lw_m7 17 rfl) rfl
theorem q1567 : (Jvm.Cond.instanceMethod ({ cls := "TwoSlips", name := "longest", desc := "(III)I" } : Jvm.MethodName)) ∈ lw_all := lw_g (lw_at lw_m7 22 rfl) rfl
theorem q1568 : (Jvm.Cond.selects "TwoSlips" ({ cls := "TwoSlips", name := "longest", desc := "(III)I" } : Jvm.MethodName) ({ cls := "TwoSlips", name := "longest", desc := "(III)I" } : Jvm.MethodName)) ∈ lw_all := lw_g (lw_at lw_m7 23 rfl) rfl
theorem q1569 : (Jvm.Cond.code ({ cls := "TwoSlips", name := "longest", desc := "(III)I" } : Jvm.MethodName) prog_1_method_45_code (7 : Nat) (Option.some Jvm.ClassFile.FieldType.int)) ∈ lw_all := lw_g (lw_at lw_m7 24 rfl) rfl
theorem q1574 : (Jvm.Cond.instanceMethod ({ cls := "TwoSlips", name := "soonest", desc := "(IIII)I" } : Jvm.MethodName)) ∈ lw_all := lw_g (lw_at lw_m7 29 rfl) rfl
theorem q1575 : (Jvm.Cond.selects "TwoSlips" ({ cls := "TwoSlips", name := "soonest", desc := "(IIII)I" } : Jvm.MethodName) ({ cls := "TwoSlips", name := "soonest", desc := "(IIII)I" } : Jvm.MethodName)) ∈ lw_all := lw_g (lw_at lw_m7 30 rfl) rfl
theorem q1576 : (Jvm.Cond.code ({ cls := "TwoSlips", name := "soonest", desc := "(IIII)I" } : Jvm.MethodName) prog_1_method_46_code (6 : Nat) (Option.some Jvm.ClassFile.FieldType.int)) ∈ lw_all := lw_g (lw_at lw_m7 31 rfl) rfl
theorem q1577 : (Jvm.Cond.methodLink "TwoSlips" (347 : Nat) ({ cls := "TwoSlips$Soonest", name := "finds", desc := "(I)Z" } : Jvm.MethodName)) ∈ lw_all := lw_g (lw_at lw_m7 32 rfl) rfl
theorem q1641 : (Jvm.Cond.instanceMethod ({ cls := "TwoSlips", name := "shortest", desc := "(II)I" } : Jvm.MethodName)) ∈ lw_all := lw_g (lw_at lw_m7 96 rfl) rfl
theorem q1642 : (Jvm.Cond.selects "TwoSlips" ({ cls := "TwoSlips", name := "shortest", desc := "(II)I" } : Jvm.MethodName) ({ cls := "TwoSlips", name := "shortest", desc := "(II)I" } : Jvm.MethodName)) ∈ lw_all := lw_g (lw_at lw_m7 97 rfl) rfl
theorem q1643 : (Jvm.Cond.code ({ cls := "TwoSlips", name := "shortest", desc := "(II)I" } : Jvm.MethodName) prog_1_method_47_code (3 : Nat) (Option.some Jvm.ClassFile.FieldType.int)) ∈ lw_all := lw_g (lw_at lw_m7 98 rfl) rfl
theorem q1644 : (Jvm.Cond.constantLong "TwoSlips" (355 : Nat) (4 : Int64)) ∈ lw_all := lw_g (lw_at lw_m7 99 rfl) rfl
theorem q1645 : (Jvm.Cond.constantLong "TwoSlips" (357 : Nat) (10 : Int64)) ∈ lw_all := lw_g (lw_at lw_m7 100 rfl) rfl
theorem q1646 : (Jvm.Cond.constantLong "TwoSlips" (359 : Nat) (13 : Int64)) ∈ lw_all := lw_g (lw_at lw_m7 101 rfl) rfl
theorem q1647 : (Jvm.Cond.methodLink "TwoSlips" (361 : Nat) ({ cls := "TwoSlips$Shortest", name := "finds", desc := "(I)Z" } : Jvm.MethodName)) ∈ lw_all := lw_g (lw_at lw_m7 102 rfl) rfl
theorem q1654 : (Jvm.Cond.instanceMethod ({ cls := "TwoSlips", name := "liar", desc := "(I)I" } : Jvm.MethodName)) ∈ lw_all := lw_g (lw_at lw_m7 109 rfl) rfl
theorem q1655 : (Jvm.Cond.selects "TwoSlips" ({ cls := "TwoSlips", name := "liar", desc := "(I)I" } : Jvm.MethodName) ({ cls := "TwoSlips", name := "liar", desc := "(I)I" } : Jvm.MethodName)) ∈ lw_all := lw_g (lw_at lw_m7 110 rfl) rfl
theorem q1656 : (Jvm.Cond.code ({ cls := "TwoSlips", name := "liar", desc := "(I)I" } : Jvm.MethodName) prog_1_method_49_code (2 : Nat) (Option.some Jvm.ClassFile.FieldType.int)) ∈ lw_all := lw_g (lw_at lw_m7 111 rfl) rfl
theorem q1661 : (Jvm.Cond.instanceMethod ({ cls := "TwoSlips", name := "orders", desc := "(II)I" } : Jvm.MethodName)) ∈ lw_all := lw_g (lw_at lw_m7 116 rfl) rfl
theorem q1662 : (Jvm.Cond.selects "TwoSlips" ({ cls := "TwoSlips", name := "orders", desc := "(II)I" } : Jvm.MethodName) ({ cls := "TwoSlips", name := "orders", desc := "(II)I" } : Jvm.MethodName)) ∈ lw_all := lw_g (lw_at lw_m7 117 rfl) rfl
theorem q1663 : (Jvm.Cond.code ({ cls := "TwoSlips", name := "orders", desc := "(II)I" } : Jvm.MethodName) prog_1_method_51_code (5 : Nat) (Option.some Jvm.ClassFile.FieldType.int)) ∈ lw_all := lw_g (lw_at lw_m7 118 rfl) rfl
theorem q1664 : (Jvm.Cond.methodLink "TwoSlips" (377 : Nat) ({ cls := "TwoSlips$Orders", name := "finds", desc := "(I)I" } : Jvm.MethodName)) ∈ lw_all := lw_g (lw_at lw_m7 119 rfl) rfl
theorem q1683 : (Jvm.Cond.instanceMethod ({ cls := "TwoSlips", name := "mended", desc := "(I)I" } : Jvm.MethodName)) ∈ lw_all := lw_g (lw_at lw_m7 138 rfl) rfl
theorem q1684 : (Jvm.Cond.selects "TwoSlips" ({ cls := "TwoSlips", name := "mended", desc := "(I)I" } : Jvm.MethodName) ({ cls := "TwoSlips", name := "mended", desc := "(I)I" } : Jvm.MethodName)) ∈ lw_all := lw_g (lw_at lw_m7 139 rfl) rfl
theorem q1685 : (Jvm.Cond.code ({ cls := "TwoSlips", name := "mended", desc := "(I)I" } : Jvm.MethodName) prog_1_method_52_code (4 : Nat) (Option.some Jvm.ClassFile.FieldType.int)) ∈ lw_all := lw_g (lw_at lw_m7 140 rfl) rfl
theorem q1686 : (Jvm.Cond.constantLong "TwoSlips" (382 : Nat) (2 : Int64)) ∈ lw_all := lw_g (lw_at lw_m7 141 rfl) rfl
theorem q1692 : (Jvm.Cond.instanceMethod ({ cls := "TwoSlips", name := "answers", desc := "(II)I" } : Jvm.MethodName)) ∈ lw_all := lw_g (lw_at lw_m7 147 rfl) rfl
theorem q1693 : (Jvm.Cond.selects "TwoSlips" ({ cls := "TwoSlips", name := "answers", desc := "(II)I" } : Jvm.MethodName) ({ cls := "TwoSlips", name := "answers", desc := "(II)I" } : Jvm.MethodName)) ∈ lw_all := lw_g (lw_at lw_m7 148 rfl) rfl
theorem q1694 : (Jvm.Cond.code ({ cls := "TwoSlips", name := "answers", desc := "(II)I" } : Jvm.MethodName) prog_1_method_55_code (5 : Nat) (Option.some Jvm.ClassFile.FieldType.int)) ∈ lw_all := lw_g (lw_at lw_m7 149 rfl) rfl
theorem q1695 : (Jvm.Cond.methodLink "TwoSlips" (402 : Nat) ({ cls := "TwoSlips", name := "trayOf", desc := "(I)LTwoSlips$Tray;" } : Jvm.MethodName)) ∈ lw_all := lw_g (lw_at lw_m7 150 rfl) rfl
theorem q1696 : (Jvm.Cond.privateMethod ({ cls := "TwoSlips", name := "trayOf", desc := "(I)LTwoSlips$Tray;" } : Jvm.MethodName)) ∈ lw_tbl := lw_at lw_m7 151 rfl
theorem q1697 : (Jvm.Cond.instanceMethod ({ cls := "TwoSlips", name := "trayOf", desc := "(I)LTwoSlips$Tray;" } : Jvm.MethodName)) ∈ lw_all := lw_g (lw_at lw_m7 152 rfl) rfl
theorem q1698 : (Jvm.Cond.code ({ cls := "TwoSlips", name := "trayOf", desc := "(I)LTwoSlips$Tray;" } : Jvm.MethodName) prog_1_method_53_code (2 : Nat) (Option.some (Jvm.ClassFile.FieldType.object "TwoSlips$Tray"))) ∈ lw_all := lw_g (lw_at lw_m7 153 rfl) rfl
theorem q1699 : (Jvm.Cond.constantLong "TwoSlips" (384 : Nat) (3 : Int64)) ∈ lw_all := lw_g (lw_at lw_m7 154 rfl) rfl
theorem q1700 : (Jvm.Cond.methodLink "TwoSlips" (409 : Nat) ({ cls := "TwoSlips", name := "can", desc := "(Z)V" } : Jvm.MethodName)) ∈ lw_all := lw_g (lw_at lw_m7 155 rfl) rfl
theorem q1701 : (Jvm.Cond.static ({ cls := "TwoSlips", name := "can", desc := "(Z)V" } : Jvm.MethodName)) ∈ lw_all := lw_g (lw_at lw_m7 156 rfl) rfl
theorem q1702 : (Jvm.Cond.code ({ cls := "TwoSlips", name := "can", desc := "(Z)V" } : Jvm.MethodName) prog_1_method_3_code (1 : Nat) (Option.none : Option Jvm.ClassFile.FieldType)) ∈ lw_all := lw_g (lw_at lw_m7 157 rfl) rfl
theorem q1703 : (Jvm.Cond.classLink "TwoSlips" (7 : Nat) "java/lang/IllegalStateException") ∈ lw_all := lw_g (lw_at lw_m7 158 rfl) rfl
theorem q1712 : (Jvm.Cond.methodLink "TwoSlips" (9 : Nat) ({ cls := "java/lang/IllegalStateException", name := "<init>", desc := "()V" } : Jvm.MethodName)) ∈ lw_all := lw_g (lw_at lw_m7 167 rfl) rfl
theorem q1718 : (Jvm.Cond.methodLink "TwoSlips" (412 : Nat) ({ cls := "TwoSlips", name := "answersOf", desc := "(LTwoSlips$Tray;)I" } : Jvm.MethodName)) ∈ lw_all := lw_g (lw_at lw_m7 173 rfl) rfl
theorem q1719 : (Jvm.Cond.privateMethod ({ cls := "TwoSlips", name := "answersOf", desc := "(LTwoSlips$Tray;)I" } : Jvm.MethodName)) ∈ lw_tbl := lw_at lw_m7 174 rfl
theorem q1720 : (Jvm.Cond.instanceMethod ({ cls := "TwoSlips", name := "answersOf", desc := "(LTwoSlips$Tray;)I" } : Jvm.MethodName)) ∈ lw_all := lw_g (lw_at lw_m7 175 rfl) rfl
theorem q1721 : (Jvm.Cond.code ({ cls := "TwoSlips", name := "answersOf", desc := "(LTwoSlips$Tray;)I" } : Jvm.MethodName) prog_1_method_54_code (7 : Nat) (Option.some Jvm.ClassFile.FieldType.int)) ∈ lw_all := lw_g (lw_at lw_m7 176 rfl) rfl
theorem q1722 : (Jvm.Cond.methodLink "TwoSlips" (388 : Nat) ({ cls := "java/lang/System", name := "arraycopy", desc := "(Ljava/lang/Object;ILjava/lang/Object;II)V" } : Jvm.MethodName)) ∈ lw_all := lw_g (lw_at lw_m7 177 rfl) rfl
theorem q1723 : (Jvm.Cond.methodLink "TwoSlips" (394 : Nat) ({ cls := "TwoSlips$Tray", name := "size", desc := "()I" } : Jvm.MethodName)) ∈ lw_all := lw_g (lw_at lw_m7 178 rfl) rfl
theorem q1731 : (Jvm.Cond.methodLink "TwoSlips" (395 : Nat) ({ cls := "TwoSlips$Tray", name := "at", desc := "(I)J" } : Jvm.MethodName)) ∈ lw_all := lw_g (lw_at lw_m7 186 rfl) rfl
theorem q1735 : (Jvm.Cond.methodLink "TwoSlips" (398 : Nat) ({ cls := "TwoSlips$Course", name := "answers", desc := "(IZ[J[J)V" } : Jvm.MethodName)) ∈ lw_all := lw_g (lw_at lw_m7 190 rfl) rfl
theorem q1740 : (Jvm.Cond.instanceMethod ({ cls := "TwoSlips", name := "tray", desc := "(III)V" } : Jvm.MethodName)) ∈ lw_all := lw_g (lw_at lw_m7 195 rfl) rfl
theorem q1741 : (Jvm.Cond.selects "TwoSlips" ({ cls := "TwoSlips", name := "tray", desc := "(III)V" } : Jvm.MethodName) ({ cls := "TwoSlips", name := "tray", desc := "(III)V" } : Jvm.MethodName)) ∈ lw_all := lw_g (lw_at lw_m7 196 rfl) rfl
theorem q1742 : (Jvm.Cond.codeWith ({ cls := "TwoSlips", name := "tray", desc := "(III)V" } : Jvm.MethodName) prog_1_method_56_code (6 : Nat) (Option.none : Option Jvm.ClassFile.FieldType) [((33 : Nat), (40 : Nat), (43 : Nat), (419 : Nat))]) ∈ lw_all := lw_g (lw_at lw_m7 197 rfl) rfl
theorem q1743 : (Jvm.Cond.classLink "TwoSlips" (419 : Nat) "java/lang/NegativeArraySizeException") ∈ lw_all := lw_g (lw_at lw_m7 198 rfl) rfl
theorem q1770 : (Jvm.Cond.methodLink "TwoSlips" (416 : Nat) ({ cls := "TwoSlips$Tray", name := "make", desc := "(II)V" } : Jvm.MethodName)) ∈ lw_all := lw_g (lw_at lw_m7 225 rfl) rfl
theorem q1798 : (Jvm.Cond.instanceMethod ({ cls := "TwoSlips", name := "write", desc := "(IIJ)J" } : Jvm.MethodName)) ∈ lw_all := lw_g (lw_at lw_m8 13 rfl) rfl
theorem q1799 : (Jvm.Cond.selects "TwoSlips" ({ cls := "TwoSlips", name := "write", desc := "(IIJ)J" } : Jvm.MethodName) ({ cls := "TwoSlips", name := "write", desc := "(IIJ)J" } : Jvm.MethodName)) ∈ lw_all := lw_g (lw_at lw_m8 14 rfl) rfl
theorem q1800 : (Jvm.Cond.codeWith ({ cls := "TwoSlips", name := "write", desc := "(IIJ)J" } : Jvm.MethodName) prog_1_method_57_code (7 : Nat) (Option.some Jvm.ClassFile.FieldType.long) [((7 : Nat), (20 : Nat), (21 : Nat), (425 : Nat)), ((7 : Nat), (20 : Nat), (31 : Nat), (427 : Nat))]) ∈ lw_all := lw_g (lw_at lw_m8 15 rfl) rfl
theorem q1801 : (Jvm.Cond.classLink "TwoSlips" (425 : Nat) "java/lang/NullPointerException") ∈ lw_all := lw_g (lw_at lw_m8 16 rfl) rfl
theorem q1820 : (Jvm.Cond.classLink "TwoSlips" (427 : Nat) "java/lang/ArrayIndexOutOfBoundsException") ∈ lw_all := lw_g (lw_at lw_m8 35 rfl) rfl
theorem q1821 : (Jvm.Cond.methodLink "TwoSlips" (421 : Nat) ({ cls := "TwoSlips$Tray", name := "put", desc := "(IJ)V" } : Jvm.MethodName)) ∈ lw_all := lw_g (lw_at lw_m8 36 rfl) rfl
theorem q1825 : (Jvm.Cond.classLink "TwoSlips" (429 : Nat) "java/lang/IndexOutOfBoundsException") ∈ lw_all := lw_g (lw_at lw_m8 40 rfl) rfl
theorem q1834 : (Jvm.Cond.methodLink "TwoSlips" (431 : Nat) ({ cls := "java/lang/IndexOutOfBoundsException", name := "<init>", desc := "()V" } : Jvm.MethodName)) ∈ lw_all := lw_g (lw_at lw_m8 49 rfl) rfl
theorem q1844 : (Jvm.Cond.instanceMethod ({ cls := "TwoSlips", name := "pour", desc := "(I)I" } : Jvm.MethodName)) ∈ lw_all := lw_g (lw_at lw_m8 59 rfl) rfl
theorem q1845 : (Jvm.Cond.selects "TwoSlips" ({ cls := "TwoSlips", name := "pour", desc := "(I)I" } : Jvm.MethodName) ({ cls := "TwoSlips", name := "pour", desc := "(I)I" } : Jvm.MethodName)) ∈ lw_all := lw_g (lw_at lw_m8 60 rfl) rfl
theorem q1846 : (Jvm.Cond.code ({ cls := "TwoSlips", name := "pour", desc := "(I)I" } : Jvm.MethodName) prog_1_method_58_code (6 : Nat) (Option.some Jvm.ClassFile.FieldType.int)) ∈ lw_all := lw_g (lw_at lw_m8 61 rfl) rfl
theorem q1851 : (Jvm.Cond.instanceMethod ({ cls := "TwoSlips", name := "image", desc := "(I)V" } : Jvm.MethodName)) ∈ lw_all := lw_g (lw_at lw_m8 66 rfl) rfl
theorem q1852 : (Jvm.Cond.selects "TwoSlips" ({ cls := "TwoSlips", name := "image", desc := "(I)V" } : Jvm.MethodName) ({ cls := "TwoSlips", name := "image", desc := "(I)V" } : Jvm.MethodName)) ∈ lw_all := lw_g (lw_at lw_m8 67 rfl) rfl
theorem q1853 : (Jvm.Cond.code ({ cls := "TwoSlips", name := "image", desc := "(I)V" } : Jvm.MethodName) prog_1_method_59_code (2 : Nat) (Option.none : Option Jvm.ClassFile.FieldType)) ∈ lw_all := lw_g (lw_at lw_m8 68 rfl) rfl
theorem q1858 : (Jvm.Cond.instanceMethod ({ cls := "TwoSlips", name := "restore", desc := "(I)V" } : Jvm.MethodName)) ∈ lw_all := lw_g (lw_at lw_m8 73 rfl) rfl
theorem q1859 : (Jvm.Cond.selects "TwoSlips" ({ cls := "TwoSlips", name := "restore", desc := "(I)V" } : Jvm.MethodName) ({ cls := "TwoSlips", name := "restore", desc := "(I)V" } : Jvm.MethodName)) ∈ lw_all := lw_g (lw_at lw_m8 74 rfl) rfl
theorem q1860 : (Jvm.Cond.code ({ cls := "TwoSlips", name := "restore", desc := "(I)V" } : Jvm.MethodName) prog_1_method_60_code (2 : Nat) (Option.none : Option Jvm.ClassFile.FieldType)) ∈ lw_all := lw_g (lw_at lw_m8 75 rfl) rfl
theorem q2427 : (Jvm.Cond.castable "TwoSlips" "java/lang/Object") ∈ lw_tbl := lw_at lw_m10 162 rfl
theorem in_X1 : ∀ w ∈ wsX10, w ∈ lw_all := lw_in wsX10 [461, 463, 465, 467, 469, 471, 473, 475, 477, 479, 481, 483, 485, 487, 489, 491] (by decide +kernel) (by decide +kernel)

