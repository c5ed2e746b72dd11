/-! KindNets -/
set_option maxRecDepth 100000
def RX0 : String := "KindNets"
def TX0 : u_T := fun k => match k with
  | 0 => ("KindNets", "kinds", "[LKindNets$Kind;", true)
  | 1 => ("KindNets", "many", "I", false)
  | 2 => ("KindNets", "names", "[I", true)
  | 3 => ("KindNets", "pad", "[C", true)
  | 4 => ("KindNets", "padMany", "I", false)
  | 5 => ("KindNets", "reader", "LKindNets$Reader;", true)
  | 6 => ("KindNets", "becomes", "[I", true)
  | 7 => ("KindNets", "fall", "[[I", true)
  | 8 => ("KindNets", "isKnown", "Z", false)
  | 9 => ("KindNets", "held", "[Z", true)
  | 10 => ("KindNets", "madeFor", "[I", true)
  | 11 => ("KindNets", "fresh", "I", false)
  | 12 => ("KindNets", "isFull", "Z", false)
  | 13 => ("KindNets", "values", "LKindNets$Values;", true)
  | 14 => ("KindNets", "must", "[I", true)
  | 15 => ("KindNets", "counts", "[[J", true)
  | 16 => ("KindNets", "sums", "[J", true)
  | _ => ("KindNets", "leasts", "[I", true)
def tyX0 : Nat → FieldType := fun k => match k with
  | 0 => .array (.object "KindNets$Kind")
  | 1 => .int
  | 2 => .array .int
  | 3 => .array .char
  | 4 => .int
  | 5 => .object "KindNets$Reader"
  | 6 => .array .int
  | 7 => .array (.array .int)
  | 8 => .boolean
  | 9 => .array .boolean
  | 10 => .array .int
  | 11 => .int
  | 12 => .boolean
  | 13 => .object "KindNets$Values"
  | 14 => .array .int
  | 15 => .array (.array .long)
  | 16 => .array .long
  | _ => .array .int
abbrev wsX00 : List Cond := u_ws RX0 TX0 18
set_option maxRecDepth 100000 in
theorem nmX0 : ∀ a, a < 18 → ∀ b, b < 18 → a ≠ b → (TX0 a).2.1 ≠ (TX0 b).2.1 := by decide +kernel
set_option maxRecDepth 100000 in
theorem tyX0_ok : ∀ k, k < 18 → parseFieldDescriptor (TX0 k).2.2.1 = some (tyX0 k) := by decide +kernel
abbrev cX0_init : ByteArray := prog_1_method_2_code
def yX0_init : MethodName := ⟨RX0, "<init>", "()V"⟩
def dkwX0_init_7 : List UInt8 := [16, 250, 79, 132, 1, 1, 167, 255, 239, 177]
abbrev dktX0_init_7 : List UInt8 := dkwX0_init_7 ++ []
def dkwX0_init_6 : List UInt8 := [183, 0, 67, 83, 132, 1, 1, 167, 255, 234, 3, 60, 27, 16, 8, 162, 0, 17, 42, 180, 0, 15, 27]
abbrev dktX0_init_6 : List UInt8 := dkwX0_init_6 ++ dktX0_init_7
def dkwX0_init_5 : List UInt8 := [188, 10, 181, 0, 64, 3, 60, 27, 16, 60, 162, 0, 22, 42, 180, 0, 11, 27, 187, 0, 9, 89]
abbrev dktX0_init_5 : List UInt8 := dkwX0_init_5 ++ dktX0_init_6
def dkwX0_init_4 : List UInt8 := [42, 16, 13, 16, 60, 197, 0, 55, 2, 181, 0, 57, 42, 16, 13, 188, 11, 181, 0, 60, 42, 16, 60]
abbrev dktX0_init_4 : List UInt8 := dkwX0_init_4 ++ dktX0_init_5
def dkwX0_init_3 : List UInt8 := [188, 10, 181, 0, 42, 42, 187, 0, 45, 89, 183, 0, 47, 181, 0, 48, 42, 16, 100, 188, 10, 181, 0, 52]
abbrev dktX0_init_3 : List UInt8 := dkwX0_init_3 ++ dktX0_init_4
def dkwX0_init_2 : List UInt8 := [42, 16, 60, 16, 60, 197, 0, 33, 2, 181, 0, 35, 42, 16, 60, 188, 4, 181, 0, 38, 42, 16, 60]
abbrev dktX0_init_2 : List UInt8 := dkwX0_init_2 ++ dktX0_init_3
def dkwX0_init_1 : List UInt8 := [188, 5, 181, 0, 19, 42, 187, 0, 23, 89, 183, 0, 25, 181, 0, 26, 42, 16, 100, 188, 10, 181, 0, 30]
abbrev dktX0_init_1 : List UInt8 := dkwX0_init_1 ++ dktX0_init_2
def dkwX0_init_0 : List UInt8 := [42, 183, 0, 1, 42, 16, 60, 189, 0, 9, 181, 0, 11, 42, 16, 8, 188, 10, 181, 0, 15, 42, 16, 100]
abbrev dktX0_init_0 : List UInt8 := dkwX0_init_0 ++ dktX0_init_1
theorem dksX0_init_0 : cX0_init.data.toList.drop 0 = dktX0_init_0 := by decide +kernel
theorem dksX0_init_1 : cX0_init.data.toList.drop 24 = dktX0_init_1 := dk_seg dksX0_init_0 24 rfl rfl
theorem dksX0_init_2 : cX0_init.data.toList.drop 48 = dktX0_init_2 := dk_seg dksX0_init_1 24 rfl rfl
theorem dksX0_init_3 : cX0_init.data.toList.drop 71 = dktX0_init_3 := dk_seg dksX0_init_2 23 rfl rfl
theorem dksX0_init_4 : cX0_init.data.toList.drop 95 = dktX0_init_4 := dk_seg dksX0_init_3 24 rfl rfl
theorem dksX0_init_5 : cX0_init.data.toList.drop 118 = dktX0_init_5 := dk_seg dksX0_init_4 23 rfl rfl
theorem dksX0_init_6 : cX0_init.data.toList.drop 140 = dktX0_init_6 := dk_seg dksX0_init_5 22 rfl rfl
theorem dksX0_init_7 : cX0_init.data.toList.drop 163 = dktX0_init_7 := dk_seg dksX0_init_6 23 rfl rfl
theorem dX0_init_0 : decode cX0_init 0 = .ok (.aload_n 0, 1) := dk_42 (dk_at dksX0_init_0 0 rfl rfl)
theorem dX0_init_1 : decode cX0_init 1 = .ok (.invokespecial 1, 3) := dk_183 0 1 (dk_at dksX0_init_0 1 rfl rfl)
theorem dX0_init_4 : decode cX0_init 4 = .ok (.aload_n 0, 1) := dk_42 (dk_at dksX0_init_0 4 rfl rfl)
theorem dX0_init_5 : decode cX0_init 5 = .ok (.bipush 60, 2) := dk_16 60 (dk_at dksX0_init_0 5 rfl rfl)
theorem dX0_init_7 : decode cX0_init 7 = .ok (.anewarray 9, 3) := dk_189 0 9 (dk_at dksX0_init_0 7 rfl rfl)
theorem dX0_init_10 : decode cX0_init 10 = .ok (.putfield 11, 3) := dk_181 0 11 (dk_at dksX0_init_0 10 rfl rfl)
theorem dX0_init_13 : decode cX0_init 13 = .ok (.aload_n 0, 1) := dk_42 (dk_at dksX0_init_0 13 rfl rfl)
theorem dX0_init_14 : decode cX0_init 14 = .ok (.bipush 8, 2) := dk_16 8 (dk_at dksX0_init_0 14 rfl rfl)
theorem dX0_init_16 : decode cX0_init 16 = .ok (.newarray .int, 2) := dk_188_10 (dk_at dksX0_init_0 16 rfl rfl)
theorem dX0_init_18 : decode cX0_init 18 = .ok (.putfield 15, 3) := dk_181 0 15 (dk_at dksX0_init_0 18 rfl rfl)
theorem dX0_init_21 : decode cX0_init 21 = .ok (.aload_n 0, 1) := dk_42 (dk_at dksX0_init_0 21 rfl rfl)
theorem dX0_init_22 : decode cX0_init 22 = .ok (.bipush 100, 2) := dk_16 100 (dk_at dksX0_init_0 22 rfl rfl)
theorem dX0_init_24 : decode cX0_init 24 = .ok (.newarray .char, 2) := dk_188_5 (dk_at dksX0_init_1 0 rfl rfl)
theorem dX0_init_26 : decode cX0_init 26 = .ok (.putfield 19, 3) := dk_181 0 19 (dk_at dksX0_init_1 2 rfl rfl)
theorem dX0_init_29 : decode cX0_init 29 = .ok (.aload_n 0, 1) := dk_42 (dk_at dksX0_init_1 5 rfl rfl)
theorem dX0_init_30 : decode cX0_init 30 = .ok (.new 23, 3) := dk_187 0 23 (dk_at dksX0_init_1 6 rfl rfl)
theorem dX0_init_33 : decode cX0_init 33 = .ok (.dup, 1) := dk_89 (dk_at dksX0_init_1 9 rfl rfl)
theorem dX0_init_34 : decode cX0_init 34 = .ok (.invokespecial 25, 3) := dk_183 0 25 (dk_at dksX0_init_1 10 rfl rfl)
theorem dX0_init_37 : decode cX0_init 37 = .ok (.putfield 26, 3) := dk_181 0 26 (dk_at dksX0_init_1 13 rfl rfl)
theorem dX0_init_40 : decode cX0_init 40 = .ok (.aload_n 0, 1) := dk_42 (dk_at dksX0_init_1 16 rfl rfl)
theorem dX0_init_41 : decode cX0_init 41 = .ok (.bipush 100, 2) := dk_16 100 (dk_at dksX0_init_1 17 rfl rfl)
theorem dX0_init_43 : decode cX0_init 43 = .ok (.newarray .int, 2) := dk_188_10 (dk_at dksX0_init_1 19 rfl rfl)
theorem dX0_init_45 : decode cX0_init 45 = .ok (.putfield 30, 3) := dk_181 0 30 (dk_at dksX0_init_1 21 rfl rfl)
theorem dX0_init_48 : decode cX0_init 48 = .ok (.aload_n 0, 1) := dk_42 (dk_at dksX0_init_2 0 rfl rfl)
theorem dX0_init_49 : decode cX0_init 49 = .ok (.bipush 60, 2) := dk_16 60 (dk_at dksX0_init_2 1 rfl rfl)
theorem dX0_init_51 : decode cX0_init 51 = .ok (.bipush 60, 2) := dk_16 60 (dk_at dksX0_init_2 3 rfl rfl)
theorem dX0_init_53 : decode cX0_init 53 = .ok (.multianewarray 33 2, 4) := by decide +kernel
theorem dX0_init_57 : decode cX0_init 57 = .ok (.putfield 35, 3) := dk_181 0 35 (dk_at dksX0_init_2 9 rfl rfl)
theorem dX0_init_60 : decode cX0_init 60 = .ok (.aload_n 0, 1) := dk_42 (dk_at dksX0_init_2 12 rfl rfl)
theorem dX0_init_61 : decode cX0_init 61 = .ok (.bipush 60, 2) := dk_16 60 (dk_at dksX0_init_2 13 rfl rfl)
theorem dX0_init_63 : decode cX0_init 63 = .ok (.newarray .boolean, 2) := dk_188_4 (dk_at dksX0_init_2 15 rfl rfl)
theorem dX0_init_65 : decode cX0_init 65 = .ok (.putfield 38, 3) := dk_181 0 38 (dk_at dksX0_init_2 17 rfl rfl)
theorem dX0_init_68 : decode cX0_init 68 = .ok (.aload_n 0, 1) := dk_42 (dk_at dksX0_init_2 20 rfl rfl)
theorem dX0_init_69 : decode cX0_init 69 = .ok (.bipush 60, 2) := dk_16 60 (dk_at dksX0_init_2 21 rfl rfl)
theorem dX0_init_71 : decode cX0_init 71 = .ok (.newarray .int, 2) := dk_188_10 (dk_at dksX0_init_3 0 rfl rfl)
theorem dX0_init_73 : decode cX0_init 73 = .ok (.putfield 42, 3) := dk_181 0 42 (dk_at dksX0_init_3 2 rfl rfl)
theorem dX0_init_76 : decode cX0_init 76 = .ok (.aload_n 0, 1) := dk_42 (dk_at dksX0_init_3 5 rfl rfl)
theorem dX0_init_77 : decode cX0_init 77 = .ok (.new 45, 3) := dk_187 0 45 (dk_at dksX0_init_3 6 rfl rfl)
theorem dX0_init_80 : decode cX0_init 80 = .ok (.dup, 1) := dk_89 (dk_at dksX0_init_3 9 rfl rfl)
theorem dX0_init_81 : decode cX0_init 81 = .ok (.invokespecial 47, 3) := dk_183 0 47 (dk_at dksX0_init_3 10 rfl rfl)
theorem dX0_init_84 : decode cX0_init 84 = .ok (.putfield 48, 3) := dk_181 0 48 (dk_at dksX0_init_3 13 rfl rfl)
theorem dX0_init_87 : decode cX0_init 87 = .ok (.aload_n 0, 1) := dk_42 (dk_at dksX0_init_3 16 rfl rfl)
theorem dX0_init_88 : decode cX0_init 88 = .ok (.bipush 100, 2) := dk_16 100 (dk_at dksX0_init_3 17 rfl rfl)
theorem dX0_init_90 : decode cX0_init 90 = .ok (.newarray .int, 2) := dk_188_10 (dk_at dksX0_init_3 19 rfl rfl)
theorem dX0_init_92 : decode cX0_init 92 = .ok (.putfield 52, 3) := dk_181 0 52 (dk_at dksX0_init_3 21 rfl rfl)
theorem dX0_init_95 : decode cX0_init 95 = .ok (.aload_n 0, 1) := dk_42 (dk_at dksX0_init_4 0 rfl rfl)
theorem dX0_init_96 : decode cX0_init 96 = .ok (.bipush 13, 2) := dk_16 13 (dk_at dksX0_init_4 1 rfl rfl)
theorem dX0_init_98 : decode cX0_init 98 = .ok (.bipush 60, 2) := dk_16 60 (dk_at dksX0_init_4 3 rfl rfl)
theorem dX0_init_100 : decode cX0_init 100 = .ok (.multianewarray 55 2, 4) := by decide +kernel
theorem dX0_init_104 : decode cX0_init 104 = .ok (.putfield 57, 3) := dk_181 0 57 (dk_at dksX0_init_4 9 rfl rfl)
theorem dX0_init_107 : decode cX0_init 107 = .ok (.aload_n 0, 1) := dk_42 (dk_at dksX0_init_4 12 rfl rfl)
theorem dX0_init_108 : decode cX0_init 108 = .ok (.bipush 13, 2) := dk_16 13 (dk_at dksX0_init_4 13 rfl rfl)
theorem dX0_init_110 : decode cX0_init 110 = .ok (.newarray .long, 2) := dk_188_11 (dk_at dksX0_init_4 15 rfl rfl)
theorem dX0_init_112 : decode cX0_init 112 = .ok (.putfield 60, 3) := dk_181 0 60 (dk_at dksX0_init_4 17 rfl rfl)
theorem dX0_init_115 : decode cX0_init 115 = .ok (.aload_n 0, 1) := dk_42 (dk_at dksX0_init_4 20 rfl rfl)
theorem dX0_init_116 : decode cX0_init 116 = .ok (.bipush 60, 2) := dk_16 60 (dk_at dksX0_init_4 21 rfl rfl)
theorem dX0_init_118 : decode cX0_init 118 = .ok (.newarray .int, 2) := dk_188_10 (dk_at dksX0_init_5 0 rfl rfl)
theorem dX0_init_120 : decode cX0_init 120 = .ok (.putfield 64, 3) := dk_181 0 64 (dk_at dksX0_init_5 2 rfl rfl)
theorem dX0_init_123 : decode cX0_init 123 = .ok (.iconst 0, 1) := dk_3 (dk_at dksX0_init_5 5 rfl rfl)
theorem dX0_init_124 : decode cX0_init 124 = .ok (.istore_n 1, 1) := dk_60 (dk_at dksX0_init_5 6 rfl rfl)
theorem dX0_init_125 : decode cX0_init 125 = .ok (.iload_n 1, 1) := dk_27 (dk_at dksX0_init_5 7 rfl rfl)
theorem dX0_init_126 : decode cX0_init 126 = .ok (.bipush 60, 2) := dk_16 60 (dk_at dksX0_init_5 8 rfl rfl)
theorem dX0_init_128 : decode cX0_init 128 = .ok (.if_icmp .ge 22, 3) := dk_162 0 22 (dk_at dksX0_init_5 10 rfl rfl)
theorem dX0_init_131 : decode cX0_init 131 = .ok (.aload_n 0, 1) := dk_42 (dk_at dksX0_init_5 13 rfl rfl)
theorem dX0_init_132 : decode cX0_init 132 = .ok (.getfield 11, 3) := dk_180 0 11 (dk_at dksX0_init_5 14 rfl rfl)
theorem dX0_init_135 : decode cX0_init 135 = .ok (.iload_n 1, 1) := dk_27 (dk_at dksX0_init_5 17 rfl rfl)
theorem dX0_init_136 : decode cX0_init 136 = .ok (.new 9, 3) := dk_187 0 9 (dk_at dksX0_init_5 18 rfl rfl)
theorem dX0_init_139 : decode cX0_init 139 = .ok (.dup, 1) := dk_89 (dk_at dksX0_init_5 21 rfl rfl)
theorem dX0_init_140 : decode cX0_init 140 = .ok (.invokespecial 67, 3) := dk_183 0 67 (dk_at dksX0_init_6 0 rfl rfl)
theorem dX0_init_143 : decode cX0_init 143 = .ok (.aastore, 1) := dk_83 (dk_at dksX0_init_6 3 rfl rfl)
theorem dX0_init_144 : decode cX0_init 144 = .ok (.iinc 1 1, 3) := dk_132 1 1 (dk_at dksX0_init_6 4 rfl rfl)
theorem dX0_init_147 : decode cX0_init 147 = .ok (.goto (-22), 3) := dk_167 255 234 (dk_at dksX0_init_6 7 rfl rfl)
theorem dX0_init_150 : decode cX0_init 150 = .ok (.iconst 0, 1) := dk_3 (dk_at dksX0_init_6 10 rfl rfl)
theorem dX0_init_151 : decode cX0_init 151 = .ok (.istore_n 1, 1) := dk_60 (dk_at dksX0_init_6 11 rfl rfl)
theorem dX0_init_152 : decode cX0_init 152 = .ok (.iload_n 1, 1) := dk_27 (dk_at dksX0_init_6 12 rfl rfl)
theorem dX0_init_153 : decode cX0_init 153 = .ok (.bipush 8, 2) := dk_16 8 (dk_at dksX0_init_6 13 rfl rfl)
theorem dX0_init_155 : decode cX0_init 155 = .ok (.if_icmp .ge 17, 3) := dk_162 0 17 (dk_at dksX0_init_6 15 rfl rfl)
theorem dX0_init_158 : decode cX0_init 158 = .ok (.aload_n 0, 1) := dk_42 (dk_at dksX0_init_6 18 rfl rfl)
theorem dX0_init_159 : decode cX0_init 159 = .ok (.getfield 15, 3) := dk_180 0 15 (dk_at dksX0_init_6 19 rfl rfl)
theorem dX0_init_162 : decode cX0_init 162 = .ok (.iload_n 1, 1) := dk_27 (dk_at dksX0_init_6 22 rfl rfl)
theorem dX0_init_163 : decode cX0_init 163 = .ok (.bipush (-6), 2) := dk_16 250 (dk_at dksX0_init_7 0 rfl rfl)
theorem dX0_init_165 : decode cX0_init 165 = .ok (.iastore, 1) := dk_79 (dk_at dksX0_init_7 2 rfl rfl)
theorem dX0_init_166 : decode cX0_init 166 = .ok (.iinc 1 1, 3) := dk_132 1 1 (dk_at dksX0_init_7 3 rfl rfl)
theorem dX0_init_169 : decode cX0_init 169 = .ok (.goto (-17), 3) := dk_167 255 239 (dk_at dksX0_init_7 6 rfl rfl)
theorem dX0_init_172 : decode cX0_init 172 = .ok (.return_, 1) := dk_177 (dk_at dksX0_init_7 9 rfl rfl)
abbrev cX0_say : ByteArray := prog_1_method_3_code
def yX0_say : MethodName := ⟨RX0, "say", "(I)I"⟩
def dkwX0_say_2 : List UInt8 := [181, 0, 76, 42, 180, 0, 76, 172]
abbrev dktX0_say_2 : List UInt8 := dkwX0_say_2 ++ []
def dkwX0_say_1 : List UInt8 := [160, 0, 6, 16, 252, 172, 42, 180, 0, 19, 42, 180, 0, 76, 27, 146, 85, 42, 89, 180, 0, 76, 4, 96]
abbrev dktX0_say_1 : List UInt8 := dkwX0_say_1 ++ dktX0_say_2
def dkwX0_say_0 : List UInt8 := [27, 133, 20, 0, 68, 20, 0, 70, 184, 0, 72, 154, 0, 6, 16, 254, 172, 42, 180, 0, 76, 16, 100]
abbrev dktX0_say_0 : List UInt8 := dkwX0_say_0 ++ dktX0_say_1
theorem dksX0_say_0 : cX0_say.data.toList.drop 0 = dktX0_say_0 := by decide +kernel
theorem dksX0_say_1 : cX0_say.data.toList.drop 23 = dktX0_say_1 := dk_seg dksX0_say_0 23 rfl rfl
theorem dksX0_say_2 : cX0_say.data.toList.drop 47 = dktX0_say_2 := dk_seg dksX0_say_1 24 rfl rfl
theorem dX0_say_0 : decode cX0_say 0 = .ok (.iload_n 1, 1) := dk_27 (dk_at dksX0_say_0 0 rfl rfl)
theorem dX0_say_1 : decode cX0_say 1 = .ok (.i2l, 1) := dk_133 (dk_at dksX0_say_0 1 rfl rfl)
theorem dX0_say_2 : decode cX0_say 2 = .ok (.ldc2_w 68, 3) := dk_20 0 68 (dk_at dksX0_say_0 2 rfl rfl)
theorem dX0_say_5 : decode cX0_say 5 = .ok (.ldc2_w 70, 3) := dk_20 0 70 (dk_at dksX0_say_0 5 rfl rfl)
theorem dX0_say_8 : decode cX0_say 8 = .ok (.invokestatic 72, 3) := dk_184 0 72 (dk_at dksX0_say_0 8 rfl rfl)
theorem dX0_say_11 : decode cX0_say 11 = .ok (.ifCond .ne 6, 3) := dk_154 0 6 (dk_at dksX0_say_0 11 rfl rfl)
theorem dX0_say_14 : decode cX0_say 14 = .ok (.bipush (-2), 2) := dk_16 254 (dk_at dksX0_say_0 14 rfl rfl)
theorem dX0_say_16 : decode cX0_say 16 = .ok (.ireturn, 1) := dk_172 (dk_at dksX0_say_0 16 rfl rfl)
theorem dX0_say_17 : decode cX0_say 17 = .ok (.aload_n 0, 1) := dk_42 (dk_at dksX0_say_0 17 rfl rfl)
theorem dX0_say_18 : decode cX0_say 18 = .ok (.getfield 76, 3) := dk_180 0 76 (dk_at dksX0_say_0 18 rfl rfl)
theorem dX0_say_21 : decode cX0_say 21 = .ok (.bipush 100, 2) := dk_16 100 (dk_at dksX0_say_0 21 rfl rfl)
theorem dX0_say_23 : decode cX0_say 23 = .ok (.if_icmp .ne 6, 3) := dk_160 0 6 (dk_at dksX0_say_1 0 rfl rfl)
theorem dX0_say_26 : decode cX0_say 26 = .ok (.bipush (-4), 2) := dk_16 252 (dk_at dksX0_say_1 3 rfl rfl)
theorem dX0_say_28 : decode cX0_say 28 = .ok (.ireturn, 1) := dk_172 (dk_at dksX0_say_1 5 rfl rfl)
theorem dX0_say_29 : decode cX0_say 29 = .ok (.aload_n 0, 1) := dk_42 (dk_at dksX0_say_1 6 rfl rfl)
theorem dX0_say_30 : decode cX0_say 30 = .ok (.getfield 19, 3) := dk_180 0 19 (dk_at dksX0_say_1 7 rfl rfl)
theorem dX0_say_33 : decode cX0_say 33 = .ok (.aload_n 0, 1) := dk_42 (dk_at dksX0_say_1 10 rfl rfl)
theorem dX0_say_34 : decode cX0_say 34 = .ok (.getfield 76, 3) := dk_180 0 76 (dk_at dksX0_say_1 11 rfl rfl)
theorem dX0_say_37 : decode cX0_say 37 = .ok (.iload_n 1, 1) := dk_27 (dk_at dksX0_say_1 14 rfl rfl)
theorem dX0_say_38 : decode cX0_say 38 = .ok (.i2c, 1) := dk_146 (dk_at dksX0_say_1 15 rfl rfl)
theorem dX0_say_39 : decode cX0_say 39 = .ok (.castore, 1) := dk_85 (dk_at dksX0_say_1 16 rfl rfl)
theorem dX0_say_40 : decode cX0_say 40 = .ok (.aload_n 0, 1) := dk_42 (dk_at dksX0_say_1 17 rfl rfl)
theorem dX0_say_41 : decode cX0_say 41 = .ok (.dup, 1) := dk_89 (dk_at dksX0_say_1 18 rfl rfl)
theorem dX0_say_42 : decode cX0_say 42 = .ok (.getfield 76, 3) := dk_180 0 76 (dk_at dksX0_say_1 19 rfl rfl)
theorem dX0_say_45 : decode cX0_say 45 = .ok (.iconst 1, 1) := dk_4 (dk_at dksX0_say_1 22 rfl rfl)
theorem dX0_say_46 : decode cX0_say 46 = .ok (.iadd, 1) := dk_96 (dk_at dksX0_say_1 23 rfl rfl)
theorem dX0_say_47 : decode cX0_say 47 = .ok (.putfield 76, 3) := dk_181 0 76 (dk_at dksX0_say_2 0 rfl rfl)
theorem dX0_say_50 : decode cX0_say 50 = .ok (.aload_n 0, 1) := dk_42 (dk_at dksX0_say_2 3 rfl rfl)
theorem dX0_say_51 : decode cX0_say 51 = .ok (.getfield 76, 3) := dk_180 0 76 (dk_at dksX0_say_2 4 rfl rfl)
theorem dX0_say_54 : decode cX0_say 54 = .ok (.ireturn, 1) := dk_172 (dk_at dksX0_say_2 7 rfl rfl)
abbrev cX0_isIn : ByteArray := prog_1_method_1_code
def yX0_isIn : MethodName := ⟨RX0, "isIn", "(JJJ)Z"⟩
def dkwX0_isIn_0 : List UInt8 := [30, 32, 148, 155, 0, 14, 30, 22, 4, 148, 157, 0, 7, 4, 167, 0, 4, 3, 172]
abbrev dktX0_isIn_0 : List UInt8 := dkwX0_isIn_0 ++ []
theorem dksX0_isIn_0 : cX0_isIn.data.toList.drop 0 = dktX0_isIn_0 := by decide +kernel
theorem dX0_isIn_0 : decode cX0_isIn 0 = .ok (.lload_n 0, 1) := dk_30 (dk_at dksX0_isIn_0 0 rfl rfl)
theorem dX0_isIn_1 : decode cX0_isIn 1 = .ok (.lload_n 2, 1) := dk_32 (dk_at dksX0_isIn_0 1 rfl rfl)
theorem dX0_isIn_2 : decode cX0_isIn 2 = .ok (.lcmp, 1) := dk_148 (dk_at dksX0_isIn_0 2 rfl rfl)
theorem dX0_isIn_3 : decode cX0_isIn 3 = .ok (.ifCond .lt 14, 3) := dk_155 0 14 (dk_at dksX0_isIn_0 3 rfl rfl)
theorem dX0_isIn_6 : decode cX0_isIn 6 = .ok (.lload_n 0, 1) := dk_30 (dk_at dksX0_isIn_0 6 rfl rfl)
theorem dX0_isIn_7 : decode cX0_isIn 7 = .ok (.lload 4, 2) := dk_22 4 (dk_at dksX0_isIn_0 7 rfl rfl)
theorem dX0_isIn_9 : decode cX0_isIn 9 = .ok (.lcmp, 1) := dk_148 (dk_at dksX0_isIn_0 9 rfl rfl)
theorem dX0_isIn_10 : decode cX0_isIn 10 = .ok (.ifCond .gt 7, 3) := dk_157 0 7 (dk_at dksX0_isIn_0 10 rfl rfl)
theorem dX0_isIn_13 : decode cX0_isIn 13 = .ok (.iconst 1, 1) := dk_4 (dk_at dksX0_isIn_0 13 rfl rfl)
theorem dX0_isIn_14 : decode cX0_isIn 14 = .ok (.goto 4, 3) := dk_167 0 4 (dk_at dksX0_isIn_0 14 rfl rfl)
theorem dX0_isIn_17 : decode cX0_isIn 17 = .ok (.iconst 0, 1) := dk_3 (dk_at dksX0_isIn_0 17 rfl rfl)
theorem dX0_isIn_18 : decode cX0_isIn 18 = .ok (.ireturn, 1) := dk_172 (dk_at dksX0_isIn_0 18 rfl rfl)
abbrev cX0_wipe : ByteArray := prog_1_method_4_code
def yX0_wipe : MethodName := ⟨RX0, "wipe", "()I"⟩
def dkwX0_wipe_0 : List UInt8 := [42, 180, 0, 76, 60, 42, 3, 181, 0, 76, 27, 172]
abbrev dktX0_wipe_0 : List UInt8 := dkwX0_wipe_0 ++ []
theorem dksX0_wipe_0 : cX0_wipe.data.toList.drop 0 = dktX0_wipe_0 := by decide +kernel
theorem dX0_wipe_0 : decode cX0_wipe 0 = .ok (.aload_n 0, 1) := dk_42 (dk_at dksX0_wipe_0 0 rfl rfl)
theorem dX0_wipe_1 : decode cX0_wipe 1 = .ok (.getfield 76, 3) := dk_180 0 76 (dk_at dksX0_wipe_0 1 rfl rfl)
theorem dX0_wipe_4 : decode cX0_wipe 4 = .ok (.istore_n 1, 1) := dk_60 (dk_at dksX0_wipe_0 4 rfl rfl)
theorem dX0_wipe_5 : decode cX0_wipe 5 = .ok (.aload_n 0, 1) := dk_42 (dk_at dksX0_wipe_0 5 rfl rfl)
theorem dX0_wipe_6 : decode cX0_wipe 6 = .ok (.iconst 0, 1) := dk_3 (dk_at dksX0_wipe_0 6 rfl rfl)
theorem dX0_wipe_7 : decode cX0_wipe 7 = .ok (.putfield 76, 3) := dk_181 0 76 (dk_at dksX0_wipe_0 7 rfl rfl)
theorem dX0_wipe_10 : decode cX0_wipe 10 = .ok (.iload_n 1, 1) := dk_27 (dk_at dksX0_wipe_0 10 rfl rfl)
theorem dX0_wipe_11 : decode cX0_wipe 11 = .ok (.ireturn, 1) := dk_172 (dk_at dksX0_wipe_0 11 rfl rfl)
abbrev cX0_fault : ByteArray := prog_1_method_5_code
def yX0_fault : MethodName := ⟨RX0, "fault", "()I"⟩
def dkwX0_fault_0 : List UInt8 := [42, 180, 0, 26, 42, 180, 0, 19, 42, 180, 0, 76, 182, 0, 80, 172]
abbrev dktX0_fault_0 : List UInt8 := dkwX0_fault_0 ++ []
theorem dksX0_fault_0 : cX0_fault.data.toList.drop 0 = dktX0_fault_0 := by decide +kernel
theorem dX0_fault_0 : decode cX0_fault 0 = .ok (.aload_n 0, 1) := dk_42 (dk_at dksX0_fault_0 0 rfl rfl)
theorem dX0_fault_1 : decode cX0_fault 1 = .ok (.getfield 26, 3) := dk_180 0 26 (dk_at dksX0_fault_0 1 rfl rfl)
theorem dX0_fault_4 : decode cX0_fault 4 = .ok (.aload_n 0, 1) := dk_42 (dk_at dksX0_fault_0 4 rfl rfl)
theorem dX0_fault_5 : decode cX0_fault 5 = .ok (.getfield 19, 3) := dk_180 0 19 (dk_at dksX0_fault_0 5 rfl rfl)
theorem dX0_fault_8 : decode cX0_fault 8 = .ok (.aload_n 0, 1) := dk_42 (dk_at dksX0_fault_0 8 rfl rfl)
theorem dX0_fault_9 : decode cX0_fault 9 = .ok (.getfield 76, 3) := dk_180 0 76 (dk_at dksX0_fault_0 9 rfl rfl)
theorem dX0_fault_12 : decode cX0_fault 12 = .ok (.invokevirtual 80, 3) := dk_182 0 80 (dk_at dksX0_fault_0 12 rfl rfl)
theorem dX0_fault_15 : decode cX0_fault 15 = .ok (.ireturn, 1) := dk_172 (dk_at dksX0_fault_0 15 rfl rfl)
abbrev cX0_take : ByteArray := prog_1_method_6_code
def yX0_take : MethodName := ⟨RX0, "take", "()I"⟩
def dkwX0_take_12 : List UInt8 := [3, 181, 0, 76, 42, 3, 181, 0, 126, 42, 180, 0, 94, 172]
abbrev dktX0_take_12 : List UInt8 := dkwX0_take_12 ++ []
def dkwX0_take_11 : List UInt8 := [167, 0, 16, 42, 180, 0, 30, 42, 180, 0, 26, 27, 182, 0, 123, 46, 79, 132, 1, 1, 167, 255, 211, 42]
abbrev dktX0_take_11 : List UInt8 := dkwX0_take_11 ++ dktX0_take_12
def dkwX0_take_10 : List UInt8 := [162, 0, 45, 42, 180, 0, 15, 27, 42, 180, 0, 26, 180, 0, 120, 27, 46, 156, 0, 8, 16, 250]
abbrev dktX0_take_10 : List UInt8 := dkwX0_take_10 ++ dktX0_take_11
def dkwX0_take_9 : List UInt8 := [21, 4, 182, 0, 116, 79, 132, 3, 1, 167, 255, 209, 132, 1, 1, 167, 255, 153, 3, 60, 27, 16, 8]
abbrev dktX0_take_9 : List UInt8 := dkwX0_take_9 ++ dktX0_take_10
def dkwX0_take_8 : List UInt8 := [180, 0, 113, 29, 46, 54, 4, 44, 180, 0, 113, 29, 21, 4, 156, 0, 8, 16, 250, 167, 0, 9, 42]
abbrev dktX0_take_8 : List UInt8 := dkwX0_take_8 ++ dktX0_take_9
def dkwX0_take_7 : List UInt8 := [50, 180, 0, 101, 182, 0, 109, 3, 62, 29, 16, 8, 162, 0, 47, 42, 180, 0, 26, 180, 0, 98, 27, 50]
abbrev dktX0_take_7 : List UInt8 := dkwX0_take_7 ++ dktX0_take_8
def dkwX0_take_6 : List UInt8 := [155, 0, 83, 42, 180, 0, 11, 42, 180, 0, 30, 27, 46, 50, 77, 44, 42, 180, 0, 26, 180, 0, 98, 27]
abbrev dktX0_take_6 : List UInt8 := dkwX0_take_6 ++ dktX0_take_7
def dkwX0_take_5 : List UInt8 := [167, 255, 181, 3, 60, 27, 42, 180, 0, 26, 180, 0, 97, 162, 0, 98, 42, 180, 0, 30, 27, 46]
abbrev dktX0_take_5 : List UInt8 := dkwX0_take_5 ++ dktX0_take_6
def dkwX0_take_4 : List UInt8 := [79, 42, 89, 180, 0, 94, 28, 153, 0, 7, 4, 167, 0, 4, 3, 96, 181, 0, 94, 132, 1, 1]
abbrev dktX0_take_4 : List UInt8 := dkwX0_take_4 ++ dktX0_take_5
def dkwX0_take_3 : List UInt8 := [4, 167, 0, 4, 3, 61, 42, 180, 0, 30, 27, 28, 153, 0, 10, 42, 180, 0, 94, 167, 0, 5, 16, 250]
abbrev dktX0_take_3 : List UInt8 := dkwX0_take_3 ++ dktX0_take_4
def dkwX0_take_2 : List UInt8 := [180, 0, 97, 162, 0, 70, 42, 180, 0, 26, 180, 0, 98, 27, 50, 180, 0, 101, 184, 0, 105, 154, 0, 7]
abbrev dktX0_take_2 : List UInt8 := dkwX0_take_2 ++ dktX0_take_3
def dkwX0_take_1 : List UInt8 := [182, 0, 91, 16, 40, 164, 0, 6, 16, 252, 172, 42, 3, 181, 0, 94, 3, 60, 27, 42, 180, 0, 26]
abbrev dktX0_take_1 : List UInt8 := dkwX0_take_1 ++ dktX0_take_2
def dkwX0_take_0 : List UInt8 := [42, 182, 0, 84, 156, 0, 13, 42, 180, 0, 26, 182, 0, 87, 154, 0, 6, 16, 251, 172, 42, 180, 0, 26]
abbrev dktX0_take_0 : List UInt8 := dkwX0_take_0 ++ dktX0_take_1
theorem dksX0_take_0 : cX0_take.data.toList.drop 0 = dktX0_take_0 := by decide +kernel
theorem dksX0_take_1 : cX0_take.data.toList.drop 24 = dktX0_take_1 := dk_seg dksX0_take_0 24 rfl rfl
theorem dksX0_take_2 : cX0_take.data.toList.drop 47 = dktX0_take_2 := dk_seg dksX0_take_1 23 rfl rfl
theorem dksX0_take_3 : cX0_take.data.toList.drop 71 = dktX0_take_3 := dk_seg dksX0_take_2 24 rfl rfl
theorem dksX0_take_4 : cX0_take.data.toList.drop 95 = dktX0_take_4 := dk_seg dksX0_take_3 24 rfl rfl
theorem dksX0_take_5 : cX0_take.data.toList.drop 117 = dktX0_take_5 := dk_seg dksX0_take_4 22 rfl rfl
theorem dksX0_take_6 : cX0_take.data.toList.drop 139 = dktX0_take_6 := dk_seg dksX0_take_5 22 rfl rfl
theorem dksX0_take_7 : cX0_take.data.toList.drop 163 = dktX0_take_7 := dk_seg dksX0_take_6 24 rfl rfl
theorem dksX0_take_8 : cX0_take.data.toList.drop 187 = dktX0_take_8 := dk_seg dksX0_take_7 24 rfl rfl
theorem dksX0_take_9 : cX0_take.data.toList.drop 210 = dktX0_take_9 := dk_seg dksX0_take_8 23 rfl rfl
theorem dksX0_take_10 : cX0_take.data.toList.drop 233 = dktX0_take_10 := dk_seg dksX0_take_9 23 rfl rfl
theorem dksX0_take_11 : cX0_take.data.toList.drop 255 = dktX0_take_11 := dk_seg dksX0_take_10 22 rfl rfl
theorem dksX0_take_12 : cX0_take.data.toList.drop 279 = dktX0_take_12 := dk_seg dksX0_take_11 24 rfl rfl
theorem dX0_take_0 : decode cX0_take 0 = .ok (.aload_n 0, 1) := dk_42 (dk_at dksX0_take_0 0 rfl rfl)
theorem dX0_take_1 : decode cX0_take 1 = .ok (.invokevirtual 84, 3) := dk_182 0 84 (dk_at dksX0_take_0 1 rfl rfl)
theorem dX0_take_4 : decode cX0_take 4 = .ok (.ifCond .ge 13, 3) := dk_156 0 13 (dk_at dksX0_take_0 4 rfl rfl)
theorem dX0_take_7 : decode cX0_take 7 = .ok (.aload_n 0, 1) := dk_42 (dk_at dksX0_take_0 7 rfl rfl)
theorem dX0_take_8 : decode cX0_take 8 = .ok (.getfield 26, 3) := dk_180 0 26 (dk_at dksX0_take_0 8 rfl rfl)
theorem dX0_take_11 : decode cX0_take 11 = .ok (.invokevirtual 87, 3) := dk_182 0 87 (dk_at dksX0_take_0 11 rfl rfl)
theorem dX0_take_14 : decode cX0_take 14 = .ok (.ifCond .ne 6, 3) := dk_154 0 6 (dk_at dksX0_take_0 14 rfl rfl)
theorem dX0_take_17 : decode cX0_take 17 = .ok (.bipush (-5), 2) := dk_16 251 (dk_at dksX0_take_0 17 rfl rfl)
theorem dX0_take_19 : decode cX0_take 19 = .ok (.ireturn, 1) := dk_172 (dk_at dksX0_take_0 19 rfl rfl)
theorem dX0_take_20 : decode cX0_take 20 = .ok (.aload_n 0, 1) := dk_42 (dk_at dksX0_take_0 20 rfl rfl)
theorem dX0_take_21 : decode cX0_take 21 = .ok (.getfield 26, 3) := dk_180 0 26 (dk_at dksX0_take_0 21 rfl rfl)
theorem dX0_take_24 : decode cX0_take 24 = .ok (.invokevirtual 91, 3) := dk_182 0 91 (dk_at dksX0_take_1 0 rfl rfl)
theorem dX0_take_27 : decode cX0_take 27 = .ok (.bipush 40, 2) := dk_16 40 (dk_at dksX0_take_1 3 rfl rfl)
theorem dX0_take_29 : decode cX0_take 29 = .ok (.if_icmp .le 6, 3) := dk_164 0 6 (dk_at dksX0_take_1 5 rfl rfl)
theorem dX0_take_32 : decode cX0_take 32 = .ok (.bipush (-4), 2) := dk_16 252 (dk_at dksX0_take_1 8 rfl rfl)
theorem dX0_take_34 : decode cX0_take 34 = .ok (.ireturn, 1) := dk_172 (dk_at dksX0_take_1 10 rfl rfl)
theorem dX0_take_35 : decode cX0_take 35 = .ok (.aload_n 0, 1) := dk_42 (dk_at dksX0_take_1 11 rfl rfl)
theorem dX0_take_36 : decode cX0_take 36 = .ok (.iconst 0, 1) := dk_3 (dk_at dksX0_take_1 12 rfl rfl)
theorem dX0_take_37 : decode cX0_take 37 = .ok (.putfield 94, 3) := dk_181 0 94 (dk_at dksX0_take_1 13 rfl rfl)
theorem dX0_take_40 : decode cX0_take 40 = .ok (.iconst 0, 1) := dk_3 (dk_at dksX0_take_1 16 rfl rfl)
theorem dX0_take_41 : decode cX0_take 41 = .ok (.istore_n 1, 1) := dk_60 (dk_at dksX0_take_1 17 rfl rfl)
theorem dX0_take_42 : decode cX0_take 42 = .ok (.iload_n 1, 1) := dk_27 (dk_at dksX0_take_1 18 rfl rfl)
theorem dX0_take_43 : decode cX0_take 43 = .ok (.aload_n 0, 1) := dk_42 (dk_at dksX0_take_1 19 rfl rfl)
theorem dX0_take_44 : decode cX0_take 44 = .ok (.getfield 26, 3) := dk_180 0 26 (dk_at dksX0_take_1 20 rfl rfl)
theorem dX0_take_47 : decode cX0_take 47 = .ok (.getfield 97, 3) := dk_180 0 97 (dk_at dksX0_take_2 0 rfl rfl)
theorem dX0_take_50 : decode cX0_take 50 = .ok (.if_icmp .ge 70, 3) := dk_162 0 70 (dk_at dksX0_take_2 3 rfl rfl)
theorem dX0_take_53 : decode cX0_take 53 = .ok (.aload_n 0, 1) := dk_42 (dk_at dksX0_take_2 6 rfl rfl)
theorem dX0_take_54 : decode cX0_take 54 = .ok (.getfield 26, 3) := dk_180 0 26 (dk_at dksX0_take_2 7 rfl rfl)
theorem dX0_take_57 : decode cX0_take 57 = .ok (.getfield 98, 3) := dk_180 0 98 (dk_at dksX0_take_2 10 rfl rfl)
theorem dX0_take_60 : decode cX0_take 60 = .ok (.iload_n 1, 1) := dk_27 (dk_at dksX0_take_2 13 rfl rfl)
theorem dX0_take_61 : decode cX0_take 61 = .ok (.aaload, 1) := dk_50 (dk_at dksX0_take_2 14 rfl rfl)
theorem dX0_take_62 : decode cX0_take 62 = .ok (.getfield 101, 3) := dk_180 0 101 (dk_at dksX0_take_2 15 rfl rfl)
theorem dX0_take_65 : decode cX0_take 65 = .ok (.invokestatic 105, 3) := dk_184 0 105 (dk_at dksX0_take_2 18 rfl rfl)
theorem dX0_take_68 : decode cX0_take 68 = .ok (.ifCond .ne 7, 3) := dk_154 0 7 (dk_at dksX0_take_2 21 rfl rfl)
theorem dX0_take_71 : decode cX0_take 71 = .ok (.iconst 1, 1) := dk_4 (dk_at dksX0_take_3 0 rfl rfl)
theorem dX0_take_72 : decode cX0_take 72 = .ok (.goto 4, 3) := dk_167 0 4 (dk_at dksX0_take_3 1 rfl rfl)
theorem dX0_take_75 : decode cX0_take 75 = .ok (.iconst 0, 1) := dk_3 (dk_at dksX0_take_3 4 rfl rfl)
theorem dX0_take_76 : decode cX0_take 76 = .ok (.istore_n 2, 1) := dk_61 (dk_at dksX0_take_3 5 rfl rfl)
theorem dX0_take_77 : decode cX0_take 77 = .ok (.aload_n 0, 1) := dk_42 (dk_at dksX0_take_3 6 rfl rfl)
theorem dX0_take_78 : decode cX0_take 78 = .ok (.getfield 30, 3) := dk_180 0 30 (dk_at dksX0_take_3 7 rfl rfl)
theorem dX0_take_81 : decode cX0_take 81 = .ok (.iload_n 1, 1) := dk_27 (dk_at dksX0_take_3 10 rfl rfl)
theorem dX0_take_82 : decode cX0_take 82 = .ok (.iload_n 2, 1) := dk_28 (dk_at dksX0_take_3 11 rfl rfl)
theorem dX0_take_83 : decode cX0_take 83 = .ok (.ifCond .eq 10, 3) := dk_153 0 10 (dk_at dksX0_take_3 12 rfl rfl)
theorem dX0_take_86 : decode cX0_take 86 = .ok (.aload_n 0, 1) := dk_42 (dk_at dksX0_take_3 15 rfl rfl)
theorem dX0_take_87 : decode cX0_take 87 = .ok (.getfield 94, 3) := dk_180 0 94 (dk_at dksX0_take_3 16 rfl rfl)
theorem dX0_take_90 : decode cX0_take 90 = .ok (.goto 5, 3) := dk_167 0 5 (dk_at dksX0_take_3 19 rfl rfl)
theorem dX0_take_93 : decode cX0_take 93 = .ok (.bipush (-6), 2) := dk_16 250 (dk_at dksX0_take_3 22 rfl rfl)
theorem dX0_take_95 : decode cX0_take 95 = .ok (.iastore, 1) := dk_79 (dk_at dksX0_take_4 0 rfl rfl)
theorem dX0_take_96 : decode cX0_take 96 = .ok (.aload_n 0, 1) := dk_42 (dk_at dksX0_take_4 1 rfl rfl)
theorem dX0_take_97 : decode cX0_take 97 = .ok (.dup, 1) := dk_89 (dk_at dksX0_take_4 2 rfl rfl)
theorem dX0_take_98 : decode cX0_take 98 = .ok (.getfield 94, 3) := dk_180 0 94 (dk_at dksX0_take_4 3 rfl rfl)
theorem dX0_take_101 : decode cX0_take 101 = .ok (.iload_n 2, 1) := dk_28 (dk_at dksX0_take_4 6 rfl rfl)
theorem dX0_take_102 : decode cX0_take 102 = .ok (.ifCond .eq 7, 3) := dk_153 0 7 (dk_at dksX0_take_4 7 rfl rfl)
theorem dX0_take_105 : decode cX0_take 105 = .ok (.iconst 1, 1) := dk_4 (dk_at dksX0_take_4 10 rfl rfl)
theorem dX0_take_106 : decode cX0_take 106 = .ok (.goto 4, 3) := dk_167 0 4 (dk_at dksX0_take_4 11 rfl rfl)
theorem dX0_take_109 : decode cX0_take 109 = .ok (.iconst 0, 1) := dk_3 (dk_at dksX0_take_4 14 rfl rfl)
theorem dX0_take_110 : decode cX0_take 110 = .ok (.iadd, 1) := dk_96 (dk_at dksX0_take_4 15 rfl rfl)
theorem dX0_take_111 : decode cX0_take 111 = .ok (.putfield 94, 3) := dk_181 0 94 (dk_at dksX0_take_4 16 rfl rfl)
theorem dX0_take_114 : decode cX0_take 114 = .ok (.iinc 1 1, 3) := dk_132 1 1 (dk_at dksX0_take_4 19 rfl rfl)
theorem dX0_take_117 : decode cX0_take 117 = .ok (.goto (-75), 3) := dk_167 255 181 (dk_at dksX0_take_5 0 rfl rfl)
theorem dX0_take_120 : decode cX0_take 120 = .ok (.iconst 0, 1) := dk_3 (dk_at dksX0_take_5 3 rfl rfl)
theorem dX0_take_121 : decode cX0_take 121 = .ok (.istore_n 1, 1) := dk_60 (dk_at dksX0_take_5 4 rfl rfl)
theorem dX0_take_122 : decode cX0_take 122 = .ok (.iload_n 1, 1) := dk_27 (dk_at dksX0_take_5 5 rfl rfl)
theorem dX0_take_123 : decode cX0_take 123 = .ok (.aload_n 0, 1) := dk_42 (dk_at dksX0_take_5 6 rfl rfl)
theorem dX0_take_124 : decode cX0_take 124 = .ok (.getfield 26, 3) := dk_180 0 26 (dk_at dksX0_take_5 7 rfl rfl)
theorem dX0_take_127 : decode cX0_take 127 = .ok (.getfield 97, 3) := dk_180 0 97 (dk_at dksX0_take_5 10 rfl rfl)
theorem dX0_take_130 : decode cX0_take 130 = .ok (.if_icmp .ge 98, 3) := dk_162 0 98 (dk_at dksX0_take_5 13 rfl rfl)
theorem dX0_take_133 : decode cX0_take 133 = .ok (.aload_n 0, 1) := dk_42 (dk_at dksX0_take_5 16 rfl rfl)
theorem dX0_take_134 : decode cX0_take 134 = .ok (.getfield 30, 3) := dk_180 0 30 (dk_at dksX0_take_5 17 rfl rfl)
theorem dX0_take_137 : decode cX0_take 137 = .ok (.iload_n 1, 1) := dk_27 (dk_at dksX0_take_5 20 rfl rfl)
theorem dX0_take_138 : decode cX0_take 138 = .ok (.iaload, 1) := dk_46 (dk_at dksX0_take_5 21 rfl rfl)
theorem dX0_take_139 : decode cX0_take 139 = .ok (.ifCond .lt 83, 3) := dk_155 0 83 (dk_at dksX0_take_6 0 rfl rfl)
theorem dX0_take_142 : decode cX0_take 142 = .ok (.aload_n 0, 1) := dk_42 (dk_at dksX0_take_6 3 rfl rfl)
theorem dX0_take_143 : decode cX0_take 143 = .ok (.getfield 11, 3) := dk_180 0 11 (dk_at dksX0_take_6 4 rfl rfl)
theorem dX0_take_146 : decode cX0_take 146 = .ok (.aload_n 0, 1) := dk_42 (dk_at dksX0_take_6 7 rfl rfl)
theorem dX0_take_147 : decode cX0_take 147 = .ok (.getfield 30, 3) := dk_180 0 30 (dk_at dksX0_take_6 8 rfl rfl)
theorem dX0_take_150 : decode cX0_take 150 = .ok (.iload_n 1, 1) := dk_27 (dk_at dksX0_take_6 11 rfl rfl)
theorem dX0_take_151 : decode cX0_take 151 = .ok (.iaload, 1) := dk_46 (dk_at dksX0_take_6 12 rfl rfl)
theorem dX0_take_152 : decode cX0_take 152 = .ok (.aaload, 1) := dk_50 (dk_at dksX0_take_6 13 rfl rfl)
theorem dX0_take_153 : decode cX0_take 153 = .ok (.astore_n 2, 1) := dk_77 (dk_at dksX0_take_6 14 rfl rfl)
theorem dX0_take_154 : decode cX0_take 154 = .ok (.aload_n 2, 1) := dk_44 (dk_at dksX0_take_6 15 rfl rfl)
theorem dX0_take_155 : decode cX0_take 155 = .ok (.aload_n 0, 1) := dk_42 (dk_at dksX0_take_6 16 rfl rfl)
theorem dX0_take_156 : decode cX0_take 156 = .ok (.getfield 26, 3) := dk_180 0 26 (dk_at dksX0_take_6 17 rfl rfl)
theorem dX0_take_159 : decode cX0_take 159 = .ok (.getfield 98, 3) := dk_180 0 98 (dk_at dksX0_take_6 20 rfl rfl)
theorem dX0_take_162 : decode cX0_take 162 = .ok (.iload_n 1, 1) := dk_27 (dk_at dksX0_take_6 23 rfl rfl)
theorem dX0_take_163 : decode cX0_take 163 = .ok (.aaload, 1) := dk_50 (dk_at dksX0_take_7 0 rfl rfl)
theorem dX0_take_164 : decode cX0_take 164 = .ok (.getfield 101, 3) := dk_180 0 101 (dk_at dksX0_take_7 1 rfl rfl)
theorem dX0_take_167 : decode cX0_take 167 = .ok (.invokevirtual 109, 3) := dk_182 0 109 (dk_at dksX0_take_7 4 rfl rfl)
theorem dX0_take_170 : decode cX0_take 170 = .ok (.iconst 0, 1) := dk_3 (dk_at dksX0_take_7 7 rfl rfl)
theorem dX0_take_171 : decode cX0_take 171 = .ok (.istore_n 3, 1) := dk_62 (dk_at dksX0_take_7 8 rfl rfl)
theorem dX0_take_172 : decode cX0_take 172 = .ok (.iload_n 3, 1) := dk_29 (dk_at dksX0_take_7 9 rfl rfl)
theorem dX0_take_173 : decode cX0_take 173 = .ok (.bipush 8, 2) := dk_16 8 (dk_at dksX0_take_7 10 rfl rfl)
theorem dX0_take_175 : decode cX0_take 175 = .ok (.if_icmp .ge 47, 3) := dk_162 0 47 (dk_at dksX0_take_7 12 rfl rfl)
theorem dX0_take_178 : decode cX0_take 178 = .ok (.aload_n 0, 1) := dk_42 (dk_at dksX0_take_7 15 rfl rfl)
theorem dX0_take_179 : decode cX0_take 179 = .ok (.getfield 26, 3) := dk_180 0 26 (dk_at dksX0_take_7 16 rfl rfl)
theorem dX0_take_182 : decode cX0_take 182 = .ok (.getfield 98, 3) := dk_180 0 98 (dk_at dksX0_take_7 19 rfl rfl)
theorem dX0_take_185 : decode cX0_take 185 = .ok (.iload_n 1, 1) := dk_27 (dk_at dksX0_take_7 22 rfl rfl)
theorem dX0_take_186 : decode cX0_take 186 = .ok (.aaload, 1) := dk_50 (dk_at dksX0_take_7 23 rfl rfl)
theorem dX0_take_187 : decode cX0_take 187 = .ok (.getfield 113, 3) := dk_180 0 113 (dk_at dksX0_take_8 0 rfl rfl)
theorem dX0_take_190 : decode cX0_take 190 = .ok (.iload_n 3, 1) := dk_29 (dk_at dksX0_take_8 3 rfl rfl)
theorem dX0_take_191 : decode cX0_take 191 = .ok (.iaload, 1) := dk_46 (dk_at dksX0_take_8 4 rfl rfl)
theorem dX0_take_192 : decode cX0_take 192 = .ok (.istore 4, 2) := dk_54 4 (dk_at dksX0_take_8 5 rfl rfl)
theorem dX0_take_194 : decode cX0_take 194 = .ok (.aload_n 2, 1) := dk_44 (dk_at dksX0_take_8 7 rfl rfl)
theorem dX0_take_195 : decode cX0_take 195 = .ok (.getfield 113, 3) := dk_180 0 113 (dk_at dksX0_take_8 8 rfl rfl)
theorem dX0_take_198 : decode cX0_take 198 = .ok (.iload_n 3, 1) := dk_29 (dk_at dksX0_take_8 11 rfl rfl)
theorem dX0_take_199 : decode cX0_take 199 = .ok (.iload 4, 2) := dk_21 4 (dk_at dksX0_take_8 12 rfl rfl)
theorem dX0_take_201 : decode cX0_take 201 = .ok (.ifCond .ge 8, 3) := dk_156 0 8 (dk_at dksX0_take_8 14 rfl rfl)
theorem dX0_take_204 : decode cX0_take 204 = .ok (.bipush (-6), 2) := dk_16 250 (dk_at dksX0_take_8 17 rfl rfl)
theorem dX0_take_206 : decode cX0_take 206 = .ok (.goto 9, 3) := dk_167 0 9 (dk_at dksX0_take_8 19 rfl rfl)
theorem dX0_take_209 : decode cX0_take 209 = .ok (.aload_n 0, 1) := dk_42 (dk_at dksX0_take_8 22 rfl rfl)
theorem dX0_take_210 : decode cX0_take 210 = .ok (.iload 4, 2) := dk_21 4 (dk_at dksX0_take_9 0 rfl rfl)
theorem dX0_take_212 : decode cX0_take 212 = .ok (.invokevirtual 116, 3) := dk_182 0 116 (dk_at dksX0_take_9 2 rfl rfl)
theorem dX0_take_215 : decode cX0_take 215 = .ok (.iastore, 1) := dk_79 (dk_at dksX0_take_9 5 rfl rfl)
theorem dX0_take_216 : decode cX0_take 216 = .ok (.iinc 3 1, 3) := dk_132 3 1 (dk_at dksX0_take_9 6 rfl rfl)
theorem dX0_take_219 : decode cX0_take 219 = .ok (.goto (-47), 3) := dk_167 255 209 (dk_at dksX0_take_9 9 rfl rfl)
theorem dX0_take_222 : decode cX0_take 222 = .ok (.iinc 1 1, 3) := dk_132 1 1 (dk_at dksX0_take_9 12 rfl rfl)
theorem dX0_take_225 : decode cX0_take 225 = .ok (.goto (-103), 3) := dk_167 255 153 (dk_at dksX0_take_9 15 rfl rfl)
theorem dX0_take_228 : decode cX0_take 228 = .ok (.iconst 0, 1) := dk_3 (dk_at dksX0_take_9 18 rfl rfl)
theorem dX0_take_229 : decode cX0_take 229 = .ok (.istore_n 1, 1) := dk_60 (dk_at dksX0_take_9 19 rfl rfl)
theorem dX0_take_230 : decode cX0_take 230 = .ok (.iload_n 1, 1) := dk_27 (dk_at dksX0_take_9 20 rfl rfl)
theorem dX0_take_231 : decode cX0_take 231 = .ok (.bipush 8, 2) := dk_16 8 (dk_at dksX0_take_9 21 rfl rfl)
theorem dX0_take_233 : decode cX0_take 233 = .ok (.if_icmp .ge 45, 3) := dk_162 0 45 (dk_at dksX0_take_10 0 rfl rfl)
theorem dX0_take_236 : decode cX0_take 236 = .ok (.aload_n 0, 1) := dk_42 (dk_at dksX0_take_10 3 rfl rfl)
theorem dX0_take_237 : decode cX0_take 237 = .ok (.getfield 15, 3) := dk_180 0 15 (dk_at dksX0_take_10 4 rfl rfl)
theorem dX0_take_240 : decode cX0_take 240 = .ok (.iload_n 1, 1) := dk_27 (dk_at dksX0_take_10 7 rfl rfl)
theorem dX0_take_241 : decode cX0_take 241 = .ok (.aload_n 0, 1) := dk_42 (dk_at dksX0_take_10 8 rfl rfl)
theorem dX0_take_242 : decode cX0_take 242 = .ok (.getfield 26, 3) := dk_180 0 26 (dk_at dksX0_take_10 9 rfl rfl)
theorem dX0_take_245 : decode cX0_take 245 = .ok (.getfield 120, 3) := dk_180 0 120 (dk_at dksX0_take_10 12 rfl rfl)
theorem dX0_take_248 : decode cX0_take 248 = .ok (.iload_n 1, 1) := dk_27 (dk_at dksX0_take_10 15 rfl rfl)
theorem dX0_take_249 : decode cX0_take 249 = .ok (.iaload, 1) := dk_46 (dk_at dksX0_take_10 16 rfl rfl)
theorem dX0_take_250 : decode cX0_take 250 = .ok (.ifCond .ge 8, 3) := dk_156 0 8 (dk_at dksX0_take_10 17 rfl rfl)
theorem dX0_take_253 : decode cX0_take 253 = .ok (.bipush (-6), 2) := dk_16 250 (dk_at dksX0_take_10 20 rfl rfl)
theorem dX0_take_255 : decode cX0_take 255 = .ok (.goto 16, 3) := dk_167 0 16 (dk_at dksX0_take_11 0 rfl rfl)
theorem dX0_take_258 : decode cX0_take 258 = .ok (.aload_n 0, 1) := dk_42 (dk_at dksX0_take_11 3 rfl rfl)
theorem dX0_take_259 : decode cX0_take 259 = .ok (.getfield 30, 3) := dk_180 0 30 (dk_at dksX0_take_11 4 rfl rfl)
theorem dX0_take_262 : decode cX0_take 262 = .ok (.aload_n 0, 1) := dk_42 (dk_at dksX0_take_11 7 rfl rfl)
theorem dX0_take_263 : decode cX0_take 263 = .ok (.getfield 26, 3) := dk_180 0 26 (dk_at dksX0_take_11 8 rfl rfl)
theorem dX0_take_266 : decode cX0_take 266 = .ok (.iload_n 1, 1) := dk_27 (dk_at dksX0_take_11 11 rfl rfl)
theorem dX0_take_267 : decode cX0_take 267 = .ok (.invokevirtual 123, 3) := dk_182 0 123 (dk_at dksX0_take_11 12 rfl rfl)
theorem dX0_take_270 : decode cX0_take 270 = .ok (.iaload, 1) := dk_46 (dk_at dksX0_take_11 15 rfl rfl)
theorem dX0_take_271 : decode cX0_take 271 = .ok (.iastore, 1) := dk_79 (dk_at dksX0_take_11 16 rfl rfl)
theorem dX0_take_272 : decode cX0_take 272 = .ok (.iinc 1 1, 3) := dk_132 1 1 (dk_at dksX0_take_11 17 rfl rfl)
theorem dX0_take_275 : decode cX0_take 275 = .ok (.goto (-45), 3) := dk_167 255 211 (dk_at dksX0_take_11 20 rfl rfl)
theorem dX0_take_278 : decode cX0_take 278 = .ok (.aload_n 0, 1) := dk_42 (dk_at dksX0_take_11 23 rfl rfl)
theorem dX0_take_279 : decode cX0_take 279 = .ok (.iconst 0, 1) := dk_3 (dk_at dksX0_take_12 0 rfl rfl)
theorem dX0_take_280 : decode cX0_take 280 = .ok (.putfield 76, 3) := dk_181 0 76 (dk_at dksX0_take_12 1 rfl rfl)
theorem dX0_take_283 : decode cX0_take 283 = .ok (.aload_n 0, 1) := dk_42 (dk_at dksX0_take_12 4 rfl rfl)
theorem dX0_take_284 : decode cX0_take 284 = .ok (.iconst 0, 1) := dk_3 (dk_at dksX0_take_12 5 rfl rfl)
theorem dX0_take_285 : decode cX0_take 285 = .ok (.putfield 126, 3) := dk_181 0 126 (dk_at dksX0_take_12 6 rfl rfl)
theorem dX0_take_288 : decode cX0_take 288 = .ok (.aload_n 0, 1) := dk_42 (dk_at dksX0_take_12 9 rfl rfl)
theorem dX0_take_289 : decode cX0_take 289 = .ok (.getfield 94, 3) := dk_180 0 94 (dk_at dksX0_take_12 10 rfl rfl)
theorem dX0_take_292 : decode cX0_take 292 = .ok (.ireturn, 1) := dk_172 (dk_at dksX0_take_12 13 rfl rfl)
abbrev cX0_nodeOf : ByteArray := prog_1_method_7_code
def yX0_nodeOf : MethodName := ⟨RX0, "nodeOf", "(I)I"⟩
def dkwX0_nodeOf_1 : List UInt8 := [42, 180, 0, 26, 28, 16, 65, 100, 182, 0, 123, 167, 0, 4, 27, 46, 172]
abbrev dktX0_nodeOf_1 : List UInt8 := dkwX0_nodeOf_1 ++ []
def dkwX0_nodeOf_0 : List UInt8 := [42, 180, 0, 26, 180, 0, 98, 27, 50, 180, 0, 101, 61, 42, 180, 0, 30, 28, 184, 0, 105, 153, 0, 17]
abbrev dktX0_nodeOf_0 : List UInt8 := dkwX0_nodeOf_0 ++ dktX0_nodeOf_1
theorem dksX0_nodeOf_0 : cX0_nodeOf.data.toList.drop 0 = dktX0_nodeOf_0 := by decide +kernel
theorem dksX0_nodeOf_1 : cX0_nodeOf.data.toList.drop 24 = dktX0_nodeOf_1 := dk_seg dksX0_nodeOf_0 24 rfl rfl
theorem dX0_nodeOf_0 : decode cX0_nodeOf 0 = .ok (.aload_n 0, 1) := dk_42 (dk_at dksX0_nodeOf_0 0 rfl rfl)
theorem dX0_nodeOf_1 : decode cX0_nodeOf 1 = .ok (.getfield 26, 3) := dk_180 0 26 (dk_at dksX0_nodeOf_0 1 rfl rfl)
theorem dX0_nodeOf_4 : decode cX0_nodeOf 4 = .ok (.getfield 98, 3) := dk_180 0 98 (dk_at dksX0_nodeOf_0 4 rfl rfl)
theorem dX0_nodeOf_7 : decode cX0_nodeOf 7 = .ok (.iload_n 1, 1) := dk_27 (dk_at dksX0_nodeOf_0 7 rfl rfl)
theorem dX0_nodeOf_8 : decode cX0_nodeOf 8 = .ok (.aaload, 1) := dk_50 (dk_at dksX0_nodeOf_0 8 rfl rfl)
theorem dX0_nodeOf_9 : decode cX0_nodeOf 9 = .ok (.getfield 101, 3) := dk_180 0 101 (dk_at dksX0_nodeOf_0 9 rfl rfl)
theorem dX0_nodeOf_12 : decode cX0_nodeOf 12 = .ok (.istore_n 2, 1) := dk_61 (dk_at dksX0_nodeOf_0 12 rfl rfl)
theorem dX0_nodeOf_13 : decode cX0_nodeOf 13 = .ok (.aload_n 0, 1) := dk_42 (dk_at dksX0_nodeOf_0 13 rfl rfl)
theorem dX0_nodeOf_14 : decode cX0_nodeOf 14 = .ok (.getfield 30, 3) := dk_180 0 30 (dk_at dksX0_nodeOf_0 14 rfl rfl)
theorem dX0_nodeOf_17 : decode cX0_nodeOf 17 = .ok (.iload_n 2, 1) := dk_28 (dk_at dksX0_nodeOf_0 17 rfl rfl)
theorem dX0_nodeOf_18 : decode cX0_nodeOf 18 = .ok (.invokestatic 105, 3) := dk_184 0 105 (dk_at dksX0_nodeOf_0 18 rfl rfl)
theorem dX0_nodeOf_21 : decode cX0_nodeOf 21 = .ok (.ifCond .eq 17, 3) := dk_153 0 17 (dk_at dksX0_nodeOf_0 21 rfl rfl)
theorem dX0_nodeOf_24 : decode cX0_nodeOf 24 = .ok (.aload_n 0, 1) := dk_42 (dk_at dksX0_nodeOf_1 0 rfl rfl)
theorem dX0_nodeOf_25 : decode cX0_nodeOf 25 = .ok (.getfield 26, 3) := dk_180 0 26 (dk_at dksX0_nodeOf_1 1 rfl rfl)
theorem dX0_nodeOf_28 : decode cX0_nodeOf 28 = .ok (.iload_n 2, 1) := dk_28 (dk_at dksX0_nodeOf_1 4 rfl rfl)
theorem dX0_nodeOf_29 : decode cX0_nodeOf 29 = .ok (.bipush 65, 2) := dk_16 65 (dk_at dksX0_nodeOf_1 5 rfl rfl)
theorem dX0_nodeOf_31 : decode cX0_nodeOf 31 = .ok (.isub, 1) := dk_100 (dk_at dksX0_nodeOf_1 7 rfl rfl)
theorem dX0_nodeOf_32 : decode cX0_nodeOf 32 = .ok (.invokevirtual 123, 3) := dk_182 0 123 (dk_at dksX0_nodeOf_1 8 rfl rfl)
theorem dX0_nodeOf_35 : decode cX0_nodeOf 35 = .ok (.goto 4, 3) := dk_167 0 4 (dk_at dksX0_nodeOf_1 11 rfl rfl)
theorem dX0_nodeOf_38 : decode cX0_nodeOf 38 = .ok (.iload_n 1, 1) := dk_27 (dk_at dksX0_nodeOf_1 14 rfl rfl)
theorem dX0_nodeOf_39 : decode cX0_nodeOf 39 = .ok (.iaload, 1) := dk_46 (dk_at dksX0_nodeOf_1 15 rfl rfl)
theorem dX0_nodeOf_40 : decode cX0_nodeOf 40 = .ok (.ireturn, 1) := dk_172 (dk_at dksX0_nodeOf_1 16 rfl rfl)
abbrev cX0_name : ByteArray := prog_1_method_8_code
def yX0_name : MethodName := ⟨RX0, "name", "(I)I"⟩
def dkwX0_name_0 : List UInt8 := [27, 133, 9, 20, 0, 130, 184, 0, 72, 153, 0, 12, 42, 180, 0, 15, 27, 46, 167, 0, 4, 2, 172]
abbrev dktX0_name_0 : List UInt8 := dkwX0_name_0 ++ []
theorem dksX0_name_0 : cX0_name.data.toList.drop 0 = dktX0_name_0 := by decide +kernel
theorem dX0_name_0 : decode cX0_name 0 = .ok (.iload_n 1, 1) := dk_27 (dk_at dksX0_name_0 0 rfl rfl)
theorem dX0_name_1 : decode cX0_name 1 = .ok (.i2l, 1) := dk_133 (dk_at dksX0_name_0 1 rfl rfl)
theorem dX0_name_2 : decode cX0_name 2 = .ok (.lconst 0, 1) := dk_9 (dk_at dksX0_name_0 2 rfl rfl)
theorem dX0_name_3 : decode cX0_name 3 = .ok (.ldc2_w 130, 3) := dk_20 0 130 (dk_at dksX0_name_0 3 rfl rfl)
theorem dX0_name_6 : decode cX0_name 6 = .ok (.invokestatic 72, 3) := dk_184 0 72 (dk_at dksX0_name_0 6 rfl rfl)
theorem dX0_name_9 : decode cX0_name 9 = .ok (.ifCond .eq 12, 3) := dk_153 0 12 (dk_at dksX0_name_0 9 rfl rfl)
theorem dX0_name_12 : decode cX0_name 12 = .ok (.aload_n 0, 1) := dk_42 (dk_at dksX0_name_0 12 rfl rfl)
theorem dX0_name_13 : decode cX0_name 13 = .ok (.getfield 15, 3) := dk_180 0 15 (dk_at dksX0_name_0 13 rfl rfl)
theorem dX0_name_16 : decode cX0_name 16 = .ok (.iload_n 1, 1) := dk_27 (dk_at dksX0_name_0 16 rfl rfl)
theorem dX0_name_17 : decode cX0_name 17 = .ok (.iaload, 1) := dk_46 (dk_at dksX0_name_0 17 rfl rfl)
theorem dX0_name_18 : decode cX0_name 18 = .ok (.goto 4, 3) := dk_167 0 4 (dk_at dksX0_name_0 18 rfl rfl)
theorem dX0_name_21 : decode cX0_name 21 = .ok (.iconst (-1), 1) := dk_2 (dk_at dksX0_name_0 21 rfl rfl)
theorem dX0_name_22 : decode cX0_name 22 = .ok (.ireturn, 1) := dk_172 (dk_at dksX0_name_0 22 rfl rfl)
abbrev cX0_node : ByteArray := prog_1_method_10_code
def yX0_node : MethodName := ⟨RX0, "node", "(II)I"⟩
def dkwX0_node_3 : List UInt8 := [28, 46, 172]
abbrev dktX0_node_3 : List UInt8 := dkwX0_node_3 ++ []
def dkwX0_node_2 : List UInt8 := [160, 0, 15, 42, 180, 0, 11, 27, 50, 182, 0, 139, 167, 0, 14, 42, 180, 0, 11, 27, 50, 180, 0, 113]
abbrev dktX0_node_2 : List UInt8 := dkwX0_node_2 ++ dktX0_node_3
def dkwX0_node_1 : List UInt8 := [16, 254, 172, 28, 2, 160, 0, 15, 42, 180, 0, 11, 27, 50, 180, 0, 101, 167, 0, 32, 28, 16, 8]
abbrev dktX0_node_1 : List UInt8 := dkwX0_node_1 ++ dktX0_node_2
def dkwX0_node_0 : List UInt8 := [42, 27, 182, 0, 132, 154, 0, 5, 2, 172, 28, 133, 20, 0, 135, 20, 0, 137, 184, 0, 72, 154, 0, 6]
abbrev dktX0_node_0 : List UInt8 := dkwX0_node_0 ++ dktX0_node_1
theorem dksX0_node_0 : cX0_node.data.toList.drop 0 = dktX0_node_0 := by decide +kernel
theorem dksX0_node_1 : cX0_node.data.toList.drop 24 = dktX0_node_1 := dk_seg dksX0_node_0 24 rfl rfl
theorem dksX0_node_2 : cX0_node.data.toList.drop 47 = dktX0_node_2 := dk_seg dksX0_node_1 23 rfl rfl
theorem dksX0_node_3 : cX0_node.data.toList.drop 71 = dktX0_node_3 := dk_seg dksX0_node_2 24 rfl rfl
theorem dX0_node_0 : decode cX0_node 0 = .ok (.aload_n 0, 1) := dk_42 (dk_at dksX0_node_0 0 rfl rfl)
theorem dX0_node_1 : decode cX0_node 1 = .ok (.iload_n 1, 1) := dk_27 (dk_at dksX0_node_0 1 rfl rfl)
theorem dX0_node_2 : decode cX0_node 2 = .ok (.invokevirtual 132, 3) := dk_182 0 132 (dk_at dksX0_node_0 2 rfl rfl)
theorem dX0_node_5 : decode cX0_node 5 = .ok (.ifCond .ne 5, 3) := dk_154 0 5 (dk_at dksX0_node_0 5 rfl rfl)
theorem dX0_node_8 : decode cX0_node 8 = .ok (.iconst (-1), 1) := dk_2 (dk_at dksX0_node_0 8 rfl rfl)
theorem dX0_node_9 : decode cX0_node 9 = .ok (.ireturn, 1) := dk_172 (dk_at dksX0_node_0 9 rfl rfl)
theorem dX0_node_10 : decode cX0_node 10 = .ok (.iload_n 2, 1) := dk_28 (dk_at dksX0_node_0 10 rfl rfl)
theorem dX0_node_11 : decode cX0_node 11 = .ok (.i2l, 1) := dk_133 (dk_at dksX0_node_0 11 rfl rfl)
theorem dX0_node_12 : decode cX0_node 12 = .ok (.ldc2_w 135, 3) := dk_20 0 135 (dk_at dksX0_node_0 12 rfl rfl)
theorem dX0_node_15 : decode cX0_node 15 = .ok (.ldc2_w 137, 3) := dk_20 0 137 (dk_at dksX0_node_0 15 rfl rfl)
theorem dX0_node_18 : decode cX0_node 18 = .ok (.invokestatic 72, 3) := dk_184 0 72 (dk_at dksX0_node_0 18 rfl rfl)
theorem dX0_node_21 : decode cX0_node 21 = .ok (.ifCond .ne 6, 3) := dk_154 0 6 (dk_at dksX0_node_0 21 rfl rfl)
theorem dX0_node_24 : decode cX0_node 24 = .ok (.bipush (-2), 2) := dk_16 254 (dk_at dksX0_node_1 0 rfl rfl)
theorem dX0_node_26 : decode cX0_node 26 = .ok (.ireturn, 1) := dk_172 (dk_at dksX0_node_1 2 rfl rfl)
theorem dX0_node_27 : decode cX0_node 27 = .ok (.iload_n 2, 1) := dk_28 (dk_at dksX0_node_1 3 rfl rfl)
theorem dX0_node_28 : decode cX0_node 28 = .ok (.iconst (-1), 1) := dk_2 (dk_at dksX0_node_1 4 rfl rfl)
theorem dX0_node_29 : decode cX0_node 29 = .ok (.if_icmp .ne 15, 3) := dk_160 0 15 (dk_at dksX0_node_1 5 rfl rfl)
theorem dX0_node_32 : decode cX0_node 32 = .ok (.aload_n 0, 1) := dk_42 (dk_at dksX0_node_1 8 rfl rfl)
theorem dX0_node_33 : decode cX0_node 33 = .ok (.getfield 11, 3) := dk_180 0 11 (dk_at dksX0_node_1 9 rfl rfl)
theorem dX0_node_36 : decode cX0_node 36 = .ok (.iload_n 1, 1) := dk_27 (dk_at dksX0_node_1 12 rfl rfl)
theorem dX0_node_37 : decode cX0_node 37 = .ok (.aaload, 1) := dk_50 (dk_at dksX0_node_1 13 rfl rfl)
theorem dX0_node_38 : decode cX0_node 38 = .ok (.getfield 101, 3) := dk_180 0 101 (dk_at dksX0_node_1 14 rfl rfl)
theorem dX0_node_41 : decode cX0_node 41 = .ok (.goto 32, 3) := dk_167 0 32 (dk_at dksX0_node_1 17 rfl rfl)
theorem dX0_node_44 : decode cX0_node 44 = .ok (.iload_n 2, 1) := dk_28 (dk_at dksX0_node_1 20 rfl rfl)
theorem dX0_node_45 : decode cX0_node 45 = .ok (.bipush 8, 2) := dk_16 8 (dk_at dksX0_node_1 21 rfl rfl)
theorem dX0_node_47 : decode cX0_node 47 = .ok (.if_icmp .ne 15, 3) := dk_160 0 15 (dk_at dksX0_node_2 0 rfl rfl)
theorem dX0_node_50 : decode cX0_node 50 = .ok (.aload_n 0, 1) := dk_42 (dk_at dksX0_node_2 3 rfl rfl)
theorem dX0_node_51 : decode cX0_node 51 = .ok (.getfield 11, 3) := dk_180 0 11 (dk_at dksX0_node_2 4 rfl rfl)
theorem dX0_node_54 : decode cX0_node 54 = .ok (.iload_n 1, 1) := dk_27 (dk_at dksX0_node_2 7 rfl rfl)
theorem dX0_node_55 : decode cX0_node 55 = .ok (.aaload, 1) := dk_50 (dk_at dksX0_node_2 8 rfl rfl)
theorem dX0_node_56 : decode cX0_node 56 = .ok (.invokevirtual 139, 3) := dk_182 0 139 (dk_at dksX0_node_2 9 rfl rfl)
theorem dX0_node_59 : decode cX0_node 59 = .ok (.goto 14, 3) := dk_167 0 14 (dk_at dksX0_node_2 12 rfl rfl)
theorem dX0_node_62 : decode cX0_node 62 = .ok (.aload_n 0, 1) := dk_42 (dk_at dksX0_node_2 15 rfl rfl)
theorem dX0_node_63 : decode cX0_node 63 = .ok (.getfield 11, 3) := dk_180 0 11 (dk_at dksX0_node_2 16 rfl rfl)
theorem dX0_node_66 : decode cX0_node 66 = .ok (.iload_n 1, 1) := dk_27 (dk_at dksX0_node_2 19 rfl rfl)
theorem dX0_node_67 : decode cX0_node 67 = .ok (.aaload, 1) := dk_50 (dk_at dksX0_node_2 20 rfl rfl)
theorem dX0_node_68 : decode cX0_node 68 = .ok (.getfield 113, 3) := dk_180 0 113 (dk_at dksX0_node_2 21 rfl rfl)
theorem dX0_node_71 : decode cX0_node 71 = .ok (.iload_n 2, 1) := dk_28 (dk_at dksX0_node_3 0 rfl rfl)
theorem dX0_node_72 : decode cX0_node 72 = .ok (.iaload, 1) := dk_46 (dk_at dksX0_node_3 1 rfl rfl)
theorem dX0_node_73 : decode cX0_node 73 = .ok (.ireturn, 1) := dk_172 (dk_at dksX0_node_3 2 rfl rfl)
abbrev cX0_isNode : ByteArray := prog_1_method_9_code
def yX0_isNode : MethodName := ⟨RX0, "isNode", "(I)Z"⟩
def dkwX0_isNode_0 : List UInt8 := [27, 133, 9, 42, 180, 0, 94, 4, 100, 133, 184, 0, 72, 172]
abbrev dktX0_isNode_0 : List UInt8 := dkwX0_isNode_0 ++ []
theorem dksX0_isNode_0 : cX0_isNode.data.toList.drop 0 = dktX0_isNode_0 := by decide +kernel
theorem dX0_isNode_0 : decode cX0_isNode 0 = .ok (.iload_n 1, 1) := dk_27 (dk_at dksX0_isNode_0 0 rfl rfl)
theorem dX0_isNode_1 : decode cX0_isNode 1 = .ok (.i2l, 1) := dk_133 (dk_at dksX0_isNode_0 1 rfl rfl)
theorem dX0_isNode_2 : decode cX0_isNode 2 = .ok (.lconst 0, 1) := dk_9 (dk_at dksX0_isNode_0 2 rfl rfl)
theorem dX0_isNode_3 : decode cX0_isNode 3 = .ok (.aload_n 0, 1) := dk_42 (dk_at dksX0_isNode_0 3 rfl rfl)
theorem dX0_isNode_4 : decode cX0_isNode 4 = .ok (.getfield 94, 3) := dk_180 0 94 (dk_at dksX0_isNode_0 4 rfl rfl)
theorem dX0_isNode_7 : decode cX0_isNode 7 = .ok (.iconst 1, 1) := dk_4 (dk_at dksX0_isNode_0 7 rfl rfl)
theorem dX0_isNode_8 : decode cX0_isNode 8 = .ok (.isub, 1) := dk_100 (dk_at dksX0_isNode_0 8 rfl rfl)
theorem dX0_isNode_9 : decode cX0_isNode 9 = .ok (.i2l, 1) := dk_133 (dk_at dksX0_isNode_0 9 rfl rfl)
theorem dX0_isNode_10 : decode cX0_isNode 10 = .ok (.invokestatic 72, 3) := dk_184 0 72 (dk_at dksX0_isNode_0 10 rfl rfl)
theorem dX0_isNode_13 : decode cX0_isNode 13 = .ok (.ireturn, 1) := dk_172 (dk_at dksX0_isNode_0 13 rfl rfl)
abbrev cX0_may : ByteArray := prog_1_method_16_code
def yX0_may : MethodName := ⟨RX0, "may", "(II)I"⟩
def dkwX0_may_1 : List UInt8 := [153, 0, 7, 4, 167, 0, 8, 3, 167, 0, 4, 2, 172]
abbrev dktX0_may_1 : List UInt8 := dkwX0_may_1 ++ []
def dkwX0_may_0 : List UInt8 := [42, 27, 182, 0, 132, 153, 0, 28, 42, 28, 182, 0, 132, 153, 0, 20, 42, 27, 28, 182, 0, 166]
abbrev dktX0_may_0 : List UInt8 := dkwX0_may_0 ++ dktX0_may_1
theorem dksX0_may_0 : cX0_may.data.toList.drop 0 = dktX0_may_0 := by decide +kernel
theorem dksX0_may_1 : cX0_may.data.toList.drop 22 = dktX0_may_1 := dk_seg dksX0_may_0 22 rfl rfl
theorem dX0_may_0 : decode cX0_may 0 = .ok (.aload_n 0, 1) := dk_42 (dk_at dksX0_may_0 0 rfl rfl)
theorem dX0_may_1 : decode cX0_may 1 = .ok (.iload_n 1, 1) := dk_27 (dk_at dksX0_may_0 1 rfl rfl)
theorem dX0_may_2 : decode cX0_may 2 = .ok (.invokevirtual 132, 3) := dk_182 0 132 (dk_at dksX0_may_0 2 rfl rfl)
theorem dX0_may_5 : decode cX0_may 5 = .ok (.ifCond .eq 28, 3) := dk_153 0 28 (dk_at dksX0_may_0 5 rfl rfl)
theorem dX0_may_8 : decode cX0_may 8 = .ok (.aload_n 0, 1) := dk_42 (dk_at dksX0_may_0 8 rfl rfl)
theorem dX0_may_9 : decode cX0_may 9 = .ok (.iload_n 2, 1) := dk_28 (dk_at dksX0_may_0 9 rfl rfl)
theorem dX0_may_10 : decode cX0_may 10 = .ok (.invokevirtual 132, 3) := dk_182 0 132 (dk_at dksX0_may_0 10 rfl rfl)
theorem dX0_may_13 : decode cX0_may 13 = .ok (.ifCond .eq 20, 3) := dk_153 0 20 (dk_at dksX0_may_0 13 rfl rfl)
theorem dX0_may_16 : decode cX0_may 16 = .ok (.aload_n 0, 1) := dk_42 (dk_at dksX0_may_0 16 rfl rfl)
theorem dX0_may_17 : decode cX0_may 17 = .ok (.iload_n 1, 1) := dk_27 (dk_at dksX0_may_0 17 rfl rfl)
theorem dX0_may_18 : decode cX0_may 18 = .ok (.iload_n 2, 1) := dk_28 (dk_at dksX0_may_0 18 rfl rfl)
theorem dX0_may_19 : decode cX0_may 19 = .ok (.invokevirtual 166, 3) := dk_182 0 166 (dk_at dksX0_may_0 19 rfl rfl)
theorem dX0_may_22 : decode cX0_may 22 = .ok (.ifCond .eq 7, 3) := dk_153 0 7 (dk_at dksX0_may_1 0 rfl rfl)
theorem dX0_may_25 : decode cX0_may 25 = .ok (.iconst 1, 1) := dk_4 (dk_at dksX0_may_1 3 rfl rfl)
theorem dX0_may_26 : decode cX0_may 26 = .ok (.goto 8, 3) := dk_167 0 8 (dk_at dksX0_may_1 4 rfl rfl)
theorem dX0_may_29 : decode cX0_may 29 = .ok (.iconst 0, 1) := dk_3 (dk_at dksX0_may_1 7 rfl rfl)
theorem dX0_may_30 : decode cX0_may 30 = .ok (.goto 4, 3) := dk_167 0 4 (dk_at dksX0_may_1 8 rfl rfl)
theorem dX0_may_33 : decode cX0_may 33 = .ok (.iconst (-1), 1) := dk_2 (dk_at dksX0_may_1 11 rfl rfl)
theorem dX0_may_34 : decode cX0_may 34 = .ok (.ireturn, 1) := dk_172 (dk_at dksX0_may_1 12 rfl rfl)
abbrev cX0_stands : ByteArray := prog_1_method_15_code
def yX0_stands : MethodName := ⟨RX0, "stands", "(II)Z"⟩
def dkwX0_stands_0 : List UInt8 := [42, 182, 0, 163, 42, 180, 0, 35, 27, 50, 28, 46, 16, 250, 160, 0, 7, 4, 167, 0, 4, 3, 172]
abbrev dktX0_stands_0 : List UInt8 := dkwX0_stands_0 ++ []
theorem dksX0_stands_0 : cX0_stands.data.toList.drop 0 = dktX0_stands_0 := by decide +kernel
theorem dX0_stands_0 : decode cX0_stands 0 = .ok (.aload_n 0, 1) := dk_42 (dk_at dksX0_stands_0 0 rfl rfl)
theorem dX0_stands_1 : decode cX0_stands 1 = .ok (.invokevirtual 163, 3) := dk_182 0 163 (dk_at dksX0_stands_0 1 rfl rfl)
theorem dX0_stands_4 : decode cX0_stands 4 = .ok (.aload_n 0, 1) := dk_42 (dk_at dksX0_stands_0 4 rfl rfl)
theorem dX0_stands_5 : decode cX0_stands 5 = .ok (.getfield 35, 3) := dk_180 0 35 (dk_at dksX0_stands_0 5 rfl rfl)
theorem dX0_stands_8 : decode cX0_stands 8 = .ok (.iload_n 1, 1) := dk_27 (dk_at dksX0_stands_0 8 rfl rfl)
theorem dX0_stands_9 : decode cX0_stands 9 = .ok (.aaload, 1) := dk_50 (dk_at dksX0_stands_0 9 rfl rfl)
theorem dX0_stands_10 : decode cX0_stands 10 = .ok (.iload_n 2, 1) := dk_28 (dk_at dksX0_stands_0 10 rfl rfl)
theorem dX0_stands_11 : decode cX0_stands 11 = .ok (.iaload, 1) := dk_46 (dk_at dksX0_stands_0 11 rfl rfl)
theorem dX0_stands_12 : decode cX0_stands 12 = .ok (.bipush (-6), 2) := dk_16 250 (dk_at dksX0_stands_0 12 rfl rfl)
theorem dX0_stands_14 : decode cX0_stands 14 = .ok (.if_icmp .ne 7, 3) := dk_160 0 7 (dk_at dksX0_stands_0 14 rfl rfl)
theorem dX0_stands_17 : decode cX0_stands 17 = .ok (.iconst 1, 1) := dk_4 (dk_at dksX0_stands_0 17 rfl rfl)
theorem dX0_stands_18 : decode cX0_stands 18 = .ok (.goto 4, 3) := dk_167 0 4 (dk_at dksX0_stands_0 18 rfl rfl)
theorem dX0_stands_21 : decode cX0_stands 21 = .ok (.iconst 0, 1) := dk_3 (dk_at dksX0_stands_0 21 rfl rfl)
theorem dX0_stands_22 : decode cX0_stands 22 = .ok (.ireturn, 1) := dk_172 (dk_at dksX0_stands_0 22 rfl rfl)
abbrev cX0_findFalls : ByteArray := prog_1_method_14_code
def yX0_findFalls : MethodName := ⟨RX0, "findFalls", "()V"⟩
def dkwX0_findFalls_7 : List UInt8 := [181, 0, 126, 177]
abbrev dktX0_findFalls_7 : List UInt8 := dkwX0_findFalls_7 ++ []
def dkwX0_findFalls_6 : List UInt8 := [4, 60, 132, 4, 1, 167, 255, 207, 132, 3, 1, 167, 255, 190, 132, 2, 1, 167, 255, 176, 42, 4]
abbrev dktX0_findFalls_6 : List UInt8 := dkwX0_findFalls_6 ++ dktX0_findFalls_7
def dkwX0_findFalls_5 : List UInt8 := [160, 0, 26, 42, 29, 21, 4, 28, 182, 0, 159, 153, 0, 15, 42, 180, 0, 35, 29, 50, 21, 4, 28, 79]
abbrev dktX0_findFalls_5 : List UInt8 := dkwX0_findFalls_5 ++ dktX0_findFalls_6
def dkwX0_findFalls_4 : List UInt8 := [54, 4, 21, 4, 42, 180, 0, 94, 162, 0, 46, 42, 180, 0, 35, 29, 50, 21, 4, 46, 16, 250]
abbrev dktX0_findFalls_4 : List UInt8 := dkwX0_findFalls_4 ++ dktX0_findFalls_5
def dkwX0_findFalls_3 : List UInt8 := [167, 255, 196, 4, 60, 4, 61, 27, 153, 0, 82, 3, 60, 3, 62, 29, 42, 180, 0, 94, 162, 0, 64, 3]
abbrev dktX0_findFalls_3 : List UInt8 := dkwX0_findFalls_3 ++ dktX0_findFalls_4
def dkwX0_findFalls_2 : List UInt8 := [28, 50, 182, 0, 155, 153, 0, 7, 3, 167, 0, 5, 16, 250, 79, 132, 2, 1, 167, 255, 212, 132, 1, 1]
abbrev dktX0_findFalls_2 : List UInt8 := dkwX0_findFalls_2 ++ dktX0_findFalls_3
def dkwX0_findFalls_1 : List UInt8 := [180, 0, 94, 162, 0, 42, 42, 180, 0, 35, 27, 50, 28, 42, 42, 180, 0, 11, 27, 50, 42, 180, 0, 11]
abbrev dktX0_findFalls_1 : List UInt8 := dkwX0_findFalls_1 ++ dktX0_findFalls_2
def dkwX0_findFalls_0 : List UInt8 := [42, 180, 0, 126, 153, 0, 4, 177, 3, 60, 27, 42, 180, 0, 94, 162, 0, 58, 3, 61, 28, 42]
abbrev dktX0_findFalls_0 : List UInt8 := dkwX0_findFalls_0 ++ dktX0_findFalls_1
theorem dksX0_findFalls_0 : cX0_findFalls.data.toList.drop 0 = dktX0_findFalls_0 := by decide +kernel
theorem dksX0_findFalls_1 : cX0_findFalls.data.toList.drop 22 = dktX0_findFalls_1 := dk_seg dksX0_findFalls_0 22 rfl rfl
theorem dksX0_findFalls_2 : cX0_findFalls.data.toList.drop 46 = dktX0_findFalls_2 := dk_seg dksX0_findFalls_1 24 rfl rfl
theorem dksX0_findFalls_3 : cX0_findFalls.data.toList.drop 70 = dktX0_findFalls_3 := dk_seg dksX0_findFalls_2 24 rfl rfl
theorem dksX0_findFalls_4 : cX0_findFalls.data.toList.drop 94 = dktX0_findFalls_4 := dk_seg dksX0_findFalls_3 24 rfl rfl
theorem dksX0_findFalls_5 : cX0_findFalls.data.toList.drop 116 = dktX0_findFalls_5 := dk_seg dksX0_findFalls_4 22 rfl rfl
theorem dksX0_findFalls_6 : cX0_findFalls.data.toList.drop 140 = dktX0_findFalls_6 := dk_seg dksX0_findFalls_5 24 rfl rfl
theorem dksX0_findFalls_7 : cX0_findFalls.data.toList.drop 162 = dktX0_findFalls_7 := dk_seg dksX0_findFalls_6 22 rfl rfl
theorem dX0_findFalls_0 : decode cX0_findFalls 0 = .ok (.aload_n 0, 1) := dk_42 (dk_at dksX0_findFalls_0 0 rfl rfl)
theorem dX0_findFalls_1 : decode cX0_findFalls 1 = .ok (.getfield 126, 3) := dk_180 0 126 (dk_at dksX0_findFalls_0 1 rfl rfl)
theorem dX0_findFalls_4 : decode cX0_findFalls 4 = .ok (.ifCond .eq 4, 3) := dk_153 0 4 (dk_at dksX0_findFalls_0 4 rfl rfl)
theorem dX0_findFalls_7 : decode cX0_findFalls 7 = .ok (.return_, 1) := dk_177 (dk_at dksX0_findFalls_0 7 rfl rfl)
theorem dX0_findFalls_8 : decode cX0_findFalls 8 = .ok (.iconst 0, 1) := dk_3 (dk_at dksX0_findFalls_0 8 rfl rfl)
theorem dX0_findFalls_9 : decode cX0_findFalls 9 = .ok (.istore_n 1, 1) := dk_60 (dk_at dksX0_findFalls_0 9 rfl rfl)
theorem dX0_findFalls_10 : decode cX0_findFalls 10 = .ok (.iload_n 1, 1) := dk_27 (dk_at dksX0_findFalls_0 10 rfl rfl)
theorem dX0_findFalls_11 : decode cX0_findFalls 11 = .ok (.aload_n 0, 1) := dk_42 (dk_at dksX0_findFalls_0 11 rfl rfl)
theorem dX0_findFalls_12 : decode cX0_findFalls 12 = .ok (.getfield 94, 3) := dk_180 0 94 (dk_at dksX0_findFalls_0 12 rfl rfl)
theorem dX0_findFalls_15 : decode cX0_findFalls 15 = .ok (.if_icmp .ge 58, 3) := dk_162 0 58 (dk_at dksX0_findFalls_0 15 rfl rfl)
theorem dX0_findFalls_18 : decode cX0_findFalls 18 = .ok (.iconst 0, 1) := dk_3 (dk_at dksX0_findFalls_0 18 rfl rfl)
theorem dX0_findFalls_19 : decode cX0_findFalls 19 = .ok (.istore_n 2, 1) := dk_61 (dk_at dksX0_findFalls_0 19 rfl rfl)
theorem dX0_findFalls_20 : decode cX0_findFalls 20 = .ok (.iload_n 2, 1) := dk_28 (dk_at dksX0_findFalls_0 20 rfl rfl)
theorem dX0_findFalls_21 : decode cX0_findFalls 21 = .ok (.aload_n 0, 1) := dk_42 (dk_at dksX0_findFalls_0 21 rfl rfl)
theorem dX0_findFalls_22 : decode cX0_findFalls 22 = .ok (.getfield 94, 3) := dk_180 0 94 (dk_at dksX0_findFalls_1 0 rfl rfl)
theorem dX0_findFalls_25 : decode cX0_findFalls 25 = .ok (.if_icmp .ge 42, 3) := dk_162 0 42 (dk_at dksX0_findFalls_1 3 rfl rfl)
theorem dX0_findFalls_28 : decode cX0_findFalls 28 = .ok (.aload_n 0, 1) := dk_42 (dk_at dksX0_findFalls_1 6 rfl rfl)
theorem dX0_findFalls_29 : decode cX0_findFalls 29 = .ok (.getfield 35, 3) := dk_180 0 35 (dk_at dksX0_findFalls_1 7 rfl rfl)
theorem dX0_findFalls_32 : decode cX0_findFalls 32 = .ok (.iload_n 1, 1) := dk_27 (dk_at dksX0_findFalls_1 10 rfl rfl)
theorem dX0_findFalls_33 : decode cX0_findFalls 33 = .ok (.aaload, 1) := dk_50 (dk_at dksX0_findFalls_1 11 rfl rfl)
theorem dX0_findFalls_34 : decode cX0_findFalls 34 = .ok (.iload_n 2, 1) := dk_28 (dk_at dksX0_findFalls_1 12 rfl rfl)
theorem dX0_findFalls_35 : decode cX0_findFalls 35 = .ok (.aload_n 0, 1) := dk_42 (dk_at dksX0_findFalls_1 13 rfl rfl)
theorem dX0_findFalls_36 : decode cX0_findFalls 36 = .ok (.aload_n 0, 1) := dk_42 (dk_at dksX0_findFalls_1 14 rfl rfl)
theorem dX0_findFalls_37 : decode cX0_findFalls 37 = .ok (.getfield 11, 3) := dk_180 0 11 (dk_at dksX0_findFalls_1 15 rfl rfl)
theorem dX0_findFalls_40 : decode cX0_findFalls 40 = .ok (.iload_n 1, 1) := dk_27 (dk_at dksX0_findFalls_1 18 rfl rfl)
theorem dX0_findFalls_41 : decode cX0_findFalls 41 = .ok (.aaload, 1) := dk_50 (dk_at dksX0_findFalls_1 19 rfl rfl)
theorem dX0_findFalls_42 : decode cX0_findFalls 42 = .ok (.aload_n 0, 1) := dk_42 (dk_at dksX0_findFalls_1 20 rfl rfl)
theorem dX0_findFalls_43 : decode cX0_findFalls 43 = .ok (.getfield 11, 3) := dk_180 0 11 (dk_at dksX0_findFalls_1 21 rfl rfl)
theorem dX0_findFalls_46 : decode cX0_findFalls 46 = .ok (.iload_n 2, 1) := dk_28 (dk_at dksX0_findFalls_2 0 rfl rfl)
theorem dX0_findFalls_47 : decode cX0_findFalls 47 = .ok (.aaload, 1) := dk_50 (dk_at dksX0_findFalls_2 1 rfl rfl)
theorem dX0_findFalls_48 : decode cX0_findFalls 48 = .ok (.invokevirtual 155, 3) := dk_182 0 155 (dk_at dksX0_findFalls_2 2 rfl rfl)
theorem dX0_findFalls_51 : decode cX0_findFalls 51 = .ok (.ifCond .eq 7, 3) := dk_153 0 7 (dk_at dksX0_findFalls_2 5 rfl rfl)
theorem dX0_findFalls_54 : decode cX0_findFalls 54 = .ok (.iconst 0, 1) := dk_3 (dk_at dksX0_findFalls_2 8 rfl rfl)
theorem dX0_findFalls_55 : decode cX0_findFalls 55 = .ok (.goto 5, 3) := dk_167 0 5 (dk_at dksX0_findFalls_2 9 rfl rfl)
theorem dX0_findFalls_58 : decode cX0_findFalls 58 = .ok (.bipush (-6), 2) := dk_16 250 (dk_at dksX0_findFalls_2 12 rfl rfl)
theorem dX0_findFalls_60 : decode cX0_findFalls 60 = .ok (.iastore, 1) := dk_79 (dk_at dksX0_findFalls_2 14 rfl rfl)
theorem dX0_findFalls_61 : decode cX0_findFalls 61 = .ok (.iinc 2 1, 3) := dk_132 2 1 (dk_at dksX0_findFalls_2 15 rfl rfl)
theorem dX0_findFalls_64 : decode cX0_findFalls 64 = .ok (.goto (-44), 3) := dk_167 255 212 (dk_at dksX0_findFalls_2 18 rfl rfl)
theorem dX0_findFalls_67 : decode cX0_findFalls 67 = .ok (.iinc 1 1, 3) := dk_132 1 1 (dk_at dksX0_findFalls_2 21 rfl rfl)
theorem dX0_findFalls_70 : decode cX0_findFalls 70 = .ok (.goto (-60), 3) := dk_167 255 196 (dk_at dksX0_findFalls_3 0 rfl rfl)
theorem dX0_findFalls_73 : decode cX0_findFalls 73 = .ok (.iconst 1, 1) := dk_4 (dk_at dksX0_findFalls_3 3 rfl rfl)
theorem dX0_findFalls_74 : decode cX0_findFalls 74 = .ok (.istore_n 1, 1) := dk_60 (dk_at dksX0_findFalls_3 4 rfl rfl)
theorem dX0_findFalls_75 : decode cX0_findFalls 75 = .ok (.iconst 1, 1) := dk_4 (dk_at dksX0_findFalls_3 5 rfl rfl)
theorem dX0_findFalls_76 : decode cX0_findFalls 76 = .ok (.istore_n 2, 1) := dk_61 (dk_at dksX0_findFalls_3 6 rfl rfl)
theorem dX0_findFalls_77 : decode cX0_findFalls 77 = .ok (.iload_n 1, 1) := dk_27 (dk_at dksX0_findFalls_3 7 rfl rfl)
theorem dX0_findFalls_78 : decode cX0_findFalls 78 = .ok (.ifCond .eq 82, 3) := dk_153 0 82 (dk_at dksX0_findFalls_3 8 rfl rfl)
theorem dX0_findFalls_81 : decode cX0_findFalls 81 = .ok (.iconst 0, 1) := dk_3 (dk_at dksX0_findFalls_3 11 rfl rfl)
theorem dX0_findFalls_82 : decode cX0_findFalls 82 = .ok (.istore_n 1, 1) := dk_60 (dk_at dksX0_findFalls_3 12 rfl rfl)
theorem dX0_findFalls_83 : decode cX0_findFalls 83 = .ok (.iconst 0, 1) := dk_3 (dk_at dksX0_findFalls_3 13 rfl rfl)
theorem dX0_findFalls_84 : decode cX0_findFalls 84 = .ok (.istore_n 3, 1) := dk_62 (dk_at dksX0_findFalls_3 14 rfl rfl)
theorem dX0_findFalls_85 : decode cX0_findFalls 85 = .ok (.iload_n 3, 1) := dk_29 (dk_at dksX0_findFalls_3 15 rfl rfl)
theorem dX0_findFalls_86 : decode cX0_findFalls 86 = .ok (.aload_n 0, 1) := dk_42 (dk_at dksX0_findFalls_3 16 rfl rfl)
theorem dX0_findFalls_87 : decode cX0_findFalls 87 = .ok (.getfield 94, 3) := dk_180 0 94 (dk_at dksX0_findFalls_3 17 rfl rfl)
theorem dX0_findFalls_90 : decode cX0_findFalls 90 = .ok (.if_icmp .ge 64, 3) := dk_162 0 64 (dk_at dksX0_findFalls_3 20 rfl rfl)
theorem dX0_findFalls_93 : decode cX0_findFalls 93 = .ok (.iconst 0, 1) := dk_3 (dk_at dksX0_findFalls_3 23 rfl rfl)
theorem dX0_findFalls_94 : decode cX0_findFalls 94 = .ok (.istore 4, 2) := dk_54 4 (dk_at dksX0_findFalls_4 0 rfl rfl)
theorem dX0_findFalls_96 : decode cX0_findFalls 96 = .ok (.iload 4, 2) := dk_21 4 (dk_at dksX0_findFalls_4 2 rfl rfl)
theorem dX0_findFalls_98 : decode cX0_findFalls 98 = .ok (.aload_n 0, 1) := dk_42 (dk_at dksX0_findFalls_4 4 rfl rfl)
theorem dX0_findFalls_99 : decode cX0_findFalls 99 = .ok (.getfield 94, 3) := dk_180 0 94 (dk_at dksX0_findFalls_4 5 rfl rfl)
theorem dX0_findFalls_102 : decode cX0_findFalls 102 = .ok (.if_icmp .ge 46, 3) := dk_162 0 46 (dk_at dksX0_findFalls_4 8 rfl rfl)
theorem dX0_findFalls_105 : decode cX0_findFalls 105 = .ok (.aload_n 0, 1) := dk_42 (dk_at dksX0_findFalls_4 11 rfl rfl)
theorem dX0_findFalls_106 : decode cX0_findFalls 106 = .ok (.getfield 35, 3) := dk_180 0 35 (dk_at dksX0_findFalls_4 12 rfl rfl)
theorem dX0_findFalls_109 : decode cX0_findFalls 109 = .ok (.iload_n 3, 1) := dk_29 (dk_at dksX0_findFalls_4 15 rfl rfl)
theorem dX0_findFalls_110 : decode cX0_findFalls 110 = .ok (.aaload, 1) := dk_50 (dk_at dksX0_findFalls_4 16 rfl rfl)
theorem dX0_findFalls_111 : decode cX0_findFalls 111 = .ok (.iload 4, 2) := dk_21 4 (dk_at dksX0_findFalls_4 17 rfl rfl)
theorem dX0_findFalls_113 : decode cX0_findFalls 113 = .ok (.iaload, 1) := dk_46 (dk_at dksX0_findFalls_4 19 rfl rfl)
theorem dX0_findFalls_114 : decode cX0_findFalls 114 = .ok (.bipush (-6), 2) := dk_16 250 (dk_at dksX0_findFalls_4 20 rfl rfl)
theorem dX0_findFalls_116 : decode cX0_findFalls 116 = .ok (.if_icmp .ne 26, 3) := dk_160 0 26 (dk_at dksX0_findFalls_5 0 rfl rfl)
theorem dX0_findFalls_119 : decode cX0_findFalls 119 = .ok (.aload_n 0, 1) := dk_42 (dk_at dksX0_findFalls_5 3 rfl rfl)
theorem dX0_findFalls_120 : decode cX0_findFalls 120 = .ok (.iload_n 3, 1) := dk_29 (dk_at dksX0_findFalls_5 4 rfl rfl)
theorem dX0_findFalls_121 : decode cX0_findFalls 121 = .ok (.iload 4, 2) := dk_21 4 (dk_at dksX0_findFalls_5 5 rfl rfl)
theorem dX0_findFalls_123 : decode cX0_findFalls 123 = .ok (.iload_n 2, 1) := dk_28 (dk_at dksX0_findFalls_5 7 rfl rfl)
theorem dX0_findFalls_124 : decode cX0_findFalls 124 = .ok (.invokevirtual 159, 3) := dk_182 0 159 (dk_at dksX0_findFalls_5 8 rfl rfl)
theorem dX0_findFalls_127 : decode cX0_findFalls 127 = .ok (.ifCond .eq 15, 3) := dk_153 0 15 (dk_at dksX0_findFalls_5 11 rfl rfl)
theorem dX0_findFalls_130 : decode cX0_findFalls 130 = .ok (.aload_n 0, 1) := dk_42 (dk_at dksX0_findFalls_5 14 rfl rfl)
theorem dX0_findFalls_131 : decode cX0_findFalls 131 = .ok (.getfield 35, 3) := dk_180 0 35 (dk_at dksX0_findFalls_5 15 rfl rfl)
theorem dX0_findFalls_134 : decode cX0_findFalls 134 = .ok (.iload_n 3, 1) := dk_29 (dk_at dksX0_findFalls_5 18 rfl rfl)
theorem dX0_findFalls_135 : decode cX0_findFalls 135 = .ok (.aaload, 1) := dk_50 (dk_at dksX0_findFalls_5 19 rfl rfl)
theorem dX0_findFalls_136 : decode cX0_findFalls 136 = .ok (.iload 4, 2) := dk_21 4 (dk_at dksX0_findFalls_5 20 rfl rfl)
theorem dX0_findFalls_138 : decode cX0_findFalls 138 = .ok (.iload_n 2, 1) := dk_28 (dk_at dksX0_findFalls_5 22 rfl rfl)
theorem dX0_findFalls_139 : decode cX0_findFalls 139 = .ok (.iastore, 1) := dk_79 (dk_at dksX0_findFalls_5 23 rfl rfl)
theorem dX0_findFalls_140 : decode cX0_findFalls 140 = .ok (.iconst 1, 1) := dk_4 (dk_at dksX0_findFalls_6 0 rfl rfl)
theorem dX0_findFalls_141 : decode cX0_findFalls 141 = .ok (.istore_n 1, 1) := dk_60 (dk_at dksX0_findFalls_6 1 rfl rfl)
theorem dX0_findFalls_142 : decode cX0_findFalls 142 = .ok (.iinc 4 1, 3) := dk_132 4 1 (dk_at dksX0_findFalls_6 2 rfl rfl)
theorem dX0_findFalls_145 : decode cX0_findFalls 145 = .ok (.goto (-49), 3) := dk_167 255 207 (dk_at dksX0_findFalls_6 5 rfl rfl)
theorem dX0_findFalls_148 : decode cX0_findFalls 148 = .ok (.iinc 3 1, 3) := dk_132 3 1 (dk_at dksX0_findFalls_6 8 rfl rfl)
theorem dX0_findFalls_151 : decode cX0_findFalls 151 = .ok (.goto (-66), 3) := dk_167 255 190 (dk_at dksX0_findFalls_6 11 rfl rfl)
theorem dX0_findFalls_154 : decode cX0_findFalls 154 = .ok (.iinc 2 1, 3) := dk_132 2 1 (dk_at dksX0_findFalls_6 14 rfl rfl)
theorem dX0_findFalls_157 : decode cX0_findFalls 157 = .ok (.goto (-80), 3) := dk_167 255 176 (dk_at dksX0_findFalls_6 17 rfl rfl)
theorem dX0_findFalls_160 : decode cX0_findFalls 160 = .ok (.aload_n 0, 1) := dk_42 (dk_at dksX0_findFalls_6 20 rfl rfl)
theorem dX0_findFalls_161 : decode cX0_findFalls 161 = .ok (.iconst 1, 1) := dk_4 (dk_at dksX0_findFalls_6 21 rfl rfl)
theorem dX0_findFalls_162 : decode cX0_findFalls 162 = .ok (.putfield 126, 3) := dk_181 0 126 (dk_at dksX0_findFalls_7 0 rfl rfl)
theorem dX0_findFalls_165 : decode cX0_findFalls 165 = .ok (.return_, 1) := dk_177 (dk_at dksX0_findFalls_7 3 rfl rfl)
abbrev cX0_isUnlike : ByteArray := prog_1_method_11_code
def yX0_isUnlike : MethodName := ⟨RX0, "isUnlike", "(LKindNets$Kind;LKindNets$Kind;)Z"⟩
def dkwX0_isUnlike_3 : List UInt8 := [3, 172]
abbrev dktX0_isUnlike_3 : List UInt8 := dkwX0_isUnlike_3 ++ []
def dkwX0_isUnlike_2 : List UInt8 := [153, 0, 20, 43, 180, 0, 101, 16, 91, 160, 0, 15, 44, 43, 182, 0, 141, 154, 0, 7, 4, 167, 0, 4]
abbrev dktX0_isUnlike_2 : List UInt8 := dkwX0_isUnlike_2 ++ dktX0_isUnlike_3
def dkwX0_isUnlike_1 : List UInt8 := [44, 180, 0, 101, 159, 0, 5, 4, 172, 43, 180, 0, 101, 16, 123, 160, 0, 11, 43, 44, 182, 0, 141]
abbrev dktX0_isUnlike_1 : List UInt8 := dkwX0_isUnlike_1 ++ dktX0_isUnlike_2
def dkwX0_isUnlike_0 : List UInt8 := [43, 180, 0, 101, 16, 33, 159, 0, 12, 44, 180, 0, 101, 16, 46, 160, 0, 5, 3, 172, 43, 180, 0, 101]
abbrev dktX0_isUnlike_0 : List UInt8 := dkwX0_isUnlike_0 ++ dktX0_isUnlike_1
theorem dksX0_isUnlike_0 : cX0_isUnlike.data.toList.drop 0 = dktX0_isUnlike_0 := by decide +kernel
theorem dksX0_isUnlike_1 : cX0_isUnlike.data.toList.drop 24 = dktX0_isUnlike_1 := dk_seg dksX0_isUnlike_0 24 rfl rfl
theorem dksX0_isUnlike_2 : cX0_isUnlike.data.toList.drop 47 = dktX0_isUnlike_2 := dk_seg dksX0_isUnlike_1 23 rfl rfl
theorem dksX0_isUnlike_3 : cX0_isUnlike.data.toList.drop 71 = dktX0_isUnlike_3 := dk_seg dksX0_isUnlike_2 24 rfl rfl
theorem dX0_isUnlike_0 : decode cX0_isUnlike 0 = .ok (.aload_n 1, 1) := dk_43 (dk_at dksX0_isUnlike_0 0 rfl rfl)
theorem dX0_isUnlike_1 : decode cX0_isUnlike 1 = .ok (.getfield 101, 3) := dk_180 0 101 (dk_at dksX0_isUnlike_0 1 rfl rfl)
theorem dX0_isUnlike_4 : decode cX0_isUnlike 4 = .ok (.bipush 33, 2) := dk_16 33 (dk_at dksX0_isUnlike_0 4 rfl rfl)
theorem dX0_isUnlike_6 : decode cX0_isUnlike 6 = .ok (.if_icmp .eq 12, 3) := dk_159 0 12 (dk_at dksX0_isUnlike_0 6 rfl rfl)
theorem dX0_isUnlike_9 : decode cX0_isUnlike 9 = .ok (.aload_n 2, 1) := dk_44 (dk_at dksX0_isUnlike_0 9 rfl rfl)
theorem dX0_isUnlike_10 : decode cX0_isUnlike 10 = .ok (.getfield 101, 3) := dk_180 0 101 (dk_at dksX0_isUnlike_0 10 rfl rfl)
theorem dX0_isUnlike_13 : decode cX0_isUnlike 13 = .ok (.bipush 46, 2) := dk_16 46 (dk_at dksX0_isUnlike_0 13 rfl rfl)
theorem dX0_isUnlike_15 : decode cX0_isUnlike 15 = .ok (.if_icmp .ne 5, 3) := dk_160 0 5 (dk_at dksX0_isUnlike_0 15 rfl rfl)
theorem dX0_isUnlike_18 : decode cX0_isUnlike 18 = .ok (.iconst 0, 1) := dk_3 (dk_at dksX0_isUnlike_0 18 rfl rfl)
theorem dX0_isUnlike_19 : decode cX0_isUnlike 19 = .ok (.ireturn, 1) := dk_172 (dk_at dksX0_isUnlike_0 19 rfl rfl)
theorem dX0_isUnlike_20 : decode cX0_isUnlike 20 = .ok (.aload_n 1, 1) := dk_43 (dk_at dksX0_isUnlike_0 20 rfl rfl)
theorem dX0_isUnlike_21 : decode cX0_isUnlike 21 = .ok (.getfield 101, 3) := dk_180 0 101 (dk_at dksX0_isUnlike_0 21 rfl rfl)
theorem dX0_isUnlike_24 : decode cX0_isUnlike 24 = .ok (.aload_n 2, 1) := dk_44 (dk_at dksX0_isUnlike_1 0 rfl rfl)
theorem dX0_isUnlike_25 : decode cX0_isUnlike 25 = .ok (.getfield 101, 3) := dk_180 0 101 (dk_at dksX0_isUnlike_1 1 rfl rfl)
theorem dX0_isUnlike_28 : decode cX0_isUnlike 28 = .ok (.if_icmp .eq 5, 3) := dk_159 0 5 (dk_at dksX0_isUnlike_1 4 rfl rfl)
theorem dX0_isUnlike_31 : decode cX0_isUnlike 31 = .ok (.iconst 1, 1) := dk_4 (dk_at dksX0_isUnlike_1 7 rfl rfl)
theorem dX0_isUnlike_32 : decode cX0_isUnlike 32 = .ok (.ireturn, 1) := dk_172 (dk_at dksX0_isUnlike_1 8 rfl rfl)
theorem dX0_isUnlike_33 : decode cX0_isUnlike 33 = .ok (.aload_n 1, 1) := dk_43 (dk_at dksX0_isUnlike_1 9 rfl rfl)
theorem dX0_isUnlike_34 : decode cX0_isUnlike 34 = .ok (.getfield 101, 3) := dk_180 0 101 (dk_at dksX0_isUnlike_1 10 rfl rfl)
theorem dX0_isUnlike_37 : decode cX0_isUnlike 37 = .ok (.bipush 123, 2) := dk_16 123 (dk_at dksX0_isUnlike_1 13 rfl rfl)
theorem dX0_isUnlike_39 : decode cX0_isUnlike 39 = .ok (.if_icmp .ne 11, 3) := dk_160 0 11 (dk_at dksX0_isUnlike_1 15 rfl rfl)
theorem dX0_isUnlike_42 : decode cX0_isUnlike 42 = .ok (.aload_n 1, 1) := dk_43 (dk_at dksX0_isUnlike_1 18 rfl rfl)
theorem dX0_isUnlike_43 : decode cX0_isUnlike 43 = .ok (.aload_n 2, 1) := dk_44 (dk_at dksX0_isUnlike_1 19 rfl rfl)
theorem dX0_isUnlike_44 : decode cX0_isUnlike 44 = .ok (.invokevirtual 141, 3) := dk_182 0 141 (dk_at dksX0_isUnlike_1 20 rfl rfl)
theorem dX0_isUnlike_47 : decode cX0_isUnlike 47 = .ok (.ifCond .eq 20, 3) := dk_153 0 20 (dk_at dksX0_isUnlike_2 0 rfl rfl)
theorem dX0_isUnlike_50 : decode cX0_isUnlike 50 = .ok (.aload_n 1, 1) := dk_43 (dk_at dksX0_isUnlike_2 3 rfl rfl)
theorem dX0_isUnlike_51 : decode cX0_isUnlike 51 = .ok (.getfield 101, 3) := dk_180 0 101 (dk_at dksX0_isUnlike_2 4 rfl rfl)
theorem dX0_isUnlike_54 : decode cX0_isUnlike 54 = .ok (.bipush 91, 2) := dk_16 91 (dk_at dksX0_isUnlike_2 7 rfl rfl)
theorem dX0_isUnlike_56 : decode cX0_isUnlike 56 = .ok (.if_icmp .ne 15, 3) := dk_160 0 15 (dk_at dksX0_isUnlike_2 9 rfl rfl)
theorem dX0_isUnlike_59 : decode cX0_isUnlike 59 = .ok (.aload_n 2, 1) := dk_44 (dk_at dksX0_isUnlike_2 12 rfl rfl)
theorem dX0_isUnlike_60 : decode cX0_isUnlike 60 = .ok (.aload_n 1, 1) := dk_43 (dk_at dksX0_isUnlike_2 13 rfl rfl)
theorem dX0_isUnlike_61 : decode cX0_isUnlike 61 = .ok (.invokevirtual 141, 3) := dk_182 0 141 (dk_at dksX0_isUnlike_2 14 rfl rfl)
theorem dX0_isUnlike_64 : decode cX0_isUnlike 64 = .ok (.ifCond .ne 7, 3) := dk_154 0 7 (dk_at dksX0_isUnlike_2 17 rfl rfl)
theorem dX0_isUnlike_67 : decode cX0_isUnlike 67 = .ok (.iconst 1, 1) := dk_4 (dk_at dksX0_isUnlike_2 20 rfl rfl)
theorem dX0_isUnlike_68 : decode cX0_isUnlike 68 = .ok (.goto 4, 3) := dk_167 0 4 (dk_at dksX0_isUnlike_2 21 rfl rfl)
theorem dX0_isUnlike_71 : decode cX0_isUnlike 71 = .ok (.iconst 0, 1) := dk_3 (dk_at dksX0_isUnlike_3 0 rfl rfl)
theorem dX0_isUnlike_72 : decode cX0_isUnlike 72 = .ok (.ireturn, 1) := dk_172 (dk_at dksX0_isUnlike_3 1 rfl rfl)
abbrev cX0_falls : ByteArray := prog_1_method_13_code
def yX0_falls : MethodName := ⟨RX0, "falls", "(III)Z"⟩
def dkwX0_falls_2 : List UInt8 := [101, 184, 0, 72, 153, 0, 5, 4, 172, 132, 4, 1, 167, 255, 201, 3, 172]
abbrev dktX0_falls_2 : List UInt8 := dkwX0_falls_2 ++ []
def dkwX0_falls_1 : List UInt8 := [155, 0, 33, 42, 180, 0, 35, 21, 5, 16, 100, 108, 50, 21, 5, 16, 100, 112, 46, 133, 9, 29, 133, 10]
abbrev dktX0_falls_1 : List UInt8 := dkwX0_falls_1 ++ dktX0_falls_2
def dkwX0_falls_0 : List UInt8 := [3, 54, 4, 21, 4, 16, 10, 163, 0, 54, 42, 27, 28, 21, 4, 182, 0, 151, 54, 5, 21, 5]
abbrev dktX0_falls_0 : List UInt8 := dkwX0_falls_0 ++ dktX0_falls_1
theorem dksX0_falls_0 : cX0_falls.data.toList.drop 0 = dktX0_falls_0 := by decide +kernel
theorem dksX0_falls_1 : cX0_falls.data.toList.drop 22 = dktX0_falls_1 := dk_seg dksX0_falls_0 22 rfl rfl
theorem dksX0_falls_2 : cX0_falls.data.toList.drop 46 = dktX0_falls_2 := dk_seg dksX0_falls_1 24 rfl rfl
theorem dX0_falls_0 : decode cX0_falls 0 = .ok (.iconst 0, 1) := dk_3 (dk_at dksX0_falls_0 0 rfl rfl)
theorem dX0_falls_1 : decode cX0_falls 1 = .ok (.istore 4, 2) := dk_54 4 (dk_at dksX0_falls_0 1 rfl rfl)
theorem dX0_falls_3 : decode cX0_falls 3 = .ok (.iload 4, 2) := dk_21 4 (dk_at dksX0_falls_0 3 rfl rfl)
theorem dX0_falls_5 : decode cX0_falls 5 = .ok (.bipush 10, 2) := dk_16 10 (dk_at dksX0_falls_0 5 rfl rfl)
theorem dX0_falls_7 : decode cX0_falls 7 = .ok (.if_icmp .gt 54, 3) := dk_163 0 54 (dk_at dksX0_falls_0 7 rfl rfl)
theorem dX0_falls_10 : decode cX0_falls 10 = .ok (.aload_n 0, 1) := dk_42 (dk_at dksX0_falls_0 10 rfl rfl)
theorem dX0_falls_11 : decode cX0_falls 11 = .ok (.iload_n 1, 1) := dk_27 (dk_at dksX0_falls_0 11 rfl rfl)
theorem dX0_falls_12 : decode cX0_falls 12 = .ok (.iload_n 2, 1) := dk_28 (dk_at dksX0_falls_0 12 rfl rfl)
theorem dX0_falls_13 : decode cX0_falls 13 = .ok (.iload 4, 2) := dk_21 4 (dk_at dksX0_falls_0 13 rfl rfl)
theorem dX0_falls_15 : decode cX0_falls 15 = .ok (.invokevirtual 151, 3) := dk_182 0 151 (dk_at dksX0_falls_0 15 rfl rfl)
theorem dX0_falls_18 : decode cX0_falls 18 = .ok (.istore 5, 2) := dk_54 5 (dk_at dksX0_falls_0 18 rfl rfl)
theorem dX0_falls_20 : decode cX0_falls 20 = .ok (.iload 5, 2) := dk_21 5 (dk_at dksX0_falls_0 20 rfl rfl)
theorem dX0_falls_22 : decode cX0_falls 22 = .ok (.ifCond .lt 33, 3) := dk_155 0 33 (dk_at dksX0_falls_1 0 rfl rfl)
theorem dX0_falls_25 : decode cX0_falls 25 = .ok (.aload_n 0, 1) := dk_42 (dk_at dksX0_falls_1 3 rfl rfl)
theorem dX0_falls_26 : decode cX0_falls 26 = .ok (.getfield 35, 3) := dk_180 0 35 (dk_at dksX0_falls_1 4 rfl rfl)
theorem dX0_falls_29 : decode cX0_falls 29 = .ok (.iload 5, 2) := dk_21 5 (dk_at dksX0_falls_1 7 rfl rfl)
theorem dX0_falls_31 : decode cX0_falls 31 = .ok (.bipush 100, 2) := dk_16 100 (dk_at dksX0_falls_1 9 rfl rfl)
theorem dX0_falls_33 : decode cX0_falls 33 = .ok (.idiv, 1) := dk_108 (dk_at dksX0_falls_1 11 rfl rfl)
theorem dX0_falls_34 : decode cX0_falls 34 = .ok (.aaload, 1) := dk_50 (dk_at dksX0_falls_1 12 rfl rfl)
theorem dX0_falls_35 : decode cX0_falls 35 = .ok (.iload 5, 2) := dk_21 5 (dk_at dksX0_falls_1 13 rfl rfl)
theorem dX0_falls_37 : decode cX0_falls 37 = .ok (.bipush 100, 2) := dk_16 100 (dk_at dksX0_falls_1 15 rfl rfl)
theorem dX0_falls_39 : decode cX0_falls 39 = .ok (.irem, 1) := dk_112 (dk_at dksX0_falls_1 17 rfl rfl)
theorem dX0_falls_40 : decode cX0_falls 40 = .ok (.iaload, 1) := dk_46 (dk_at dksX0_falls_1 18 rfl rfl)
theorem dX0_falls_41 : decode cX0_falls 41 = .ok (.i2l, 1) := dk_133 (dk_at dksX0_falls_1 19 rfl rfl)
theorem dX0_falls_42 : decode cX0_falls 42 = .ok (.lconst 0, 1) := dk_9 (dk_at dksX0_falls_1 20 rfl rfl)
theorem dX0_falls_43 : decode cX0_falls 43 = .ok (.iload_n 3, 1) := dk_29 (dk_at dksX0_falls_1 21 rfl rfl)
theorem dX0_falls_44 : decode cX0_falls 44 = .ok (.i2l, 1) := dk_133 (dk_at dksX0_falls_1 22 rfl rfl)
theorem dX0_falls_45 : decode cX0_falls 45 = .ok (.lconst 1, 1) := dk_10 (dk_at dksX0_falls_1 23 rfl rfl)
theorem dX0_falls_46 : decode cX0_falls 46 = .ok (.lsub, 1) := dk_101 (dk_at dksX0_falls_2 0 rfl rfl)
theorem dX0_falls_47 : decode cX0_falls 47 = .ok (.invokestatic 72, 3) := dk_184 0 72 (dk_at dksX0_falls_2 1 rfl rfl)
theorem dX0_falls_50 : decode cX0_falls 50 = .ok (.ifCond .eq 5, 3) := dk_153 0 5 (dk_at dksX0_falls_2 4 rfl rfl)
theorem dX0_falls_53 : decode cX0_falls 53 = .ok (.iconst 1, 1) := dk_4 (dk_at dksX0_falls_2 7 rfl rfl)
theorem dX0_falls_54 : decode cX0_falls 54 = .ok (.ireturn, 1) := dk_172 (dk_at dksX0_falls_2 8 rfl rfl)
theorem dX0_falls_55 : decode cX0_falls 55 = .ok (.iinc 4 1, 3) := dk_132 4 1 (dk_at dksX0_falls_2 9 rfl rfl)
theorem dX0_falls_58 : decode cX0_falls 58 = .ok (.goto (-55), 3) := dk_167 255 201 (dk_at dksX0_falls_2 12 rfl rfl)
theorem dX0_falls_61 : decode cX0_falls 61 = .ok (.iconst 0, 1) := dk_3 (dk_at dksX0_falls_2 15 rfl rfl)
theorem dX0_falls_62 : decode cX0_falls 62 = .ok (.ireturn, 1) := dk_172 (dk_at dksX0_falls_2 16 rfl rfl)
abbrev cX0_stepTo : ByteArray := prog_1_method_12_code
def yX0_stepTo : MethodName := ⟨RX0, "stepTo", "(III)I"⟩
def dkwX0_stepTo_10 : List UInt8 := [180, 0, 113, 29, 46, 96, 167, 0, 5, 16, 250, 172]
abbrev dktX0_stepTo_10 : List UInt8 := dkwX0_stepTo_10 ++ []
def dkwX0_stepTo_9 : List UInt8 := [153, 0, 33, 25, 5, 29, 182, 0, 148, 153, 0, 24, 16, 100, 25, 4, 180, 0, 113, 29, 46, 104, 25, 5]
abbrev dktX0_stepTo_9 : List UInt8 := dkwX0_stepTo_9 ++ dktX0_stepTo_10
def dkwX0_stepTo_8 : List UInt8 := [46, 96, 167, 0, 5, 16, 250, 172, 25, 4, 182, 0, 145, 153, 0, 42, 25, 4, 29, 182, 0, 148]
abbrev dktX0_stepTo_8 : List UInt8 := dkwX0_stepTo_8 ++ dktX0_stepTo_9
def dkwX0_stepTo_7 : List UInt8 := [180, 0, 101, 16, 62, 160, 0, 24, 16, 100, 25, 4, 180, 0, 113, 4, 46, 104, 25, 5, 180, 0, 113, 4]
abbrev dktX0_stepTo_7 : List UInt8 := dkwX0_stepTo_7 ++ dktX0_stepTo_8
def dkwX0_stepTo_6 : List UInt8 := [25, 5, 180, 0, 113, 3, 46, 104, 25, 4, 180, 0, 113, 3, 46, 96, 167, 0, 5, 16, 250, 172, 25, 4]
abbrev dktX0_stepTo_6 : List UInt8 := dkwX0_stepTo_6 ++ dktX0_stepTo_7
def dkwX0_stepTo_5 : List UInt8 := [180, 0, 113, 3, 46, 96, 167, 0, 5, 16, 250, 172, 25, 4, 180, 0, 101, 16, 62, 160, 0, 24, 16, 100]
abbrev dktX0_stepTo_5 : List UInt8 := dkwX0_stepTo_5 ++ dktX0_stepTo_6
def dkwX0_stepTo_4 : List UInt8 := [25, 4, 180, 0, 101, 16, 42, 160, 0, 24, 16, 100, 25, 4, 180, 0, 113, 3, 46, 104, 25, 5]
abbrev dktX0_stepTo_4 : List UInt8 := dkwX0_stepTo_4 ++ dktX0_stepTo_5
def dkwX0_stepTo_3 : List UInt8 := [170, 0, 0, 0, 0, 0, 129, 0, 0, 0, 8, 0, 0, 0, 10, 0, 0, 0, 27, 0, 0, 0, 61, 0, 0, 0, 95]
abbrev dktX0_stepTo_3 : List UInt8 := dkwX0_stepTo_3 ++ dktX0_stepTo_4
def dkwX0_stepTo_2 : List UInt8 := [159, 0, 6, 16, 250, 172, 29]
abbrev dktX0_stepTo_2 : List UInt8 := dkwX0_stepTo_2 ++ dktX0_stepTo_3
def dkwX0_stepTo_1 : List UInt8 := [159, 0, 26, 25, 5, 180, 0, 101, 16, 46, 159, 0, 16, 25, 4, 180, 0, 101, 25, 5, 180, 0, 101]
abbrev dktX0_stepTo_1 : List UInt8 := dkwX0_stepTo_1 ++ dktX0_stepTo_2
def dkwX0_stepTo_0 : List UInt8 := [42, 180, 0, 11, 27, 50, 58, 4, 42, 180, 0, 11, 28, 50, 58, 5, 25, 4, 180, 0, 101, 16, 33]
abbrev dktX0_stepTo_0 : List UInt8 := dkwX0_stepTo_0 ++ dktX0_stepTo_1
theorem dksX0_stepTo_0 : cX0_stepTo.data.toList.drop 0 = dktX0_stepTo_0 := by decide +kernel
theorem dksX0_stepTo_1 : cX0_stepTo.data.toList.drop 23 = dktX0_stepTo_1 := dk_seg dksX0_stepTo_0 23 rfl rfl
theorem dksX0_stepTo_2 : cX0_stepTo.data.toList.drop 46 = dktX0_stepTo_2 := dk_seg dksX0_stepTo_1 23 rfl rfl
theorem dksX0_stepTo_3 : cX0_stepTo.data.toList.drop 53 = dktX0_stepTo_3 := dk_seg dksX0_stepTo_2 7 rfl rfl
theorem dksX0_stepTo_4 : cX0_stepTo.data.toList.drop 80 = dktX0_stepTo_4 := dk_seg dksX0_stepTo_3 27 rfl rfl
theorem dksX0_stepTo_5 : cX0_stepTo.data.toList.drop 102 = dktX0_stepTo_5 := dk_seg dksX0_stepTo_4 22 rfl rfl
theorem dksX0_stepTo_6 : cX0_stepTo.data.toList.drop 126 = dktX0_stepTo_6 := dk_seg dksX0_stepTo_5 24 rfl rfl
theorem dksX0_stepTo_7 : cX0_stepTo.data.toList.drop 150 = dktX0_stepTo_7 := dk_seg dksX0_stepTo_6 24 rfl rfl
theorem dksX0_stepTo_8 : cX0_stepTo.data.toList.drop 174 = dktX0_stepTo_8 := dk_seg dksX0_stepTo_7 24 rfl rfl
theorem dksX0_stepTo_9 : cX0_stepTo.data.toList.drop 196 = dktX0_stepTo_9 := dk_seg dksX0_stepTo_8 22 rfl rfl
theorem dksX0_stepTo_10 : cX0_stepTo.data.toList.drop 220 = dktX0_stepTo_10 := dk_seg dksX0_stepTo_9 24 rfl rfl
theorem dX0_stepTo_0 : decode cX0_stepTo 0 = .ok (.aload_n 0, 1) := dk_42 (dk_at dksX0_stepTo_0 0 rfl rfl)
theorem dX0_stepTo_1 : decode cX0_stepTo 1 = .ok (.getfield 11, 3) := dk_180 0 11 (dk_at dksX0_stepTo_0 1 rfl rfl)
theorem dX0_stepTo_4 : decode cX0_stepTo 4 = .ok (.iload_n 1, 1) := dk_27 (dk_at dksX0_stepTo_0 4 rfl rfl)
theorem dX0_stepTo_5 : decode cX0_stepTo 5 = .ok (.aaload, 1) := dk_50 (dk_at dksX0_stepTo_0 5 rfl rfl)
theorem dX0_stepTo_6 : decode cX0_stepTo 6 = .ok (.astore 4, 2) := dk_58 4 (dk_at dksX0_stepTo_0 6 rfl rfl)
theorem dX0_stepTo_8 : decode cX0_stepTo 8 = .ok (.aload_n 0, 1) := dk_42 (dk_at dksX0_stepTo_0 8 rfl rfl)
theorem dX0_stepTo_9 : decode cX0_stepTo 9 = .ok (.getfield 11, 3) := dk_180 0 11 (dk_at dksX0_stepTo_0 9 rfl rfl)
theorem dX0_stepTo_12 : decode cX0_stepTo 12 = .ok (.iload_n 2, 1) := dk_28 (dk_at dksX0_stepTo_0 12 rfl rfl)
theorem dX0_stepTo_13 : decode cX0_stepTo 13 = .ok (.aaload, 1) := dk_50 (dk_at dksX0_stepTo_0 13 rfl rfl)
theorem dX0_stepTo_14 : decode cX0_stepTo 14 = .ok (.astore 5, 2) := dk_58 5 (dk_at dksX0_stepTo_0 14 rfl rfl)
theorem dX0_stepTo_16 : decode cX0_stepTo 16 = .ok (.aload 4, 2) := dk_25 4 (dk_at dksX0_stepTo_0 16 rfl rfl)
theorem dX0_stepTo_18 : decode cX0_stepTo 18 = .ok (.getfield 101, 3) := dk_180 0 101 (dk_at dksX0_stepTo_0 18 rfl rfl)
theorem dX0_stepTo_21 : decode cX0_stepTo 21 = .ok (.bipush 33, 2) := dk_16 33 (dk_at dksX0_stepTo_0 21 rfl rfl)
theorem dX0_stepTo_23 : decode cX0_stepTo 23 = .ok (.if_icmp .eq 26, 3) := dk_159 0 26 (dk_at dksX0_stepTo_1 0 rfl rfl)
theorem dX0_stepTo_26 : decode cX0_stepTo 26 = .ok (.aload 5, 2) := dk_25 5 (dk_at dksX0_stepTo_1 3 rfl rfl)
theorem dX0_stepTo_28 : decode cX0_stepTo 28 = .ok (.getfield 101, 3) := dk_180 0 101 (dk_at dksX0_stepTo_1 5 rfl rfl)
theorem dX0_stepTo_31 : decode cX0_stepTo 31 = .ok (.bipush 46, 2) := dk_16 46 (dk_at dksX0_stepTo_1 8 rfl rfl)
theorem dX0_stepTo_33 : decode cX0_stepTo 33 = .ok (.if_icmp .eq 16, 3) := dk_159 0 16 (dk_at dksX0_stepTo_1 10 rfl rfl)
theorem dX0_stepTo_36 : decode cX0_stepTo 36 = .ok (.aload 4, 2) := dk_25 4 (dk_at dksX0_stepTo_1 13 rfl rfl)
theorem dX0_stepTo_38 : decode cX0_stepTo 38 = .ok (.getfield 101, 3) := dk_180 0 101 (dk_at dksX0_stepTo_1 15 rfl rfl)
theorem dX0_stepTo_41 : decode cX0_stepTo 41 = .ok (.aload 5, 2) := dk_25 5 (dk_at dksX0_stepTo_1 18 rfl rfl)
theorem dX0_stepTo_43 : decode cX0_stepTo 43 = .ok (.getfield 101, 3) := dk_180 0 101 (dk_at dksX0_stepTo_1 20 rfl rfl)
theorem dX0_stepTo_46 : decode cX0_stepTo 46 = .ok (.if_icmp .eq 6, 3) := dk_159 0 6 (dk_at dksX0_stepTo_2 0 rfl rfl)
theorem dX0_stepTo_49 : decode cX0_stepTo 49 = .ok (.bipush (-6), 2) := dk_16 250 (dk_at dksX0_stepTo_2 3 rfl rfl)
theorem dX0_stepTo_51 : decode cX0_stepTo 51 = .ok (.ireturn, 1) := dk_172 (dk_at dksX0_stepTo_2 5 rfl rfl)
theorem dX0_stepTo_52 : decode cX0_stepTo 52 = .ok (.iload_n 3, 1) := dk_29 (dk_at dksX0_stepTo_2 6 rfl rfl)
theorem dX0_stepTo_53 : decode cX0_stepTo 53 = .ok (.tableswitch 129 8 10 #[27, 61, 95], 27) := by decide +kernel
theorem dX0_stepTo_80 : decode cX0_stepTo 80 = .ok (.aload 4, 2) := dk_25 4 (dk_at dksX0_stepTo_4 0 rfl rfl)
theorem dX0_stepTo_82 : decode cX0_stepTo 82 = .ok (.getfield 101, 3) := dk_180 0 101 (dk_at dksX0_stepTo_4 2 rfl rfl)
theorem dX0_stepTo_85 : decode cX0_stepTo 85 = .ok (.bipush 42, 2) := dk_16 42 (dk_at dksX0_stepTo_4 5 rfl rfl)
theorem dX0_stepTo_87 : decode cX0_stepTo 87 = .ok (.if_icmp .ne 24, 3) := dk_160 0 24 (dk_at dksX0_stepTo_4 7 rfl rfl)
theorem dX0_stepTo_90 : decode cX0_stepTo 90 = .ok (.bipush 100, 2) := dk_16 100 (dk_at dksX0_stepTo_4 10 rfl rfl)
theorem dX0_stepTo_92 : decode cX0_stepTo 92 = .ok (.aload 4, 2) := dk_25 4 (dk_at dksX0_stepTo_4 12 rfl rfl)
theorem dX0_stepTo_94 : decode cX0_stepTo 94 = .ok (.getfield 113, 3) := dk_180 0 113 (dk_at dksX0_stepTo_4 14 rfl rfl)
theorem dX0_stepTo_97 : decode cX0_stepTo 97 = .ok (.iconst 0, 1) := dk_3 (dk_at dksX0_stepTo_4 17 rfl rfl)
theorem dX0_stepTo_98 : decode cX0_stepTo 98 = .ok (.iaload, 1) := dk_46 (dk_at dksX0_stepTo_4 18 rfl rfl)
theorem dX0_stepTo_99 : decode cX0_stepTo 99 = .ok (.imul, 1) := dk_104 (dk_at dksX0_stepTo_4 19 rfl rfl)
theorem dX0_stepTo_100 : decode cX0_stepTo 100 = .ok (.aload 5, 2) := dk_25 5 (dk_at dksX0_stepTo_4 20 rfl rfl)
theorem dX0_stepTo_102 : decode cX0_stepTo 102 = .ok (.getfield 113, 3) := dk_180 0 113 (dk_at dksX0_stepTo_5 0 rfl rfl)
theorem dX0_stepTo_105 : decode cX0_stepTo 105 = .ok (.iconst 0, 1) := dk_3 (dk_at dksX0_stepTo_5 3 rfl rfl)
theorem dX0_stepTo_106 : decode cX0_stepTo 106 = .ok (.iaload, 1) := dk_46 (dk_at dksX0_stepTo_5 4 rfl rfl)
theorem dX0_stepTo_107 : decode cX0_stepTo 107 = .ok (.iadd, 1) := dk_96 (dk_at dksX0_stepTo_5 5 rfl rfl)
theorem dX0_stepTo_108 : decode cX0_stepTo 108 = .ok (.goto 5, 3) := dk_167 0 5 (dk_at dksX0_stepTo_5 6 rfl rfl)
theorem dX0_stepTo_111 : decode cX0_stepTo 111 = .ok (.bipush (-6), 2) := dk_16 250 (dk_at dksX0_stepTo_5 9 rfl rfl)
theorem dX0_stepTo_113 : decode cX0_stepTo 113 = .ok (.ireturn, 1) := dk_172 (dk_at dksX0_stepTo_5 11 rfl rfl)
theorem dX0_stepTo_114 : decode cX0_stepTo 114 = .ok (.aload 4, 2) := dk_25 4 (dk_at dksX0_stepTo_5 12 rfl rfl)
theorem dX0_stepTo_116 : decode cX0_stepTo 116 = .ok (.getfield 101, 3) := dk_180 0 101 (dk_at dksX0_stepTo_5 14 rfl rfl)
theorem dX0_stepTo_119 : decode cX0_stepTo 119 = .ok (.bipush 62, 2) := dk_16 62 (dk_at dksX0_stepTo_5 17 rfl rfl)
theorem dX0_stepTo_121 : decode cX0_stepTo 121 = .ok (.if_icmp .ne 24, 3) := dk_160 0 24 (dk_at dksX0_stepTo_5 19 rfl rfl)
theorem dX0_stepTo_124 : decode cX0_stepTo 124 = .ok (.bipush 100, 2) := dk_16 100 (dk_at dksX0_stepTo_5 22 rfl rfl)
theorem dX0_stepTo_126 : decode cX0_stepTo 126 = .ok (.aload 5, 2) := dk_25 5 (dk_at dksX0_stepTo_6 0 rfl rfl)
theorem dX0_stepTo_128 : decode cX0_stepTo 128 = .ok (.getfield 113, 3) := dk_180 0 113 (dk_at dksX0_stepTo_6 2 rfl rfl)
theorem dX0_stepTo_131 : decode cX0_stepTo 131 = .ok (.iconst 0, 1) := dk_3 (dk_at dksX0_stepTo_6 5 rfl rfl)
theorem dX0_stepTo_132 : decode cX0_stepTo 132 = .ok (.iaload, 1) := dk_46 (dk_at dksX0_stepTo_6 6 rfl rfl)
theorem dX0_stepTo_133 : decode cX0_stepTo 133 = .ok (.imul, 1) := dk_104 (dk_at dksX0_stepTo_6 7 rfl rfl)
theorem dX0_stepTo_134 : decode cX0_stepTo 134 = .ok (.aload 4, 2) := dk_25 4 (dk_at dksX0_stepTo_6 8 rfl rfl)
theorem dX0_stepTo_136 : decode cX0_stepTo 136 = .ok (.getfield 113, 3) := dk_180 0 113 (dk_at dksX0_stepTo_6 10 rfl rfl)
theorem dX0_stepTo_139 : decode cX0_stepTo 139 = .ok (.iconst 0, 1) := dk_3 (dk_at dksX0_stepTo_6 13 rfl rfl)
theorem dX0_stepTo_140 : decode cX0_stepTo 140 = .ok (.iaload, 1) := dk_46 (dk_at dksX0_stepTo_6 14 rfl rfl)
theorem dX0_stepTo_141 : decode cX0_stepTo 141 = .ok (.iadd, 1) := dk_96 (dk_at dksX0_stepTo_6 15 rfl rfl)
theorem dX0_stepTo_142 : decode cX0_stepTo 142 = .ok (.goto 5, 3) := dk_167 0 5 (dk_at dksX0_stepTo_6 16 rfl rfl)
theorem dX0_stepTo_145 : decode cX0_stepTo 145 = .ok (.bipush (-6), 2) := dk_16 250 (dk_at dksX0_stepTo_6 19 rfl rfl)
theorem dX0_stepTo_147 : decode cX0_stepTo 147 = .ok (.ireturn, 1) := dk_172 (dk_at dksX0_stepTo_6 21 rfl rfl)
theorem dX0_stepTo_148 : decode cX0_stepTo 148 = .ok (.aload 4, 2) := dk_25 4 (dk_at dksX0_stepTo_6 22 rfl rfl)
theorem dX0_stepTo_150 : decode cX0_stepTo 150 = .ok (.getfield 101, 3) := dk_180 0 101 (dk_at dksX0_stepTo_7 0 rfl rfl)
theorem dX0_stepTo_153 : decode cX0_stepTo 153 = .ok (.bipush 62, 2) := dk_16 62 (dk_at dksX0_stepTo_7 3 rfl rfl)
theorem dX0_stepTo_155 : decode cX0_stepTo 155 = .ok (.if_icmp .ne 24, 3) := dk_160 0 24 (dk_at dksX0_stepTo_7 5 rfl rfl)
theorem dX0_stepTo_158 : decode cX0_stepTo 158 = .ok (.bipush 100, 2) := dk_16 100 (dk_at dksX0_stepTo_7 8 rfl rfl)
theorem dX0_stepTo_160 : decode cX0_stepTo 160 = .ok (.aload 4, 2) := dk_25 4 (dk_at dksX0_stepTo_7 10 rfl rfl)
theorem dX0_stepTo_162 : decode cX0_stepTo 162 = .ok (.getfield 113, 3) := dk_180 0 113 (dk_at dksX0_stepTo_7 12 rfl rfl)
theorem dX0_stepTo_165 : decode cX0_stepTo 165 = .ok (.iconst 1, 1) := dk_4 (dk_at dksX0_stepTo_7 15 rfl rfl)
theorem dX0_stepTo_166 : decode cX0_stepTo 166 = .ok (.iaload, 1) := dk_46 (dk_at dksX0_stepTo_7 16 rfl rfl)
theorem dX0_stepTo_167 : decode cX0_stepTo 167 = .ok (.imul, 1) := dk_104 (dk_at dksX0_stepTo_7 17 rfl rfl)
theorem dX0_stepTo_168 : decode cX0_stepTo 168 = .ok (.aload 5, 2) := dk_25 5 (dk_at dksX0_stepTo_7 18 rfl rfl)
theorem dX0_stepTo_170 : decode cX0_stepTo 170 = .ok (.getfield 113, 3) := dk_180 0 113 (dk_at dksX0_stepTo_7 20 rfl rfl)
theorem dX0_stepTo_173 : decode cX0_stepTo 173 = .ok (.iconst 1, 1) := dk_4 (dk_at dksX0_stepTo_7 23 rfl rfl)
theorem dX0_stepTo_174 : decode cX0_stepTo 174 = .ok (.iaload, 1) := dk_46 (dk_at dksX0_stepTo_8 0 rfl rfl)
theorem dX0_stepTo_175 : decode cX0_stepTo 175 = .ok (.iadd, 1) := dk_96 (dk_at dksX0_stepTo_8 1 rfl rfl)
theorem dX0_stepTo_176 : decode cX0_stepTo 176 = .ok (.goto 5, 3) := dk_167 0 5 (dk_at dksX0_stepTo_8 2 rfl rfl)
theorem dX0_stepTo_179 : decode cX0_stepTo 179 = .ok (.bipush (-6), 2) := dk_16 250 (dk_at dksX0_stepTo_8 5 rfl rfl)
theorem dX0_stepTo_181 : decode cX0_stepTo 181 = .ok (.ireturn, 1) := dk_172 (dk_at dksX0_stepTo_8 7 rfl rfl)
theorem dX0_stepTo_182 : decode cX0_stepTo 182 = .ok (.aload 4, 2) := dk_25 4 (dk_at dksX0_stepTo_8 8 rfl rfl)
theorem dX0_stepTo_184 : decode cX0_stepTo 184 = .ok (.invokevirtual 145, 3) := dk_182 0 145 (dk_at dksX0_stepTo_8 10 rfl rfl)
theorem dX0_stepTo_187 : decode cX0_stepTo 187 = .ok (.ifCond .eq 42, 3) := dk_153 0 42 (dk_at dksX0_stepTo_8 13 rfl rfl)
theorem dX0_stepTo_190 : decode cX0_stepTo 190 = .ok (.aload 4, 2) := dk_25 4 (dk_at dksX0_stepTo_8 16 rfl rfl)
theorem dX0_stepTo_192 : decode cX0_stepTo 192 = .ok (.iload_n 3, 1) := dk_29 (dk_at dksX0_stepTo_8 18 rfl rfl)
theorem dX0_stepTo_193 : decode cX0_stepTo 193 = .ok (.invokevirtual 148, 3) := dk_182 0 148 (dk_at dksX0_stepTo_8 19 rfl rfl)
theorem dX0_stepTo_196 : decode cX0_stepTo 196 = .ok (.ifCond .eq 33, 3) := dk_153 0 33 (dk_at dksX0_stepTo_9 0 rfl rfl)
theorem dX0_stepTo_199 : decode cX0_stepTo 199 = .ok (.aload 5, 2) := dk_25 5 (dk_at dksX0_stepTo_9 3 rfl rfl)
theorem dX0_stepTo_201 : decode cX0_stepTo 201 = .ok (.iload_n 3, 1) := dk_29 (dk_at dksX0_stepTo_9 5 rfl rfl)
theorem dX0_stepTo_202 : decode cX0_stepTo 202 = .ok (.invokevirtual 148, 3) := dk_182 0 148 (dk_at dksX0_stepTo_9 6 rfl rfl)
theorem dX0_stepTo_205 : decode cX0_stepTo 205 = .ok (.ifCond .eq 24, 3) := dk_153 0 24 (dk_at dksX0_stepTo_9 9 rfl rfl)
theorem dX0_stepTo_208 : decode cX0_stepTo 208 = .ok (.bipush 100, 2) := dk_16 100 (dk_at dksX0_stepTo_9 12 rfl rfl)
theorem dX0_stepTo_210 : decode cX0_stepTo 210 = .ok (.aload 4, 2) := dk_25 4 (dk_at dksX0_stepTo_9 14 rfl rfl)
theorem dX0_stepTo_212 : decode cX0_stepTo 212 = .ok (.getfield 113, 3) := dk_180 0 113 (dk_at dksX0_stepTo_9 16 rfl rfl)
theorem dX0_stepTo_215 : decode cX0_stepTo 215 = .ok (.iload_n 3, 1) := dk_29 (dk_at dksX0_stepTo_9 19 rfl rfl)
theorem dX0_stepTo_216 : decode cX0_stepTo 216 = .ok (.iaload, 1) := dk_46 (dk_at dksX0_stepTo_9 20 rfl rfl)
theorem dX0_stepTo_217 : decode cX0_stepTo 217 = .ok (.imul, 1) := dk_104 (dk_at dksX0_stepTo_9 21 rfl rfl)
theorem dX0_stepTo_218 : decode cX0_stepTo 218 = .ok (.aload 5, 2) := dk_25 5 (dk_at dksX0_stepTo_9 22 rfl rfl)
theorem dX0_stepTo_220 : decode cX0_stepTo 220 = .ok (.getfield 113, 3) := dk_180 0 113 (dk_at dksX0_stepTo_10 0 rfl rfl)
theorem dX0_stepTo_223 : decode cX0_stepTo 223 = .ok (.iload_n 3, 1) := dk_29 (dk_at dksX0_stepTo_10 3 rfl rfl)
theorem dX0_stepTo_224 : decode cX0_stepTo 224 = .ok (.iaload, 1) := dk_46 (dk_at dksX0_stepTo_10 4 rfl rfl)
theorem dX0_stepTo_225 : decode cX0_stepTo 225 = .ok (.iadd, 1) := dk_96 (dk_at dksX0_stepTo_10 5 rfl rfl)
theorem dX0_stepTo_226 : decode cX0_stepTo 226 = .ok (.goto 5, 3) := dk_167 0 5 (dk_at dksX0_stepTo_10 6 rfl rfl)
theorem dX0_stepTo_229 : decode cX0_stepTo 229 = .ok (.bipush (-6), 2) := dk_16 250 (dk_at dksX0_stepTo_10 9 rfl rfl)
theorem dX0_stepTo_231 : decode cX0_stepTo 231 = .ok (.ireturn, 1) := dk_172 (dk_at dksX0_stepTo_10 11 rfl rfl)
abbrev cX0_way : ByteArray := prog_1_method_18_code
def yX0_way : MethodName := ⟨RX0, "way", "(III)I"⟩
def dkwX0_way_5 : List UInt8 := [167, 255, 217, 42, 21, 4, 16, 100, 108, 21, 4, 16, 100, 112, 182, 0, 170, 172]
abbrev dktX0_way_5 : List UInt8 := dkwX0_way_5 ++ []
def dkwX0_way_4 : List UInt8 := [42, 21, 4, 16, 100, 108, 21, 4, 16, 100, 112, 182, 0, 170, 182, 0, 151, 54, 4, 132, 5, 1]
abbrev dktX0_way_4 : List UInt8 := dkwX0_way_4 ++ dktX0_way_5
def dkwX0_way_3 : List UInt8 := [28, 96, 54, 4, 3, 54, 5, 21, 5, 29, 162, 0, 39, 42, 21, 4, 16, 100, 108, 21, 4, 16, 100, 112]
abbrev dktX0_way_3 : List UInt8 := dkwX0_way_3 ++ dktX0_way_4
def dkwX0_way_2 : List UInt8 := [154, 0, 6, 16, 250, 172, 29, 2, 160, 0, 12, 42, 180, 0, 35, 27, 50, 28, 46, 172, 16, 100, 27, 104]
abbrev dktX0_way_2 : List UInt8 := dkwX0_way_2 ++ dktX0_way_3
def dkwX0_way_1 : List UInt8 := [154, 0, 25, 29, 133, 20, 0, 135, 42, 180, 0, 35, 27, 50, 28, 46, 133, 10, 101, 184, 0, 72]
abbrev dktX0_way_1 : List UInt8 := dkwX0_way_1 ++ dktX0_way_2
def dkwX0_way_0 : List UInt8 := [42, 27, 182, 0, 132, 153, 0, 11, 42, 28, 182, 0, 132, 154, 0, 5, 2, 172, 42, 27, 28, 182, 0, 166]
abbrev dktX0_way_0 : List UInt8 := dkwX0_way_0 ++ dktX0_way_1
theorem dksX0_way_0 : cX0_way.data.toList.drop 0 = dktX0_way_0 := by decide +kernel
theorem dksX0_way_1 : cX0_way.data.toList.drop 24 = dktX0_way_1 := dk_seg dksX0_way_0 24 rfl rfl
theorem dksX0_way_2 : cX0_way.data.toList.drop 46 = dktX0_way_2 := dk_seg dksX0_way_1 22 rfl rfl
theorem dksX0_way_3 : cX0_way.data.toList.drop 70 = dktX0_way_3 := dk_seg dksX0_way_2 24 rfl rfl
theorem dksX0_way_4 : cX0_way.data.toList.drop 94 = dktX0_way_4 := dk_seg dksX0_way_3 24 rfl rfl
theorem dksX0_way_5 : cX0_way.data.toList.drop 116 = dktX0_way_5 := dk_seg dksX0_way_4 22 rfl rfl
theorem dX0_way_0 : decode cX0_way 0 = .ok (.aload_n 0, 1) := dk_42 (dk_at dksX0_way_0 0 rfl rfl)
theorem dX0_way_1 : decode cX0_way 1 = .ok (.iload_n 1, 1) := dk_27 (dk_at dksX0_way_0 1 rfl rfl)
theorem dX0_way_2 : decode cX0_way 2 = .ok (.invokevirtual 132, 3) := dk_182 0 132 (dk_at dksX0_way_0 2 rfl rfl)
theorem dX0_way_5 : decode cX0_way 5 = .ok (.ifCond .eq 11, 3) := dk_153 0 11 (dk_at dksX0_way_0 5 rfl rfl)
theorem dX0_way_8 : decode cX0_way 8 = .ok (.aload_n 0, 1) := dk_42 (dk_at dksX0_way_0 8 rfl rfl)
theorem dX0_way_9 : decode cX0_way 9 = .ok (.iload_n 2, 1) := dk_28 (dk_at dksX0_way_0 9 rfl rfl)
theorem dX0_way_10 : decode cX0_way 10 = .ok (.invokevirtual 132, 3) := dk_182 0 132 (dk_at dksX0_way_0 10 rfl rfl)
theorem dX0_way_13 : decode cX0_way 13 = .ok (.ifCond .ne 5, 3) := dk_154 0 5 (dk_at dksX0_way_0 13 rfl rfl)
theorem dX0_way_16 : decode cX0_way 16 = .ok (.iconst (-1), 1) := dk_2 (dk_at dksX0_way_0 16 rfl rfl)
theorem dX0_way_17 : decode cX0_way 17 = .ok (.ireturn, 1) := dk_172 (dk_at dksX0_way_0 17 rfl rfl)
theorem dX0_way_18 : decode cX0_way 18 = .ok (.aload_n 0, 1) := dk_42 (dk_at dksX0_way_0 18 rfl rfl)
theorem dX0_way_19 : decode cX0_way 19 = .ok (.iload_n 1, 1) := dk_27 (dk_at dksX0_way_0 19 rfl rfl)
theorem dX0_way_20 : decode cX0_way 20 = .ok (.iload_n 2, 1) := dk_28 (dk_at dksX0_way_0 20 rfl rfl)
theorem dX0_way_21 : decode cX0_way 21 = .ok (.invokevirtual 166, 3) := dk_182 0 166 (dk_at dksX0_way_0 21 rfl rfl)
theorem dX0_way_24 : decode cX0_way 24 = .ok (.ifCond .ne 25, 3) := dk_154 0 25 (dk_at dksX0_way_1 0 rfl rfl)
theorem dX0_way_27 : decode cX0_way 27 = .ok (.iload_n 3, 1) := dk_29 (dk_at dksX0_way_1 3 rfl rfl)
theorem dX0_way_28 : decode cX0_way 28 = .ok (.i2l, 1) := dk_133 (dk_at dksX0_way_1 4 rfl rfl)
theorem dX0_way_29 : decode cX0_way 29 = .ok (.ldc2_w 135, 3) := dk_20 0 135 (dk_at dksX0_way_1 5 rfl rfl)
theorem dX0_way_32 : decode cX0_way 32 = .ok (.aload_n 0, 1) := dk_42 (dk_at dksX0_way_1 8 rfl rfl)
theorem dX0_way_33 : decode cX0_way 33 = .ok (.getfield 35, 3) := dk_180 0 35 (dk_at dksX0_way_1 9 rfl rfl)
theorem dX0_way_36 : decode cX0_way 36 = .ok (.iload_n 1, 1) := dk_27 (dk_at dksX0_way_1 12 rfl rfl)
theorem dX0_way_37 : decode cX0_way 37 = .ok (.aaload, 1) := dk_50 (dk_at dksX0_way_1 13 rfl rfl)
theorem dX0_way_38 : decode cX0_way 38 = .ok (.iload_n 2, 1) := dk_28 (dk_at dksX0_way_1 14 rfl rfl)
theorem dX0_way_39 : decode cX0_way 39 = .ok (.iaload, 1) := dk_46 (dk_at dksX0_way_1 15 rfl rfl)
theorem dX0_way_40 : decode cX0_way 40 = .ok (.i2l, 1) := dk_133 (dk_at dksX0_way_1 16 rfl rfl)
theorem dX0_way_41 : decode cX0_way 41 = .ok (.lconst 1, 1) := dk_10 (dk_at dksX0_way_1 17 rfl rfl)
theorem dX0_way_42 : decode cX0_way 42 = .ok (.lsub, 1) := dk_101 (dk_at dksX0_way_1 18 rfl rfl)
theorem dX0_way_43 : decode cX0_way 43 = .ok (.invokestatic 72, 3) := dk_184 0 72 (dk_at dksX0_way_1 19 rfl rfl)
theorem dX0_way_46 : decode cX0_way 46 = .ok (.ifCond .ne 6, 3) := dk_154 0 6 (dk_at dksX0_way_2 0 rfl rfl)
theorem dX0_way_49 : decode cX0_way 49 = .ok (.bipush (-6), 2) := dk_16 250 (dk_at dksX0_way_2 3 rfl rfl)
theorem dX0_way_51 : decode cX0_way 51 = .ok (.ireturn, 1) := dk_172 (dk_at dksX0_way_2 5 rfl rfl)
theorem dX0_way_52 : decode cX0_way 52 = .ok (.iload_n 3, 1) := dk_29 (dk_at dksX0_way_2 6 rfl rfl)
theorem dX0_way_53 : decode cX0_way 53 = .ok (.iconst (-1), 1) := dk_2 (dk_at dksX0_way_2 7 rfl rfl)
theorem dX0_way_54 : decode cX0_way 54 = .ok (.if_icmp .ne 12, 3) := dk_160 0 12 (dk_at dksX0_way_2 8 rfl rfl)
theorem dX0_way_57 : decode cX0_way 57 = .ok (.aload_n 0, 1) := dk_42 (dk_at dksX0_way_2 11 rfl rfl)
theorem dX0_way_58 : decode cX0_way 58 = .ok (.getfield 35, 3) := dk_180 0 35 (dk_at dksX0_way_2 12 rfl rfl)
theorem dX0_way_61 : decode cX0_way 61 = .ok (.iload_n 1, 1) := dk_27 (dk_at dksX0_way_2 15 rfl rfl)
theorem dX0_way_62 : decode cX0_way 62 = .ok (.aaload, 1) := dk_50 (dk_at dksX0_way_2 16 rfl rfl)
theorem dX0_way_63 : decode cX0_way 63 = .ok (.iload_n 2, 1) := dk_28 (dk_at dksX0_way_2 17 rfl rfl)
theorem dX0_way_64 : decode cX0_way 64 = .ok (.iaload, 1) := dk_46 (dk_at dksX0_way_2 18 rfl rfl)
theorem dX0_way_65 : decode cX0_way 65 = .ok (.ireturn, 1) := dk_172 (dk_at dksX0_way_2 19 rfl rfl)
theorem dX0_way_66 : decode cX0_way 66 = .ok (.bipush 100, 2) := dk_16 100 (dk_at dksX0_way_2 20 rfl rfl)
theorem dX0_way_68 : decode cX0_way 68 = .ok (.iload_n 1, 1) := dk_27 (dk_at dksX0_way_2 22 rfl rfl)
theorem dX0_way_69 : decode cX0_way 69 = .ok (.imul, 1) := dk_104 (dk_at dksX0_way_2 23 rfl rfl)
theorem dX0_way_70 : decode cX0_way 70 = .ok (.iload_n 2, 1) := dk_28 (dk_at dksX0_way_3 0 rfl rfl)
theorem dX0_way_71 : decode cX0_way 71 = .ok (.iadd, 1) := dk_96 (dk_at dksX0_way_3 1 rfl rfl)
theorem dX0_way_72 : decode cX0_way 72 = .ok (.istore 4, 2) := dk_54 4 (dk_at dksX0_way_3 2 rfl rfl)
theorem dX0_way_74 : decode cX0_way 74 = .ok (.iconst 0, 1) := dk_3 (dk_at dksX0_way_3 4 rfl rfl)
theorem dX0_way_75 : decode cX0_way 75 = .ok (.istore 5, 2) := dk_54 5 (dk_at dksX0_way_3 5 rfl rfl)
theorem dX0_way_77 : decode cX0_way 77 = .ok (.iload 5, 2) := dk_21 5 (dk_at dksX0_way_3 7 rfl rfl)
theorem dX0_way_79 : decode cX0_way 79 = .ok (.iload_n 3, 1) := dk_29 (dk_at dksX0_way_3 9 rfl rfl)
theorem dX0_way_80 : decode cX0_way 80 = .ok (.if_icmp .ge 39, 3) := dk_162 0 39 (dk_at dksX0_way_3 10 rfl rfl)
theorem dX0_way_83 : decode cX0_way 83 = .ok (.aload_n 0, 1) := dk_42 (dk_at dksX0_way_3 13 rfl rfl)
theorem dX0_way_84 : decode cX0_way 84 = .ok (.iload 4, 2) := dk_21 4 (dk_at dksX0_way_3 14 rfl rfl)
theorem dX0_way_86 : decode cX0_way 86 = .ok (.bipush 100, 2) := dk_16 100 (dk_at dksX0_way_3 16 rfl rfl)
theorem dX0_way_88 : decode cX0_way 88 = .ok (.idiv, 1) := dk_108 (dk_at dksX0_way_3 18 rfl rfl)
theorem dX0_way_89 : decode cX0_way 89 = .ok (.iload 4, 2) := dk_21 4 (dk_at dksX0_way_3 19 rfl rfl)
theorem dX0_way_91 : decode cX0_way 91 = .ok (.bipush 100, 2) := dk_16 100 (dk_at dksX0_way_3 21 rfl rfl)
theorem dX0_way_93 : decode cX0_way 93 = .ok (.irem, 1) := dk_112 (dk_at dksX0_way_3 23 rfl rfl)
theorem dX0_way_94 : decode cX0_way 94 = .ok (.aload_n 0, 1) := dk_42 (dk_at dksX0_way_4 0 rfl rfl)
theorem dX0_way_95 : decode cX0_way 95 = .ok (.iload 4, 2) := dk_21 4 (dk_at dksX0_way_4 1 rfl rfl)
theorem dX0_way_97 : decode cX0_way 97 = .ok (.bipush 100, 2) := dk_16 100 (dk_at dksX0_way_4 3 rfl rfl)
theorem dX0_way_99 : decode cX0_way 99 = .ok (.idiv, 1) := dk_108 (dk_at dksX0_way_4 5 rfl rfl)
theorem dX0_way_100 : decode cX0_way 100 = .ok (.iload 4, 2) := dk_21 4 (dk_at dksX0_way_4 6 rfl rfl)
theorem dX0_way_102 : decode cX0_way 102 = .ok (.bipush 100, 2) := dk_16 100 (dk_at dksX0_way_4 8 rfl rfl)
theorem dX0_way_104 : decode cX0_way 104 = .ok (.irem, 1) := dk_112 (dk_at dksX0_way_4 10 rfl rfl)
theorem dX0_way_105 : decode cX0_way 105 = .ok (.invokevirtual 170, 3) := dk_182 0 170 (dk_at dksX0_way_4 11 rfl rfl)
theorem dX0_way_108 : decode cX0_way 108 = .ok (.invokevirtual 151, 3) := dk_182 0 151 (dk_at dksX0_way_4 14 rfl rfl)
theorem dX0_way_111 : decode cX0_way 111 = .ok (.istore 4, 2) := dk_54 4 (dk_at dksX0_way_4 17 rfl rfl)
theorem dX0_way_113 : decode cX0_way 113 = .ok (.iinc 5 1, 3) := dk_132 5 1 (dk_at dksX0_way_4 19 rfl rfl)
theorem dX0_way_116 : decode cX0_way 116 = .ok (.goto (-39), 3) := dk_167 255 217 (dk_at dksX0_way_5 0 rfl rfl)
theorem dX0_way_119 : decode cX0_way 119 = .ok (.aload_n 0, 1) := dk_42 (dk_at dksX0_way_5 3 rfl rfl)
theorem dX0_way_120 : decode cX0_way 120 = .ok (.iload 4, 2) := dk_21 4 (dk_at dksX0_way_5 4 rfl rfl)
theorem dX0_way_122 : decode cX0_way 122 = .ok (.bipush 100, 2) := dk_16 100 (dk_at dksX0_way_5 6 rfl rfl)
theorem dX0_way_124 : decode cX0_way 124 = .ok (.idiv, 1) := dk_108 (dk_at dksX0_way_5 8 rfl rfl)
theorem dX0_way_125 : decode cX0_way 125 = .ok (.iload 4, 2) := dk_21 4 (dk_at dksX0_way_5 9 rfl rfl)
theorem dX0_way_127 : decode cX0_way 127 = .ok (.bipush 100, 2) := dk_16 100 (dk_at dksX0_way_5 11 rfl rfl)
theorem dX0_way_129 : decode cX0_way 129 = .ok (.irem, 1) := dk_112 (dk_at dksX0_way_5 13 rfl rfl)
theorem dX0_way_130 : decode cX0_way 130 = .ok (.invokevirtual 170, 3) := dk_182 0 170 (dk_at dksX0_way_5 14 rfl rfl)
theorem dX0_way_133 : decode cX0_way 133 = .ok (.ireturn, 1) := dk_172 (dk_at dksX0_way_5 17 rfl rfl)
abbrev cX0_stepDown : ByteArray := prog_1_method_17_code
def yX0_stepDown : MethodName := ⟨RX0, "stepDown", "(II)I"⟩
def dkwX0_stepDown_2 : List UInt8 := [132, 3, 1, 167, 255, 208]
abbrev dktX0_stepDown_2 : List UInt8 := dkwX0_stepDown_2 ++ []
def dkwX0_stepDown_1 : List UInt8 := [108, 50, 21, 4, 16, 100, 112, 46, 42, 180, 0, 35, 27, 50, 28, 46, 4, 100, 160, 0, 5, 29, 172]
abbrev dktX0_stepDown_1 : List UInt8 := dkwX0_stepDown_1 ++ dktX0_stepDown_2
def dkwX0_stepDown_0 : List UInt8 := [3, 62, 42, 27, 28, 29, 182, 0, 151, 54, 4, 21, 4, 155, 0, 34, 42, 180, 0, 35, 21, 4, 16, 100]
abbrev dktX0_stepDown_0 : List UInt8 := dkwX0_stepDown_0 ++ dktX0_stepDown_1
theorem dksX0_stepDown_0 : cX0_stepDown.data.toList.drop 0 = dktX0_stepDown_0 := by decide +kernel
theorem dksX0_stepDown_1 : cX0_stepDown.data.toList.drop 24 = dktX0_stepDown_1 := dk_seg dksX0_stepDown_0 24 rfl rfl
theorem dksX0_stepDown_2 : cX0_stepDown.data.toList.drop 47 = dktX0_stepDown_2 := dk_seg dksX0_stepDown_1 23 rfl rfl
theorem dX0_stepDown_0 : decode cX0_stepDown 0 = .ok (.iconst 0, 1) := dk_3 (dk_at dksX0_stepDown_0 0 rfl rfl)
theorem dX0_stepDown_1 : decode cX0_stepDown 1 = .ok (.istore_n 3, 1) := dk_62 (dk_at dksX0_stepDown_0 1 rfl rfl)
theorem dX0_stepDown_2 : decode cX0_stepDown 2 = .ok (.aload_n 0, 1) := dk_42 (dk_at dksX0_stepDown_0 2 rfl rfl)
theorem dX0_stepDown_3 : decode cX0_stepDown 3 = .ok (.iload_n 1, 1) := dk_27 (dk_at dksX0_stepDown_0 3 rfl rfl)
theorem dX0_stepDown_4 : decode cX0_stepDown 4 = .ok (.iload_n 2, 1) := dk_28 (dk_at dksX0_stepDown_0 4 rfl rfl)
theorem dX0_stepDown_5 : decode cX0_stepDown 5 = .ok (.iload_n 3, 1) := dk_29 (dk_at dksX0_stepDown_0 5 rfl rfl)
theorem dX0_stepDown_6 : decode cX0_stepDown 6 = .ok (.invokevirtual 151, 3) := dk_182 0 151 (dk_at dksX0_stepDown_0 6 rfl rfl)
theorem dX0_stepDown_9 : decode cX0_stepDown 9 = .ok (.istore 4, 2) := dk_54 4 (dk_at dksX0_stepDown_0 9 rfl rfl)
theorem dX0_stepDown_11 : decode cX0_stepDown 11 = .ok (.iload 4, 2) := dk_21 4 (dk_at dksX0_stepDown_0 11 rfl rfl)
theorem dX0_stepDown_13 : decode cX0_stepDown 13 = .ok (.ifCond .lt 34, 3) := dk_155 0 34 (dk_at dksX0_stepDown_0 13 rfl rfl)
theorem dX0_stepDown_16 : decode cX0_stepDown 16 = .ok (.aload_n 0, 1) := dk_42 (dk_at dksX0_stepDown_0 16 rfl rfl)
theorem dX0_stepDown_17 : decode cX0_stepDown 17 = .ok (.getfield 35, 3) := dk_180 0 35 (dk_at dksX0_stepDown_0 17 rfl rfl)
theorem dX0_stepDown_20 : decode cX0_stepDown 20 = .ok (.iload 4, 2) := dk_21 4 (dk_at dksX0_stepDown_0 20 rfl rfl)
theorem dX0_stepDown_22 : decode cX0_stepDown 22 = .ok (.bipush 100, 2) := dk_16 100 (dk_at dksX0_stepDown_0 22 rfl rfl)
theorem dX0_stepDown_24 : decode cX0_stepDown 24 = .ok (.idiv, 1) := dk_108 (dk_at dksX0_stepDown_1 0 rfl rfl)
theorem dX0_stepDown_25 : decode cX0_stepDown 25 = .ok (.aaload, 1) := dk_50 (dk_at dksX0_stepDown_1 1 rfl rfl)
theorem dX0_stepDown_26 : decode cX0_stepDown 26 = .ok (.iload 4, 2) := dk_21 4 (dk_at dksX0_stepDown_1 2 rfl rfl)
theorem dX0_stepDown_28 : decode cX0_stepDown 28 = .ok (.bipush 100, 2) := dk_16 100 (dk_at dksX0_stepDown_1 4 rfl rfl)
theorem dX0_stepDown_30 : decode cX0_stepDown 30 = .ok (.irem, 1) := dk_112 (dk_at dksX0_stepDown_1 6 rfl rfl)
theorem dX0_stepDown_31 : decode cX0_stepDown 31 = .ok (.iaload, 1) := dk_46 (dk_at dksX0_stepDown_1 7 rfl rfl)
theorem dX0_stepDown_32 : decode cX0_stepDown 32 = .ok (.aload_n 0, 1) := dk_42 (dk_at dksX0_stepDown_1 8 rfl rfl)
theorem dX0_stepDown_33 : decode cX0_stepDown 33 = .ok (.getfield 35, 3) := dk_180 0 35 (dk_at dksX0_stepDown_1 9 rfl rfl)
theorem dX0_stepDown_36 : decode cX0_stepDown 36 = .ok (.iload_n 1, 1) := dk_27 (dk_at dksX0_stepDown_1 12 rfl rfl)
theorem dX0_stepDown_37 : decode cX0_stepDown 37 = .ok (.aaload, 1) := dk_50 (dk_at dksX0_stepDown_1 13 rfl rfl)
theorem dX0_stepDown_38 : decode cX0_stepDown 38 = .ok (.iload_n 2, 1) := dk_28 (dk_at dksX0_stepDown_1 14 rfl rfl)
theorem dX0_stepDown_39 : decode cX0_stepDown 39 = .ok (.iaload, 1) := dk_46 (dk_at dksX0_stepDown_1 15 rfl rfl)
theorem dX0_stepDown_40 : decode cX0_stepDown 40 = .ok (.iconst 1, 1) := dk_4 (dk_at dksX0_stepDown_1 16 rfl rfl)
theorem dX0_stepDown_41 : decode cX0_stepDown 41 = .ok (.isub, 1) := dk_100 (dk_at dksX0_stepDown_1 17 rfl rfl)
theorem dX0_stepDown_42 : decode cX0_stepDown 42 = .ok (.if_icmp .ne 5, 3) := dk_160 0 5 (dk_at dksX0_stepDown_1 18 rfl rfl)
theorem dX0_stepDown_45 : decode cX0_stepDown 45 = .ok (.iload_n 3, 1) := dk_29 (dk_at dksX0_stepDown_1 21 rfl rfl)
theorem dX0_stepDown_46 : decode cX0_stepDown 46 = .ok (.ireturn, 1) := dk_172 (dk_at dksX0_stepDown_1 22 rfl rfl)
theorem dX0_stepDown_47 : decode cX0_stepDown 47 = .ok (.iinc 3 1, 3) := dk_132 3 1 (dk_at dksX0_stepDown_2 0 rfl rfl)
theorem dX0_stepDown_50 : decode cX0_stepDown 50 = .ok (.goto (-48), 3) := dk_167 255 208 (dk_at dksX0_stepDown_2 3 rfl rfl)
abbrev cX0_end : ByteArray := prog_1_method_19_code
def yX0_end : MethodName := ⟨RX0, "end", "(II)I"⟩
def dkwX0_end_3 : List UInt8 := [112, 182, 0, 170, 182, 0, 151, 62, 167, 255, 214, 29, 172]
abbrev dktX0_end_3 : List UInt8 := dkwX0_end_3 ++ []
def dkwX0_end_2 : List UInt8 := [16, 100, 112, 46, 158, 0, 31, 42, 29, 16, 100, 108, 29, 16, 100, 112, 42, 29, 16, 100, 108, 29, 16, 100]
abbrev dktX0_end_2 : List UInt8 := dkwX0_end_2 ++ dktX0_end_3
def dkwX0_end_1 : List UInt8 := [153, 0, 6, 16, 250, 172, 16, 100, 27, 104, 28, 96, 62, 42, 180, 0, 35, 29, 16, 100, 108, 50, 29]
abbrev dktX0_end_1 : List UInt8 := dkwX0_end_1 ++ dktX0_end_2
def dkwX0_end_0 : List UInt8 := [42, 27, 182, 0, 132, 153, 0, 11, 42, 28, 182, 0, 132, 154, 0, 5, 2, 172, 42, 27, 28, 182, 0, 166]
abbrev dktX0_end_0 : List UInt8 := dkwX0_end_0 ++ dktX0_end_1
theorem dksX0_end_0 : cX0_end.data.toList.drop 0 = dktX0_end_0 := by decide +kernel
theorem dksX0_end_1 : cX0_end.data.toList.drop 24 = dktX0_end_1 := dk_seg dksX0_end_0 24 rfl rfl
theorem dksX0_end_2 : cX0_end.data.toList.drop 47 = dktX0_end_2 := dk_seg dksX0_end_1 23 rfl rfl
theorem dksX0_end_3 : cX0_end.data.toList.drop 71 = dktX0_end_3 := dk_seg dksX0_end_2 24 rfl rfl
theorem dX0_end_0 : decode cX0_end 0 = .ok (.aload_n 0, 1) := dk_42 (dk_at dksX0_end_0 0 rfl rfl)
theorem dX0_end_1 : decode cX0_end 1 = .ok (.iload_n 1, 1) := dk_27 (dk_at dksX0_end_0 1 rfl rfl)
theorem dX0_end_2 : decode cX0_end 2 = .ok (.invokevirtual 132, 3) := dk_182 0 132 (dk_at dksX0_end_0 2 rfl rfl)
theorem dX0_end_5 : decode cX0_end 5 = .ok (.ifCond .eq 11, 3) := dk_153 0 11 (dk_at dksX0_end_0 5 rfl rfl)
theorem dX0_end_8 : decode cX0_end 8 = .ok (.aload_n 0, 1) := dk_42 (dk_at dksX0_end_0 8 rfl rfl)
theorem dX0_end_9 : decode cX0_end 9 = .ok (.iload_n 2, 1) := dk_28 (dk_at dksX0_end_0 9 rfl rfl)
theorem dX0_end_10 : decode cX0_end 10 = .ok (.invokevirtual 132, 3) := dk_182 0 132 (dk_at dksX0_end_0 10 rfl rfl)
theorem dX0_end_13 : decode cX0_end 13 = .ok (.ifCond .ne 5, 3) := dk_154 0 5 (dk_at dksX0_end_0 13 rfl rfl)
theorem dX0_end_16 : decode cX0_end 16 = .ok (.iconst (-1), 1) := dk_2 (dk_at dksX0_end_0 16 rfl rfl)
theorem dX0_end_17 : decode cX0_end 17 = .ok (.ireturn, 1) := dk_172 (dk_at dksX0_end_0 17 rfl rfl)
theorem dX0_end_18 : decode cX0_end 18 = .ok (.aload_n 0, 1) := dk_42 (dk_at dksX0_end_0 18 rfl rfl)
theorem dX0_end_19 : decode cX0_end 19 = .ok (.iload_n 1, 1) := dk_27 (dk_at dksX0_end_0 19 rfl rfl)
theorem dX0_end_20 : decode cX0_end 20 = .ok (.iload_n 2, 1) := dk_28 (dk_at dksX0_end_0 20 rfl rfl)
theorem dX0_end_21 : decode cX0_end 21 = .ok (.invokevirtual 166, 3) := dk_182 0 166 (dk_at dksX0_end_0 21 rfl rfl)
theorem dX0_end_24 : decode cX0_end 24 = .ok (.ifCond .eq 6, 3) := dk_153 0 6 (dk_at dksX0_end_1 0 rfl rfl)
theorem dX0_end_27 : decode cX0_end 27 = .ok (.bipush (-6), 2) := dk_16 250 (dk_at dksX0_end_1 3 rfl rfl)
theorem dX0_end_29 : decode cX0_end 29 = .ok (.ireturn, 1) := dk_172 (dk_at dksX0_end_1 5 rfl rfl)
theorem dX0_end_30 : decode cX0_end 30 = .ok (.bipush 100, 2) := dk_16 100 (dk_at dksX0_end_1 6 rfl rfl)
theorem dX0_end_32 : decode cX0_end 32 = .ok (.iload_n 1, 1) := dk_27 (dk_at dksX0_end_1 8 rfl rfl)
theorem dX0_end_33 : decode cX0_end 33 = .ok (.imul, 1) := dk_104 (dk_at dksX0_end_1 9 rfl rfl)
theorem dX0_end_34 : decode cX0_end 34 = .ok (.iload_n 2, 1) := dk_28 (dk_at dksX0_end_1 10 rfl rfl)
theorem dX0_end_35 : decode cX0_end 35 = .ok (.iadd, 1) := dk_96 (dk_at dksX0_end_1 11 rfl rfl)
theorem dX0_end_36 : decode cX0_end 36 = .ok (.istore_n 3, 1) := dk_62 (dk_at dksX0_end_1 12 rfl rfl)
theorem dX0_end_37 : decode cX0_end 37 = .ok (.aload_n 0, 1) := dk_42 (dk_at dksX0_end_1 13 rfl rfl)
theorem dX0_end_38 : decode cX0_end 38 = .ok (.getfield 35, 3) := dk_180 0 35 (dk_at dksX0_end_1 14 rfl rfl)
theorem dX0_end_41 : decode cX0_end 41 = .ok (.iload_n 3, 1) := dk_29 (dk_at dksX0_end_1 17 rfl rfl)
theorem dX0_end_42 : decode cX0_end 42 = .ok (.bipush 100, 2) := dk_16 100 (dk_at dksX0_end_1 18 rfl rfl)
theorem dX0_end_44 : decode cX0_end 44 = .ok (.idiv, 1) := dk_108 (dk_at dksX0_end_1 20 rfl rfl)
theorem dX0_end_45 : decode cX0_end 45 = .ok (.aaload, 1) := dk_50 (dk_at dksX0_end_1 21 rfl rfl)
theorem dX0_end_46 : decode cX0_end 46 = .ok (.iload_n 3, 1) := dk_29 (dk_at dksX0_end_1 22 rfl rfl)
theorem dX0_end_47 : decode cX0_end 47 = .ok (.bipush 100, 2) := dk_16 100 (dk_at dksX0_end_2 0 rfl rfl)
theorem dX0_end_49 : decode cX0_end 49 = .ok (.irem, 1) := dk_112 (dk_at dksX0_end_2 2 rfl rfl)
theorem dX0_end_50 : decode cX0_end 50 = .ok (.iaload, 1) := dk_46 (dk_at dksX0_end_2 3 rfl rfl)
theorem dX0_end_51 : decode cX0_end 51 = .ok (.ifCond .le 31, 3) := dk_158 0 31 (dk_at dksX0_end_2 4 rfl rfl)
theorem dX0_end_54 : decode cX0_end 54 = .ok (.aload_n 0, 1) := dk_42 (dk_at dksX0_end_2 7 rfl rfl)
theorem dX0_end_55 : decode cX0_end 55 = .ok (.iload_n 3, 1) := dk_29 (dk_at dksX0_end_2 8 rfl rfl)
theorem dX0_end_56 : decode cX0_end 56 = .ok (.bipush 100, 2) := dk_16 100 (dk_at dksX0_end_2 9 rfl rfl)
theorem dX0_end_58 : decode cX0_end 58 = .ok (.idiv, 1) := dk_108 (dk_at dksX0_end_2 11 rfl rfl)
theorem dX0_end_59 : decode cX0_end 59 = .ok (.iload_n 3, 1) := dk_29 (dk_at dksX0_end_2 12 rfl rfl)
theorem dX0_end_60 : decode cX0_end 60 = .ok (.bipush 100, 2) := dk_16 100 (dk_at dksX0_end_2 13 rfl rfl)
theorem dX0_end_62 : decode cX0_end 62 = .ok (.irem, 1) := dk_112 (dk_at dksX0_end_2 15 rfl rfl)
theorem dX0_end_63 : decode cX0_end 63 = .ok (.aload_n 0, 1) := dk_42 (dk_at dksX0_end_2 16 rfl rfl)
theorem dX0_end_64 : decode cX0_end 64 = .ok (.iload_n 3, 1) := dk_29 (dk_at dksX0_end_2 17 rfl rfl)
theorem dX0_end_65 : decode cX0_end 65 = .ok (.bipush 100, 2) := dk_16 100 (dk_at dksX0_end_2 18 rfl rfl)
theorem dX0_end_67 : decode cX0_end 67 = .ok (.idiv, 1) := dk_108 (dk_at dksX0_end_2 20 rfl rfl)
theorem dX0_end_68 : decode cX0_end 68 = .ok (.iload_n 3, 1) := dk_29 (dk_at dksX0_end_2 21 rfl rfl)
theorem dX0_end_69 : decode cX0_end 69 = .ok (.bipush 100, 2) := dk_16 100 (dk_at dksX0_end_2 22 rfl rfl)
theorem dX0_end_71 : decode cX0_end 71 = .ok (.irem, 1) := dk_112 (dk_at dksX0_end_3 0 rfl rfl)
theorem dX0_end_72 : decode cX0_end 72 = .ok (.invokevirtual 170, 3) := dk_182 0 170 (dk_at dksX0_end_3 1 rfl rfl)
theorem dX0_end_75 : decode cX0_end 75 = .ok (.invokevirtual 151, 3) := dk_182 0 151 (dk_at dksX0_end_3 4 rfl rfl)
theorem dX0_end_78 : decode cX0_end 78 = .ok (.istore_n 3, 1) := dk_62 (dk_at dksX0_end_3 7 rfl rfl)
theorem dX0_end_79 : decode cX0_end 79 = .ok (.goto (-42), 3) := dk_167 255 214 (dk_at dksX0_end_3 8 rfl rfl)
theorem dX0_end_82 : decode cX0_end 82 = .ok (.iload_n 3, 1) := dk_29 (dk_at dksX0_end_3 11 rfl rfl)
theorem dX0_end_83 : decode cX0_end 83 = .ok (.ireturn, 1) := dk_172 (dk_at dksX0_end_3 12 rfl rfl)
abbrev cX0_alike : ByteArray := prog_1_method_21_code
def yX0_alike : MethodName := ⟨RX0, "alike", "(II)I"⟩
def dkwX0_alike_1 : List UInt8 := [153, 0, 7, 4, 167, 0, 8, 3, 167, 0, 4, 2, 172]
abbrev dktX0_alike_1 : List UInt8 := dkwX0_alike_1 ++ []
def dkwX0_alike_0 : List UInt8 := [42, 27, 182, 0, 132, 153, 0, 28, 42, 28, 182, 0, 132, 153, 0, 20, 42, 27, 28, 182, 0, 174]
abbrev dktX0_alike_0 : List UInt8 := dkwX0_alike_0 ++ dktX0_alike_1
theorem dksX0_alike_0 : cX0_alike.data.toList.drop 0 = dktX0_alike_0 := by decide +kernel
theorem dksX0_alike_1 : cX0_alike.data.toList.drop 22 = dktX0_alike_1 := dk_seg dksX0_alike_0 22 rfl rfl
theorem dX0_alike_0 : decode cX0_alike 0 = .ok (.aload_n 0, 1) := dk_42 (dk_at dksX0_alike_0 0 rfl rfl)
theorem dX0_alike_1 : decode cX0_alike 1 = .ok (.iload_n 1, 1) := dk_27 (dk_at dksX0_alike_0 1 rfl rfl)
theorem dX0_alike_2 : decode cX0_alike 2 = .ok (.invokevirtual 132, 3) := dk_182 0 132 (dk_at dksX0_alike_0 2 rfl rfl)
theorem dX0_alike_5 : decode cX0_alike 5 = .ok (.ifCond .eq 28, 3) := dk_153 0 28 (dk_at dksX0_alike_0 5 rfl rfl)
theorem dX0_alike_8 : decode cX0_alike 8 = .ok (.aload_n 0, 1) := dk_42 (dk_at dksX0_alike_0 8 rfl rfl)
theorem dX0_alike_9 : decode cX0_alike 9 = .ok (.iload_n 2, 1) := dk_28 (dk_at dksX0_alike_0 9 rfl rfl)
theorem dX0_alike_10 : decode cX0_alike 10 = .ok (.invokevirtual 132, 3) := dk_182 0 132 (dk_at dksX0_alike_0 10 rfl rfl)
theorem dX0_alike_13 : decode cX0_alike 13 = .ok (.ifCond .eq 20, 3) := dk_153 0 20 (dk_at dksX0_alike_0 13 rfl rfl)
theorem dX0_alike_16 : decode cX0_alike 16 = .ok (.aload_n 0, 1) := dk_42 (dk_at dksX0_alike_0 16 rfl rfl)
theorem dX0_alike_17 : decode cX0_alike 17 = .ok (.iload_n 1, 1) := dk_27 (dk_at dksX0_alike_0 17 rfl rfl)
theorem dX0_alike_18 : decode cX0_alike 18 = .ok (.iload_n 2, 1) := dk_28 (dk_at dksX0_alike_0 18 rfl rfl)
theorem dX0_alike_19 : decode cX0_alike 19 = .ok (.invokevirtual 174, 3) := dk_182 0 174 (dk_at dksX0_alike_0 19 rfl rfl)
theorem dX0_alike_22 : decode cX0_alike 22 = .ok (.ifCond .eq 7, 3) := dk_153 0 7 (dk_at dksX0_alike_1 0 rfl rfl)
theorem dX0_alike_25 : decode cX0_alike 25 = .ok (.iconst 1, 1) := dk_4 (dk_at dksX0_alike_1 3 rfl rfl)
theorem dX0_alike_26 : decode cX0_alike 26 = .ok (.goto 8, 3) := dk_167 0 8 (dk_at dksX0_alike_1 4 rfl rfl)
theorem dX0_alike_29 : decode cX0_alike 29 = .ok (.iconst 0, 1) := dk_3 (dk_at dksX0_alike_1 7 rfl rfl)
theorem dX0_alike_30 : decode cX0_alike 30 = .ok (.goto 4, 3) := dk_167 0 4 (dk_at dksX0_alike_1 8 rfl rfl)
theorem dX0_alike_33 : decode cX0_alike 33 = .ok (.iconst (-1), 1) := dk_2 (dk_at dksX0_alike_1 11 rfl rfl)
theorem dX0_alike_34 : decode cX0_alike 34 = .ok (.ireturn, 1) := dk_172 (dk_at dksX0_alike_1 12 rfl rfl)
abbrev cX0_areAlike : ByteArray := prog_1_method_20_code
def yX0_areAlike : MethodName := ⟨RX0, "areAlike", "(II)Z"⟩
def dkwX0_areAlike_0 : List UInt8 := [42, 27, 28, 182, 0, 166, 153, 0, 16, 42, 28, 27, 182, 0, 166, 153, 0, 7, 4, 167, 0, 4, 3, 172]
abbrev dktX0_areAlike_0 : List UInt8 := dkwX0_areAlike_0 ++ []
theorem dksX0_areAlike_0 : cX0_areAlike.data.toList.drop 0 = dktX0_areAlike_0 := by decide +kernel
theorem dX0_areAlike_0 : decode cX0_areAlike 0 = .ok (.aload_n 0, 1) := dk_42 (dk_at dksX0_areAlike_0 0 rfl rfl)
theorem dX0_areAlike_1 : decode cX0_areAlike 1 = .ok (.iload_n 1, 1) := dk_27 (dk_at dksX0_areAlike_0 1 rfl rfl)
theorem dX0_areAlike_2 : decode cX0_areAlike 2 = .ok (.iload_n 2, 1) := dk_28 (dk_at dksX0_areAlike_0 2 rfl rfl)
theorem dX0_areAlike_3 : decode cX0_areAlike 3 = .ok (.invokevirtual 166, 3) := dk_182 0 166 (dk_at dksX0_areAlike_0 3 rfl rfl)
theorem dX0_areAlike_6 : decode cX0_areAlike 6 = .ok (.ifCond .eq 16, 3) := dk_153 0 16 (dk_at dksX0_areAlike_0 6 rfl rfl)
theorem dX0_areAlike_9 : decode cX0_areAlike 9 = .ok (.aload_n 0, 1) := dk_42 (dk_at dksX0_areAlike_0 9 rfl rfl)
theorem dX0_areAlike_10 : decode cX0_areAlike 10 = .ok (.iload_n 2, 1) := dk_28 (dk_at dksX0_areAlike_0 10 rfl rfl)
theorem dX0_areAlike_11 : decode cX0_areAlike 11 = .ok (.iload_n 1, 1) := dk_27 (dk_at dksX0_areAlike_0 11 rfl rfl)
theorem dX0_areAlike_12 : decode cX0_areAlike 12 = .ok (.invokevirtual 166, 3) := dk_182 0 166 (dk_at dksX0_areAlike_0 12 rfl rfl)
theorem dX0_areAlike_15 : decode cX0_areAlike 15 = .ok (.ifCond .eq 7, 3) := dk_153 0 7 (dk_at dksX0_areAlike_0 15 rfl rfl)
theorem dX0_areAlike_18 : decode cX0_areAlike 18 = .ok (.iconst 1, 1) := dk_4 (dk_at dksX0_areAlike_0 18 rfl rfl)
theorem dX0_areAlike_19 : decode cX0_areAlike 19 = .ok (.goto 4, 3) := dk_167 0 4 (dk_at dksX0_areAlike_0 19 rfl rfl)
theorem dX0_areAlike_22 : decode cX0_areAlike 22 = .ok (.iconst 0, 1) := dk_3 (dk_at dksX0_areAlike_0 22 rfl rfl)
theorem dX0_areAlike_23 : decode cX0_areAlike 23 = .ok (.ireturn, 1) := dk_172 (dk_at dksX0_areAlike_0 23 rfl rfl)
abbrev cX0_pieces : ByteArray := prog_1_method_23_code
def yX0_pieces : MethodName := ⟨RX0, "pieces", "(I)I"⟩
def dkwX0_pieces_5 : List UInt8 := [61, 132, 3, 1, 167, 255, 177, 28, 172]
abbrev dktX0_pieces_5 : List UInt8 := dkwX0_pieces_5 ++ []
def dkwX0_pieces_4 : List UInt8 := [167, 0, 4, 3, 54, 4, 132, 5, 1, 167, 255, 215, 28, 21, 4, 153, 0, 7, 4, 167, 0, 4, 3, 96]
abbrev dktX0_pieces_4 : List UInt8 := dkwX0_pieces_4 ++ dktX0_pieces_5
def dkwX0_pieces_3 : List UInt8 := [153, 0, 36, 42, 180, 0, 38, 21, 5, 51, 153, 0, 13, 42, 21, 5, 29, 182, 0, 174, 154, 0, 7, 4]
abbrev dktX0_pieces_3 : List UInt8 := dkwX0_pieces_3 ++ dktX0_pieces_4
def dkwX0_pieces_2 : List UInt8 := [162, 0, 77, 42, 180, 0, 38, 29, 51, 54, 4, 3, 54, 5, 21, 5, 29, 162, 0, 41, 21, 4]
abbrev dktX0_pieces_2 : List UInt8 := dkwX0_pieces_2 ++ dktX0_pieces_3
def dkwX0_pieces_1 : List UInt8 := [28, 3, 84, 132, 2, 1, 167, 255, 238, 42, 27, 182, 0, 177, 3, 61, 3, 62, 29, 42, 180, 0, 94]
abbrev dktX0_pieces_1 : List UInt8 := dkwX0_pieces_1 ++ dktX0_pieces_2
def dkwX0_pieces_0 : List UInt8 := [42, 27, 182, 0, 132, 154, 0, 5, 2, 172, 3, 61, 28, 42, 180, 0, 94, 162, 0, 16, 42, 180, 0, 38]
abbrev dktX0_pieces_0 : List UInt8 := dkwX0_pieces_0 ++ dktX0_pieces_1
theorem dksX0_pieces_0 : cX0_pieces.data.toList.drop 0 = dktX0_pieces_0 := by decide +kernel
theorem dksX0_pieces_1 : cX0_pieces.data.toList.drop 24 = dktX0_pieces_1 := dk_seg dksX0_pieces_0 24 rfl rfl
theorem dksX0_pieces_2 : cX0_pieces.data.toList.drop 47 = dktX0_pieces_2 := dk_seg dksX0_pieces_1 23 rfl rfl
theorem dksX0_pieces_3 : cX0_pieces.data.toList.drop 69 = dktX0_pieces_3 := dk_seg dksX0_pieces_2 22 rfl rfl
theorem dksX0_pieces_4 : cX0_pieces.data.toList.drop 93 = dktX0_pieces_4 := dk_seg dksX0_pieces_3 24 rfl rfl
theorem dksX0_pieces_5 : cX0_pieces.data.toList.drop 117 = dktX0_pieces_5 := dk_seg dksX0_pieces_4 24 rfl rfl
theorem dX0_pieces_0 : decode cX0_pieces 0 = .ok (.aload_n 0, 1) := dk_42 (dk_at dksX0_pieces_0 0 rfl rfl)
theorem dX0_pieces_1 : decode cX0_pieces 1 = .ok (.iload_n 1, 1) := dk_27 (dk_at dksX0_pieces_0 1 rfl rfl)
theorem dX0_pieces_2 : decode cX0_pieces 2 = .ok (.invokevirtual 132, 3) := dk_182 0 132 (dk_at dksX0_pieces_0 2 rfl rfl)
theorem dX0_pieces_5 : decode cX0_pieces 5 = .ok (.ifCond .ne 5, 3) := dk_154 0 5 (dk_at dksX0_pieces_0 5 rfl rfl)
theorem dX0_pieces_8 : decode cX0_pieces 8 = .ok (.iconst (-1), 1) := dk_2 (dk_at dksX0_pieces_0 8 rfl rfl)
theorem dX0_pieces_9 : decode cX0_pieces 9 = .ok (.ireturn, 1) := dk_172 (dk_at dksX0_pieces_0 9 rfl rfl)
theorem dX0_pieces_10 : decode cX0_pieces 10 = .ok (.iconst 0, 1) := dk_3 (dk_at dksX0_pieces_0 10 rfl rfl)
theorem dX0_pieces_11 : decode cX0_pieces 11 = .ok (.istore_n 2, 1) := dk_61 (dk_at dksX0_pieces_0 11 rfl rfl)
theorem dX0_pieces_12 : decode cX0_pieces 12 = .ok (.iload_n 2, 1) := dk_28 (dk_at dksX0_pieces_0 12 rfl rfl)
theorem dX0_pieces_13 : decode cX0_pieces 13 = .ok (.aload_n 0, 1) := dk_42 (dk_at dksX0_pieces_0 13 rfl rfl)
theorem dX0_pieces_14 : decode cX0_pieces 14 = .ok (.getfield 94, 3) := dk_180 0 94 (dk_at dksX0_pieces_0 14 rfl rfl)
theorem dX0_pieces_17 : decode cX0_pieces 17 = .ok (.if_icmp .ge 16, 3) := dk_162 0 16 (dk_at dksX0_pieces_0 17 rfl rfl)
theorem dX0_pieces_20 : decode cX0_pieces 20 = .ok (.aload_n 0, 1) := dk_42 (dk_at dksX0_pieces_0 20 rfl rfl)
theorem dX0_pieces_21 : decode cX0_pieces 21 = .ok (.getfield 38, 3) := dk_180 0 38 (dk_at dksX0_pieces_0 21 rfl rfl)
theorem dX0_pieces_24 : decode cX0_pieces 24 = .ok (.iload_n 2, 1) := dk_28 (dk_at dksX0_pieces_1 0 rfl rfl)
theorem dX0_pieces_25 : decode cX0_pieces 25 = .ok (.iconst 0, 1) := dk_3 (dk_at dksX0_pieces_1 1 rfl rfl)
theorem dX0_pieces_26 : decode cX0_pieces 26 = .ok (.bastore, 1) := dk_84 (dk_at dksX0_pieces_1 2 rfl rfl)
theorem dX0_pieces_27 : decode cX0_pieces 27 = .ok (.iinc 2 1, 3) := dk_132 2 1 (dk_at dksX0_pieces_1 3 rfl rfl)
theorem dX0_pieces_30 : decode cX0_pieces 30 = .ok (.goto (-18), 3) := dk_167 255 238 (dk_at dksX0_pieces_1 6 rfl rfl)
theorem dX0_pieces_33 : decode cX0_pieces 33 = .ok (.aload_n 0, 1) := dk_42 (dk_at dksX0_pieces_1 9 rfl rfl)
theorem dX0_pieces_34 : decode cX0_pieces 34 = .ok (.iload_n 1, 1) := dk_27 (dk_at dksX0_pieces_1 10 rfl rfl)
theorem dX0_pieces_35 : decode cX0_pieces 35 = .ok (.invokevirtual 177, 3) := dk_182 0 177 (dk_at dksX0_pieces_1 11 rfl rfl)
theorem dX0_pieces_38 : decode cX0_pieces 38 = .ok (.iconst 0, 1) := dk_3 (dk_at dksX0_pieces_1 14 rfl rfl)
theorem dX0_pieces_39 : decode cX0_pieces 39 = .ok (.istore_n 2, 1) := dk_61 (dk_at dksX0_pieces_1 15 rfl rfl)
theorem dX0_pieces_40 : decode cX0_pieces 40 = .ok (.iconst 0, 1) := dk_3 (dk_at dksX0_pieces_1 16 rfl rfl)
theorem dX0_pieces_41 : decode cX0_pieces 41 = .ok (.istore_n 3, 1) := dk_62 (dk_at dksX0_pieces_1 17 rfl rfl)
theorem dX0_pieces_42 : decode cX0_pieces 42 = .ok (.iload_n 3, 1) := dk_29 (dk_at dksX0_pieces_1 18 rfl rfl)
theorem dX0_pieces_43 : decode cX0_pieces 43 = .ok (.aload_n 0, 1) := dk_42 (dk_at dksX0_pieces_1 19 rfl rfl)
theorem dX0_pieces_44 : decode cX0_pieces 44 = .ok (.getfield 94, 3) := dk_180 0 94 (dk_at dksX0_pieces_1 20 rfl rfl)
theorem dX0_pieces_47 : decode cX0_pieces 47 = .ok (.if_icmp .ge 77, 3) := dk_162 0 77 (dk_at dksX0_pieces_2 0 rfl rfl)
theorem dX0_pieces_50 : decode cX0_pieces 50 = .ok (.aload_n 0, 1) := dk_42 (dk_at dksX0_pieces_2 3 rfl rfl)
theorem dX0_pieces_51 : decode cX0_pieces 51 = .ok (.getfield 38, 3) := dk_180 0 38 (dk_at dksX0_pieces_2 4 rfl rfl)
theorem dX0_pieces_54 : decode cX0_pieces 54 = .ok (.iload_n 3, 1) := dk_29 (dk_at dksX0_pieces_2 7 rfl rfl)
theorem dX0_pieces_55 : decode cX0_pieces 55 = .ok (.baload, 1) := dk_51 (dk_at dksX0_pieces_2 8 rfl rfl)
theorem dX0_pieces_56 : decode cX0_pieces 56 = .ok (.istore 4, 2) := dk_54 4 (dk_at dksX0_pieces_2 9 rfl rfl)
theorem dX0_pieces_58 : decode cX0_pieces 58 = .ok (.iconst 0, 1) := dk_3 (dk_at dksX0_pieces_2 11 rfl rfl)
theorem dX0_pieces_59 : decode cX0_pieces 59 = .ok (.istore 5, 2) := dk_54 5 (dk_at dksX0_pieces_2 12 rfl rfl)
theorem dX0_pieces_61 : decode cX0_pieces 61 = .ok (.iload 5, 2) := dk_21 5 (dk_at dksX0_pieces_2 14 rfl rfl)
theorem dX0_pieces_63 : decode cX0_pieces 63 = .ok (.iload_n 3, 1) := dk_29 (dk_at dksX0_pieces_2 16 rfl rfl)
theorem dX0_pieces_64 : decode cX0_pieces 64 = .ok (.if_icmp .ge 41, 3) := dk_162 0 41 (dk_at dksX0_pieces_2 17 rfl rfl)
theorem dX0_pieces_67 : decode cX0_pieces 67 = .ok (.iload 4, 2) := dk_21 4 (dk_at dksX0_pieces_2 20 rfl rfl)
theorem dX0_pieces_69 : decode cX0_pieces 69 = .ok (.ifCond .eq 36, 3) := dk_153 0 36 (dk_at dksX0_pieces_3 0 rfl rfl)
theorem dX0_pieces_72 : decode cX0_pieces 72 = .ok (.aload_n 0, 1) := dk_42 (dk_at dksX0_pieces_3 3 rfl rfl)
theorem dX0_pieces_73 : decode cX0_pieces 73 = .ok (.getfield 38, 3) := dk_180 0 38 (dk_at dksX0_pieces_3 4 rfl rfl)
theorem dX0_pieces_76 : decode cX0_pieces 76 = .ok (.iload 5, 2) := dk_21 5 (dk_at dksX0_pieces_3 7 rfl rfl)
theorem dX0_pieces_78 : decode cX0_pieces 78 = .ok (.baload, 1) := dk_51 (dk_at dksX0_pieces_3 9 rfl rfl)
theorem dX0_pieces_79 : decode cX0_pieces 79 = .ok (.ifCond .eq 13, 3) := dk_153 0 13 (dk_at dksX0_pieces_3 10 rfl rfl)
theorem dX0_pieces_82 : decode cX0_pieces 82 = .ok (.aload_n 0, 1) := dk_42 (dk_at dksX0_pieces_3 13 rfl rfl)
theorem dX0_pieces_83 : decode cX0_pieces 83 = .ok (.iload 5, 2) := dk_21 5 (dk_at dksX0_pieces_3 14 rfl rfl)
theorem dX0_pieces_85 : decode cX0_pieces 85 = .ok (.iload_n 3, 1) := dk_29 (dk_at dksX0_pieces_3 16 rfl rfl)
theorem dX0_pieces_86 : decode cX0_pieces 86 = .ok (.invokevirtual 174, 3) := dk_182 0 174 (dk_at dksX0_pieces_3 17 rfl rfl)
theorem dX0_pieces_89 : decode cX0_pieces 89 = .ok (.ifCond .ne 7, 3) := dk_154 0 7 (dk_at dksX0_pieces_3 20 rfl rfl)
theorem dX0_pieces_92 : decode cX0_pieces 92 = .ok (.iconst 1, 1) := dk_4 (dk_at dksX0_pieces_3 23 rfl rfl)
theorem dX0_pieces_93 : decode cX0_pieces 93 = .ok (.goto 4, 3) := dk_167 0 4 (dk_at dksX0_pieces_4 0 rfl rfl)
theorem dX0_pieces_96 : decode cX0_pieces 96 = .ok (.iconst 0, 1) := dk_3 (dk_at dksX0_pieces_4 3 rfl rfl)
theorem dX0_pieces_97 : decode cX0_pieces 97 = .ok (.istore 4, 2) := dk_54 4 (dk_at dksX0_pieces_4 4 rfl rfl)
theorem dX0_pieces_99 : decode cX0_pieces 99 = .ok (.iinc 5 1, 3) := dk_132 5 1 (dk_at dksX0_pieces_4 6 rfl rfl)
theorem dX0_pieces_102 : decode cX0_pieces 102 = .ok (.goto (-41), 3) := dk_167 255 215 (dk_at dksX0_pieces_4 9 rfl rfl)
theorem dX0_pieces_105 : decode cX0_pieces 105 = .ok (.iload_n 2, 1) := dk_28 (dk_at dksX0_pieces_4 12 rfl rfl)
theorem dX0_pieces_106 : decode cX0_pieces 106 = .ok (.iload 4, 2) := dk_21 4 (dk_at dksX0_pieces_4 13 rfl rfl)
theorem dX0_pieces_108 : decode cX0_pieces 108 = .ok (.ifCond .eq 7, 3) := dk_153 0 7 (dk_at dksX0_pieces_4 15 rfl rfl)
theorem dX0_pieces_111 : decode cX0_pieces 111 = .ok (.iconst 1, 1) := dk_4 (dk_at dksX0_pieces_4 18 rfl rfl)
theorem dX0_pieces_112 : decode cX0_pieces 112 = .ok (.goto 4, 3) := dk_167 0 4 (dk_at dksX0_pieces_4 19 rfl rfl)
theorem dX0_pieces_115 : decode cX0_pieces 115 = .ok (.iconst 0, 1) := dk_3 (dk_at dksX0_pieces_4 22 rfl rfl)
theorem dX0_pieces_116 : decode cX0_pieces 116 = .ok (.iadd, 1) := dk_96 (dk_at dksX0_pieces_4 23 rfl rfl)
theorem dX0_pieces_117 : decode cX0_pieces 117 = .ok (.istore_n 2, 1) := dk_61 (dk_at dksX0_pieces_5 0 rfl rfl)
theorem dX0_pieces_118 : decode cX0_pieces 118 = .ok (.iinc 3 1, 3) := dk_132 3 1 (dk_at dksX0_pieces_5 1 rfl rfl)
theorem dX0_pieces_121 : decode cX0_pieces 121 = .ok (.goto (-79), 3) := dk_167 255 177 (dk_at dksX0_pieces_5 4 rfl rfl)
theorem dX0_pieces_124 : decode cX0_pieces 124 = .ok (.iload_n 2, 1) := dk_28 (dk_at dksX0_pieces_5 7 rfl rfl)
theorem dX0_pieces_125 : decode cX0_pieces 125 = .ok (.ireturn, 1) := dk_172 (dk_at dksX0_pieces_5 8 rfl rfl)
abbrev cX0_hold : ByteArray := prog_1_method_22_code
def yX0_hold : MethodName := ⟨RX0, "hold", "(I)V"⟩
def dkwX0_hold_3 : List UInt8 := [177]
abbrev dktX0_hold_3 : List UInt8 := dkwX0_hold_3 ++ []
def dkwX0_hold_2 : List UInt8 := [154, 0, 18, 42, 42, 180, 0, 11, 27, 50, 180, 0, 113, 28, 46, 182, 0, 177, 132, 2, 1, 167, 255, 200]
abbrev dktX0_hold_2 : List UInt8 := dkwX0_hold_2 ++ dktX0_hold_3
def dkwX0_hold_1 : List UInt8 := [182, 0, 148, 153, 0, 37, 42, 180, 0, 38, 42, 180, 0, 11, 27, 50, 180, 0, 113, 28, 46, 51]
abbrev dktX0_hold_1 : List UInt8 := dkwX0_hold_1 ++ dktX0_hold_2
def dkwX0_hold_0 : List UInt8 := [42, 180, 0, 38, 27, 4, 84, 3, 61, 28, 16, 8, 162, 0, 56, 42, 180, 0, 11, 27, 50, 28]
abbrev dktX0_hold_0 : List UInt8 := dkwX0_hold_0 ++ dktX0_hold_1
theorem dksX0_hold_0 : cX0_hold.data.toList.drop 0 = dktX0_hold_0 := by decide +kernel
theorem dksX0_hold_1 : cX0_hold.data.toList.drop 22 = dktX0_hold_1 := dk_seg dksX0_hold_0 22 rfl rfl
theorem dksX0_hold_2 : cX0_hold.data.toList.drop 44 = dktX0_hold_2 := dk_seg dksX0_hold_1 22 rfl rfl
theorem dksX0_hold_3 : cX0_hold.data.toList.drop 68 = dktX0_hold_3 := dk_seg dksX0_hold_2 24 rfl rfl
theorem dX0_hold_0 : decode cX0_hold 0 = .ok (.aload_n 0, 1) := dk_42 (dk_at dksX0_hold_0 0 rfl rfl)
theorem dX0_hold_1 : decode cX0_hold 1 = .ok (.getfield 38, 3) := dk_180 0 38 (dk_at dksX0_hold_0 1 rfl rfl)
theorem dX0_hold_4 : decode cX0_hold 4 = .ok (.iload_n 1, 1) := dk_27 (dk_at dksX0_hold_0 4 rfl rfl)
theorem dX0_hold_5 : decode cX0_hold 5 = .ok (.iconst 1, 1) := dk_4 (dk_at dksX0_hold_0 5 rfl rfl)
theorem dX0_hold_6 : decode cX0_hold 6 = .ok (.bastore, 1) := dk_84 (dk_at dksX0_hold_0 6 rfl rfl)
theorem dX0_hold_7 : decode cX0_hold 7 = .ok (.iconst 0, 1) := dk_3 (dk_at dksX0_hold_0 7 rfl rfl)
theorem dX0_hold_8 : decode cX0_hold 8 = .ok (.istore_n 2, 1) := dk_61 (dk_at dksX0_hold_0 8 rfl rfl)
theorem dX0_hold_9 : decode cX0_hold 9 = .ok (.iload_n 2, 1) := dk_28 (dk_at dksX0_hold_0 9 rfl rfl)
theorem dX0_hold_10 : decode cX0_hold 10 = .ok (.bipush 8, 2) := dk_16 8 (dk_at dksX0_hold_0 10 rfl rfl)
theorem dX0_hold_12 : decode cX0_hold 12 = .ok (.if_icmp .ge 56, 3) := dk_162 0 56 (dk_at dksX0_hold_0 12 rfl rfl)
theorem dX0_hold_15 : decode cX0_hold 15 = .ok (.aload_n 0, 1) := dk_42 (dk_at dksX0_hold_0 15 rfl rfl)
theorem dX0_hold_16 : decode cX0_hold 16 = .ok (.getfield 11, 3) := dk_180 0 11 (dk_at dksX0_hold_0 16 rfl rfl)
theorem dX0_hold_19 : decode cX0_hold 19 = .ok (.iload_n 1, 1) := dk_27 (dk_at dksX0_hold_0 19 rfl rfl)
theorem dX0_hold_20 : decode cX0_hold 20 = .ok (.aaload, 1) := dk_50 (dk_at dksX0_hold_0 20 rfl rfl)
theorem dX0_hold_21 : decode cX0_hold 21 = .ok (.iload_n 2, 1) := dk_28 (dk_at dksX0_hold_0 21 rfl rfl)
theorem dX0_hold_22 : decode cX0_hold 22 = .ok (.invokevirtual 148, 3) := dk_182 0 148 (dk_at dksX0_hold_1 0 rfl rfl)
theorem dX0_hold_25 : decode cX0_hold 25 = .ok (.ifCond .eq 37, 3) := dk_153 0 37 (dk_at dksX0_hold_1 3 rfl rfl)
theorem dX0_hold_28 : decode cX0_hold 28 = .ok (.aload_n 0, 1) := dk_42 (dk_at dksX0_hold_1 6 rfl rfl)
theorem dX0_hold_29 : decode cX0_hold 29 = .ok (.getfield 38, 3) := dk_180 0 38 (dk_at dksX0_hold_1 7 rfl rfl)
theorem dX0_hold_32 : decode cX0_hold 32 = .ok (.aload_n 0, 1) := dk_42 (dk_at dksX0_hold_1 10 rfl rfl)
theorem dX0_hold_33 : decode cX0_hold 33 = .ok (.getfield 11, 3) := dk_180 0 11 (dk_at dksX0_hold_1 11 rfl rfl)
theorem dX0_hold_36 : decode cX0_hold 36 = .ok (.iload_n 1, 1) := dk_27 (dk_at dksX0_hold_1 14 rfl rfl)
theorem dX0_hold_37 : decode cX0_hold 37 = .ok (.aaload, 1) := dk_50 (dk_at dksX0_hold_1 15 rfl rfl)
theorem dX0_hold_38 : decode cX0_hold 38 = .ok (.getfield 113, 3) := dk_180 0 113 (dk_at dksX0_hold_1 16 rfl rfl)
theorem dX0_hold_41 : decode cX0_hold 41 = .ok (.iload_n 2, 1) := dk_28 (dk_at dksX0_hold_1 19 rfl rfl)
theorem dX0_hold_42 : decode cX0_hold 42 = .ok (.iaload, 1) := dk_46 (dk_at dksX0_hold_1 20 rfl rfl)
theorem dX0_hold_43 : decode cX0_hold 43 = .ok (.baload, 1) := dk_51 (dk_at dksX0_hold_1 21 rfl rfl)
theorem dX0_hold_44 : decode cX0_hold 44 = .ok (.ifCond .ne 18, 3) := dk_154 0 18 (dk_at dksX0_hold_2 0 rfl rfl)
theorem dX0_hold_47 : decode cX0_hold 47 = .ok (.aload_n 0, 1) := dk_42 (dk_at dksX0_hold_2 3 rfl rfl)
theorem dX0_hold_48 : decode cX0_hold 48 = .ok (.aload_n 0, 1) := dk_42 (dk_at dksX0_hold_2 4 rfl rfl)
theorem dX0_hold_49 : decode cX0_hold 49 = .ok (.getfield 11, 3) := dk_180 0 11 (dk_at dksX0_hold_2 5 rfl rfl)
theorem dX0_hold_52 : decode cX0_hold 52 = .ok (.iload_n 1, 1) := dk_27 (dk_at dksX0_hold_2 8 rfl rfl)
theorem dX0_hold_53 : decode cX0_hold 53 = .ok (.aaload, 1) := dk_50 (dk_at dksX0_hold_2 9 rfl rfl)
theorem dX0_hold_54 : decode cX0_hold 54 = .ok (.getfield 113, 3) := dk_180 0 113 (dk_at dksX0_hold_2 10 rfl rfl)
theorem dX0_hold_57 : decode cX0_hold 57 = .ok (.iload_n 2, 1) := dk_28 (dk_at dksX0_hold_2 13 rfl rfl)
theorem dX0_hold_58 : decode cX0_hold 58 = .ok (.iaload, 1) := dk_46 (dk_at dksX0_hold_2 14 rfl rfl)
theorem dX0_hold_59 : decode cX0_hold 59 = .ok (.invokevirtual 177, 3) := dk_182 0 177 (dk_at dksX0_hold_2 15 rfl rfl)
theorem dX0_hold_62 : decode cX0_hold 62 = .ok (.iinc 2 1, 3) := dk_132 2 1 (dk_at dksX0_hold_2 18 rfl rfl)
theorem dX0_hold_65 : decode cX0_hold 65 = .ok (.goto (-56), 3) := dk_167 255 200 (dk_at dksX0_hold_2 21 rfl rfl)
theorem dX0_hold_68 : decode cX0_hold 68 = .ok (.return_, 1) := dk_177 (dk_at dksX0_hold_3 0 rfl rfl)
abbrev cX0_join : ByteArray := prog_1_method_26_code
def yX0_join : MethodName := ⟨RX0, "join", "(III)I"⟩
def dkwX0_join_4 : List UInt8 := [180, 0, 94, 42, 180, 0, 180, 160, 0, 7, 4, 167, 0, 4, 3, 181, 0, 126, 21, 4, 172]
abbrev dktX0_join_4 : List UInt8 := dkwX0_join_4 ++ []
def dkwX0_join_3 : List UInt8 := [153, 0, 14, 42, 42, 180, 0, 180, 181, 0, 94, 16, 252, 172, 42, 42, 180, 0, 126, 153, 0, 18, 42]
abbrev dktX0_join_3 : List UInt8 := dkwX0_join_3 ++ dktX0_join_4
def dkwX0_join_2 : List UInt8 := [181, 0, 183, 42, 27, 28, 29, 154, 0, 7, 4, 167, 0, 4, 3, 182, 0, 190, 54, 4, 42, 180, 0, 183]
abbrev dktX0_join_2 : List UInt8 := dkwX0_join_2 ++ dktX0_join_3
def dkwX0_join_1 : List UInt8 := [184, 0, 72, 154, 0, 6, 16, 254, 172, 42, 182, 0, 163, 42, 42, 180, 0, 94, 181, 0, 180, 42, 3]
abbrev dktX0_join_1 : List UInt8 := dkwX0_join_1 ++ dktX0_join_2
def dkwX0_join_0 : List UInt8 := [42, 27, 182, 0, 132, 153, 0, 11, 42, 28, 182, 0, 132, 154, 0, 5, 2, 172, 29, 133, 9, 10]
abbrev dktX0_join_0 : List UInt8 := dkwX0_join_0 ++ dktX0_join_1
theorem dksX0_join_0 : cX0_join.data.toList.drop 0 = dktX0_join_0 := by decide +kernel
theorem dksX0_join_1 : cX0_join.data.toList.drop 22 = dktX0_join_1 := dk_seg dksX0_join_0 22 rfl rfl
theorem dksX0_join_2 : cX0_join.data.toList.drop 45 = dktX0_join_2 := dk_seg dksX0_join_1 23 rfl rfl
theorem dksX0_join_3 : cX0_join.data.toList.drop 69 = dktX0_join_3 := dk_seg dksX0_join_2 24 rfl rfl
theorem dksX0_join_4 : cX0_join.data.toList.drop 92 = dktX0_join_4 := dk_seg dksX0_join_3 23 rfl rfl
theorem dX0_join_0 : decode cX0_join 0 = .ok (.aload_n 0, 1) := dk_42 (dk_at dksX0_join_0 0 rfl rfl)
theorem dX0_join_1 : decode cX0_join 1 = .ok (.iload_n 1, 1) := dk_27 (dk_at dksX0_join_0 1 rfl rfl)
theorem dX0_join_2 : decode cX0_join 2 = .ok (.invokevirtual 132, 3) := dk_182 0 132 (dk_at dksX0_join_0 2 rfl rfl)
theorem dX0_join_5 : decode cX0_join 5 = .ok (.ifCond .eq 11, 3) := dk_153 0 11 (dk_at dksX0_join_0 5 rfl rfl)
theorem dX0_join_8 : decode cX0_join 8 = .ok (.aload_n 0, 1) := dk_42 (dk_at dksX0_join_0 8 rfl rfl)
theorem dX0_join_9 : decode cX0_join 9 = .ok (.iload_n 2, 1) := dk_28 (dk_at dksX0_join_0 9 rfl rfl)
theorem dX0_join_10 : decode cX0_join 10 = .ok (.invokevirtual 132, 3) := dk_182 0 132 (dk_at dksX0_join_0 10 rfl rfl)
theorem dX0_join_13 : decode cX0_join 13 = .ok (.ifCond .ne 5, 3) := dk_154 0 5 (dk_at dksX0_join_0 13 rfl rfl)
theorem dX0_join_16 : decode cX0_join 16 = .ok (.iconst (-1), 1) := dk_2 (dk_at dksX0_join_0 16 rfl rfl)
theorem dX0_join_17 : decode cX0_join 17 = .ok (.ireturn, 1) := dk_172 (dk_at dksX0_join_0 17 rfl rfl)
theorem dX0_join_18 : decode cX0_join 18 = .ok (.iload_n 3, 1) := dk_29 (dk_at dksX0_join_0 18 rfl rfl)
theorem dX0_join_19 : decode cX0_join 19 = .ok (.i2l, 1) := dk_133 (dk_at dksX0_join_0 19 rfl rfl)
theorem dX0_join_20 : decode cX0_join 20 = .ok (.lconst 0, 1) := dk_9 (dk_at dksX0_join_0 20 rfl rfl)
theorem dX0_join_21 : decode cX0_join 21 = .ok (.lconst 1, 1) := dk_10 (dk_at dksX0_join_0 21 rfl rfl)
theorem dX0_join_22 : decode cX0_join 22 = .ok (.invokestatic 72, 3) := dk_184 0 72 (dk_at dksX0_join_1 0 rfl rfl)
theorem dX0_join_25 : decode cX0_join 25 = .ok (.ifCond .ne 6, 3) := dk_154 0 6 (dk_at dksX0_join_1 3 rfl rfl)
theorem dX0_join_28 : decode cX0_join 28 = .ok (.bipush (-2), 2) := dk_16 254 (dk_at dksX0_join_1 6 rfl rfl)
theorem dX0_join_30 : decode cX0_join 30 = .ok (.ireturn, 1) := dk_172 (dk_at dksX0_join_1 8 rfl rfl)
theorem dX0_join_31 : decode cX0_join 31 = .ok (.aload_n 0, 1) := dk_42 (dk_at dksX0_join_1 9 rfl rfl)
theorem dX0_join_32 : decode cX0_join 32 = .ok (.invokevirtual 163, 3) := dk_182 0 163 (dk_at dksX0_join_1 10 rfl rfl)
theorem dX0_join_35 : decode cX0_join 35 = .ok (.aload_n 0, 1) := dk_42 (dk_at dksX0_join_1 13 rfl rfl)
theorem dX0_join_36 : decode cX0_join 36 = .ok (.aload_n 0, 1) := dk_42 (dk_at dksX0_join_1 14 rfl rfl)
theorem dX0_join_37 : decode cX0_join 37 = .ok (.getfield 94, 3) := dk_180 0 94 (dk_at dksX0_join_1 15 rfl rfl)
theorem dX0_join_40 : decode cX0_join 40 = .ok (.putfield 180, 3) := dk_181 0 180 (dk_at dksX0_join_1 18 rfl rfl)
theorem dX0_join_43 : decode cX0_join 43 = .ok (.aload_n 0, 1) := dk_42 (dk_at dksX0_join_1 21 rfl rfl)
theorem dX0_join_44 : decode cX0_join 44 = .ok (.iconst 0, 1) := dk_3 (dk_at dksX0_join_1 22 rfl rfl)
theorem dX0_join_45 : decode cX0_join 45 = .ok (.putfield 183, 3) := dk_181 0 183 (dk_at dksX0_join_2 0 rfl rfl)
theorem dX0_join_48 : decode cX0_join 48 = .ok (.aload_n 0, 1) := dk_42 (dk_at dksX0_join_2 3 rfl rfl)
theorem dX0_join_49 : decode cX0_join 49 = .ok (.iload_n 1, 1) := dk_27 (dk_at dksX0_join_2 4 rfl rfl)
theorem dX0_join_50 : decode cX0_join 50 = .ok (.iload_n 2, 1) := dk_28 (dk_at dksX0_join_2 5 rfl rfl)
theorem dX0_join_51 : decode cX0_join 51 = .ok (.iload_n 3, 1) := dk_29 (dk_at dksX0_join_2 6 rfl rfl)
theorem dX0_join_52 : decode cX0_join 52 = .ok (.ifCond .ne 7, 3) := dk_154 0 7 (dk_at dksX0_join_2 7 rfl rfl)
theorem dX0_join_55 : decode cX0_join 55 = .ok (.iconst 1, 1) := dk_4 (dk_at dksX0_join_2 10 rfl rfl)
theorem dX0_join_56 : decode cX0_join 56 = .ok (.goto 4, 3) := dk_167 0 4 (dk_at dksX0_join_2 11 rfl rfl)
theorem dX0_join_59 : decode cX0_join 59 = .ok (.iconst 0, 1) := dk_3 (dk_at dksX0_join_2 14 rfl rfl)
theorem dX0_join_60 : decode cX0_join 60 = .ok (.invokevirtual 190, 3) := dk_182 0 190 (dk_at dksX0_join_2 15 rfl rfl)
theorem dX0_join_63 : decode cX0_join 63 = .ok (.istore 4, 2) := dk_54 4 (dk_at dksX0_join_2 18 rfl rfl)
theorem dX0_join_65 : decode cX0_join 65 = .ok (.aload_n 0, 1) := dk_42 (dk_at dksX0_join_2 20 rfl rfl)
theorem dX0_join_66 : decode cX0_join 66 = .ok (.getfield 183, 3) := dk_180 0 183 (dk_at dksX0_join_2 21 rfl rfl)
theorem dX0_join_69 : decode cX0_join 69 = .ok (.ifCond .eq 14, 3) := dk_153 0 14 (dk_at dksX0_join_3 0 rfl rfl)
theorem dX0_join_72 : decode cX0_join 72 = .ok (.aload_n 0, 1) := dk_42 (dk_at dksX0_join_3 3 rfl rfl)
theorem dX0_join_73 : decode cX0_join 73 = .ok (.aload_n 0, 1) := dk_42 (dk_at dksX0_join_3 4 rfl rfl)
theorem dX0_join_74 : decode cX0_join 74 = .ok (.getfield 180, 3) := dk_180 0 180 (dk_at dksX0_join_3 5 rfl rfl)
theorem dX0_join_77 : decode cX0_join 77 = .ok (.putfield 94, 3) := dk_181 0 94 (dk_at dksX0_join_3 8 rfl rfl)
theorem dX0_join_80 : decode cX0_join 80 = .ok (.bipush (-4), 2) := dk_16 252 (dk_at dksX0_join_3 11 rfl rfl)
theorem dX0_join_82 : decode cX0_join 82 = .ok (.ireturn, 1) := dk_172 (dk_at dksX0_join_3 13 rfl rfl)
theorem dX0_join_83 : decode cX0_join 83 = .ok (.aload_n 0, 1) := dk_42 (dk_at dksX0_join_3 14 rfl rfl)
theorem dX0_join_84 : decode cX0_join 84 = .ok (.aload_n 0, 1) := dk_42 (dk_at dksX0_join_3 15 rfl rfl)
theorem dX0_join_85 : decode cX0_join 85 = .ok (.getfield 126, 3) := dk_180 0 126 (dk_at dksX0_join_3 16 rfl rfl)
theorem dX0_join_88 : decode cX0_join 88 = .ok (.ifCond .eq 18, 3) := dk_153 0 18 (dk_at dksX0_join_3 19 rfl rfl)
theorem dX0_join_91 : decode cX0_join 91 = .ok (.aload_n 0, 1) := dk_42 (dk_at dksX0_join_3 22 rfl rfl)
theorem dX0_join_92 : decode cX0_join 92 = .ok (.getfield 94, 3) := dk_180 0 94 (dk_at dksX0_join_4 0 rfl rfl)
theorem dX0_join_95 : decode cX0_join 95 = .ok (.aload_n 0, 1) := dk_42 (dk_at dksX0_join_4 3 rfl rfl)
theorem dX0_join_96 : decode cX0_join 96 = .ok (.getfield 180, 3) := dk_180 0 180 (dk_at dksX0_join_4 4 rfl rfl)
theorem dX0_join_99 : decode cX0_join 99 = .ok (.if_icmp .ne 7, 3) := dk_160 0 7 (dk_at dksX0_join_4 7 rfl rfl)
theorem dX0_join_102 : decode cX0_join 102 = .ok (.iconst 1, 1) := dk_4 (dk_at dksX0_join_4 10 rfl rfl)
theorem dX0_join_103 : decode cX0_join 103 = .ok (.goto 4, 3) := dk_167 0 4 (dk_at dksX0_join_4 11 rfl rfl)
theorem dX0_join_106 : decode cX0_join 106 = .ok (.iconst 0, 1) := dk_3 (dk_at dksX0_join_4 14 rfl rfl)
theorem dX0_join_107 : decode cX0_join 107 = .ok (.putfield 126, 3) := dk_181 0 126 (dk_at dksX0_join_4 15 rfl rfl)
theorem dX0_join_110 : decode cX0_join 110 = .ok (.iload 4, 2) := dk_21 4 (dk_at dksX0_join_4 18 rfl rfl)
theorem dX0_join_112 : decode cX0_join 112 = .ok (.ireturn, 1) := dk_172 (dk_at dksX0_join_4 20 rfl rfl)
abbrev cX0_find : ByteArray := prog_1_method_24_code
def yX0_find : MethodName := ⟨RX0, "find", "(IIZ)I"⟩
def dkwX0_find_8 : List UInt8 := [172]
abbrev dktX0_find_8 : List UInt8 := dkwX0_find_8 ++ []
def dkwX0_find_7 : List UInt8 := [180, 0, 94, 4, 96, 181, 0, 94, 42, 42, 180, 0, 11, 21, 7, 50, 27, 28, 29, 182, 0, 186, 21, 7]
abbrev dktX0_find_7 : List UInt8 := dkwX0_find_7 ++ dktX0_find_8
def dkwX0_find_6 : List UInt8 := [4, 181, 0, 183, 16, 250, 172, 42, 180, 0, 94, 54, 7, 42, 180, 0, 42, 21, 7, 21, 6, 79, 42, 89]
abbrev dktX0_find_6 : List UInt8 := dkwX0_find_6 ++ dktX0_find_7
def dkwX0_find_5 : List UInt8 := [21, 6, 160, 0, 6, 21, 7, 172, 132, 7, 1, 167, 255, 229, 42, 180, 0, 94, 16, 60, 160, 0, 11, 42]
abbrev dktX0_find_5 : List UInt8 := dkwX0_find_5 ++ dktX0_find_6
def dkwX0_find_4 : List UInt8 := [54, 6, 42, 180, 0, 180, 54, 7, 21, 7, 42, 180, 0, 94, 162, 0, 24, 42, 180, 0, 42, 21, 7, 46]
abbrev dktX0_find_4 : List UInt8 := dkwX0_find_4 ++ dktX0_find_5
def dkwX0_find_3 : List UInt8 := [167, 0, 4, 27, 172, 16, 100, 27, 104, 28, 96, 5, 104, 29, 153, 0, 7, 4, 167, 0, 4, 3, 96]
abbrev dktX0_find_3 : List UInt8 := dkwX0_find_3 ++ dktX0_find_4
def dkwX0_find_2 : List UInt8 := [153, 0, 29, 21, 4, 153, 0, 12, 21, 5, 153, 0, 7, 27, 167, 0, 14, 21, 4, 29, 160, 0, 7, 28]
abbrev dktX0_find_2 : List UInt8 := dkwX0_find_2 ++ dktX0_find_3
def dkwX0_find_1 : List UInt8 := [28, 50, 27, 46, 16, 250, 160, 0, 7, 4, 167, 0, 4, 3, 54, 5, 21, 4, 154, 0, 8, 21, 5]
abbrev dktX0_find_1 : List UInt8 := dkwX0_find_1 ++ dktX0_find_2
def dkwX0_find_0 : List UInt8 := [42, 180, 0, 35, 27, 50, 28, 46, 16, 250, 160, 0, 7, 4, 167, 0, 4, 3, 54, 4, 42, 180, 0, 35]
abbrev dktX0_find_0 : List UInt8 := dkwX0_find_0 ++ dktX0_find_1
theorem dksX0_find_0 : cX0_find.data.toList.drop 0 = dktX0_find_0 := by decide +kernel
theorem dksX0_find_1 : cX0_find.data.toList.drop 24 = dktX0_find_1 := dk_seg dksX0_find_0 24 rfl rfl
theorem dksX0_find_2 : cX0_find.data.toList.drop 47 = dktX0_find_2 := dk_seg dksX0_find_1 23 rfl rfl
theorem dksX0_find_3 : cX0_find.data.toList.drop 71 = dktX0_find_3 := dk_seg dksX0_find_2 24 rfl rfl
theorem dksX0_find_4 : cX0_find.data.toList.drop 94 = dktX0_find_4 := dk_seg dksX0_find_3 23 rfl rfl
theorem dksX0_find_5 : cX0_find.data.toList.drop 118 = dktX0_find_5 := dk_seg dksX0_find_4 24 rfl rfl
theorem dksX0_find_6 : cX0_find.data.toList.drop 142 = dktX0_find_6 := dk_seg dksX0_find_5 24 rfl rfl
theorem dksX0_find_7 : cX0_find.data.toList.drop 166 = dktX0_find_7 := dk_seg dksX0_find_6 24 rfl rfl
theorem dksX0_find_8 : cX0_find.data.toList.drop 190 = dktX0_find_8 := dk_seg dksX0_find_7 24 rfl rfl
theorem dX0_find_0 : decode cX0_find 0 = .ok (.aload_n 0, 1) := dk_42 (dk_at dksX0_find_0 0 rfl rfl)
theorem dX0_find_1 : decode cX0_find 1 = .ok (.getfield 35, 3) := dk_180 0 35 (dk_at dksX0_find_0 1 rfl rfl)
theorem dX0_find_4 : decode cX0_find 4 = .ok (.iload_n 1, 1) := dk_27 (dk_at dksX0_find_0 4 rfl rfl)
theorem dX0_find_5 : decode cX0_find 5 = .ok (.aaload, 1) := dk_50 (dk_at dksX0_find_0 5 rfl rfl)
theorem dX0_find_6 : decode cX0_find 6 = .ok (.iload_n 2, 1) := dk_28 (dk_at dksX0_find_0 6 rfl rfl)
theorem dX0_find_7 : decode cX0_find 7 = .ok (.iaload, 1) := dk_46 (dk_at dksX0_find_0 7 rfl rfl)
theorem dX0_find_8 : decode cX0_find 8 = .ok (.bipush (-6), 2) := dk_16 250 (dk_at dksX0_find_0 8 rfl rfl)
theorem dX0_find_10 : decode cX0_find 10 = .ok (.if_icmp .ne 7, 3) := dk_160 0 7 (dk_at dksX0_find_0 10 rfl rfl)
theorem dX0_find_13 : decode cX0_find 13 = .ok (.iconst 1, 1) := dk_4 (dk_at dksX0_find_0 13 rfl rfl)
theorem dX0_find_14 : decode cX0_find 14 = .ok (.goto 4, 3) := dk_167 0 4 (dk_at dksX0_find_0 14 rfl rfl)
theorem dX0_find_17 : decode cX0_find 17 = .ok (.iconst 0, 1) := dk_3 (dk_at dksX0_find_0 17 rfl rfl)
theorem dX0_find_18 : decode cX0_find 18 = .ok (.istore 4, 2) := dk_54 4 (dk_at dksX0_find_0 18 rfl rfl)
theorem dX0_find_20 : decode cX0_find 20 = .ok (.aload_n 0, 1) := dk_42 (dk_at dksX0_find_0 20 rfl rfl)
theorem dX0_find_21 : decode cX0_find 21 = .ok (.getfield 35, 3) := dk_180 0 35 (dk_at dksX0_find_0 21 rfl rfl)
theorem dX0_find_24 : decode cX0_find 24 = .ok (.iload_n 2, 1) := dk_28 (dk_at dksX0_find_1 0 rfl rfl)
theorem dX0_find_25 : decode cX0_find 25 = .ok (.aaload, 1) := dk_50 (dk_at dksX0_find_1 1 rfl rfl)
theorem dX0_find_26 : decode cX0_find 26 = .ok (.iload_n 1, 1) := dk_27 (dk_at dksX0_find_1 2 rfl rfl)
theorem dX0_find_27 : decode cX0_find 27 = .ok (.iaload, 1) := dk_46 (dk_at dksX0_find_1 3 rfl rfl)
theorem dX0_find_28 : decode cX0_find 28 = .ok (.bipush (-6), 2) := dk_16 250 (dk_at dksX0_find_1 4 rfl rfl)
theorem dX0_find_30 : decode cX0_find 30 = .ok (.if_icmp .ne 7, 3) := dk_160 0 7 (dk_at dksX0_find_1 6 rfl rfl)
theorem dX0_find_33 : decode cX0_find 33 = .ok (.iconst 1, 1) := dk_4 (dk_at dksX0_find_1 9 rfl rfl)
theorem dX0_find_34 : decode cX0_find 34 = .ok (.goto 4, 3) := dk_167 0 4 (dk_at dksX0_find_1 10 rfl rfl)
theorem dX0_find_37 : decode cX0_find 37 = .ok (.iconst 0, 1) := dk_3 (dk_at dksX0_find_1 13 rfl rfl)
theorem dX0_find_38 : decode cX0_find 38 = .ok (.istore 5, 2) := dk_54 5 (dk_at dksX0_find_1 14 rfl rfl)
theorem dX0_find_40 : decode cX0_find 40 = .ok (.iload 4, 2) := dk_21 4 (dk_at dksX0_find_1 16 rfl rfl)
theorem dX0_find_42 : decode cX0_find 42 = .ok (.ifCond .ne 8, 3) := dk_154 0 8 (dk_at dksX0_find_1 18 rfl rfl)
theorem dX0_find_45 : decode cX0_find 45 = .ok (.iload 5, 2) := dk_21 5 (dk_at dksX0_find_1 21 rfl rfl)
theorem dX0_find_47 : decode cX0_find 47 = .ok (.ifCond .eq 29, 3) := dk_153 0 29 (dk_at dksX0_find_2 0 rfl rfl)
theorem dX0_find_50 : decode cX0_find 50 = .ok (.iload 4, 2) := dk_21 4 (dk_at dksX0_find_2 3 rfl rfl)
theorem dX0_find_52 : decode cX0_find 52 = .ok (.ifCond .eq 12, 3) := dk_153 0 12 (dk_at dksX0_find_2 5 rfl rfl)
theorem dX0_find_55 : decode cX0_find 55 = .ok (.iload 5, 2) := dk_21 5 (dk_at dksX0_find_2 8 rfl rfl)
theorem dX0_find_57 : decode cX0_find 57 = .ok (.ifCond .eq 7, 3) := dk_153 0 7 (dk_at dksX0_find_2 10 rfl rfl)
theorem dX0_find_60 : decode cX0_find 60 = .ok (.iload_n 1, 1) := dk_27 (dk_at dksX0_find_2 13 rfl rfl)
theorem dX0_find_61 : decode cX0_find 61 = .ok (.goto 14, 3) := dk_167 0 14 (dk_at dksX0_find_2 14 rfl rfl)
theorem dX0_find_64 : decode cX0_find 64 = .ok (.iload 4, 2) := dk_21 4 (dk_at dksX0_find_2 17 rfl rfl)
theorem dX0_find_66 : decode cX0_find 66 = .ok (.iload_n 3, 1) := dk_29 (dk_at dksX0_find_2 19 rfl rfl)
theorem dX0_find_67 : decode cX0_find 67 = .ok (.if_icmp .ne 7, 3) := dk_160 0 7 (dk_at dksX0_find_2 20 rfl rfl)
theorem dX0_find_70 : decode cX0_find 70 = .ok (.iload_n 2, 1) := dk_28 (dk_at dksX0_find_2 23 rfl rfl)
theorem dX0_find_71 : decode cX0_find 71 = .ok (.goto 4, 3) := dk_167 0 4 (dk_at dksX0_find_3 0 rfl rfl)
theorem dX0_find_74 : decode cX0_find 74 = .ok (.iload_n 1, 1) := dk_27 (dk_at dksX0_find_3 3 rfl rfl)
theorem dX0_find_75 : decode cX0_find 75 = .ok (.ireturn, 1) := dk_172 (dk_at dksX0_find_3 4 rfl rfl)
theorem dX0_find_76 : decode cX0_find 76 = .ok (.bipush 100, 2) := dk_16 100 (dk_at dksX0_find_3 5 rfl rfl)
theorem dX0_find_78 : decode cX0_find 78 = .ok (.iload_n 1, 1) := dk_27 (dk_at dksX0_find_3 7 rfl rfl)
theorem dX0_find_79 : decode cX0_find 79 = .ok (.imul, 1) := dk_104 (dk_at dksX0_find_3 8 rfl rfl)
theorem dX0_find_80 : decode cX0_find 80 = .ok (.iload_n 2, 1) := dk_28 (dk_at dksX0_find_3 9 rfl rfl)
theorem dX0_find_81 : decode cX0_find 81 = .ok (.iadd, 1) := dk_96 (dk_at dksX0_find_3 10 rfl rfl)
theorem dX0_find_82 : decode cX0_find 82 = .ok (.iconst 2, 1) := dk_5 (dk_at dksX0_find_3 11 rfl rfl)
theorem dX0_find_83 : decode cX0_find 83 = .ok (.imul, 1) := dk_104 (dk_at dksX0_find_3 12 rfl rfl)
theorem dX0_find_84 : decode cX0_find 84 = .ok (.iload_n 3, 1) := dk_29 (dk_at dksX0_find_3 13 rfl rfl)
theorem dX0_find_85 : decode cX0_find 85 = .ok (.ifCond .eq 7, 3) := dk_153 0 7 (dk_at dksX0_find_3 14 rfl rfl)
theorem dX0_find_88 : decode cX0_find 88 = .ok (.iconst 1, 1) := dk_4 (dk_at dksX0_find_3 17 rfl rfl)
theorem dX0_find_89 : decode cX0_find 89 = .ok (.goto 4, 3) := dk_167 0 4 (dk_at dksX0_find_3 18 rfl rfl)
theorem dX0_find_92 : decode cX0_find 92 = .ok (.iconst 0, 1) := dk_3 (dk_at dksX0_find_3 21 rfl rfl)
theorem dX0_find_93 : decode cX0_find 93 = .ok (.iadd, 1) := dk_96 (dk_at dksX0_find_3 22 rfl rfl)
theorem dX0_find_94 : decode cX0_find 94 = .ok (.istore 6, 2) := dk_54 6 (dk_at dksX0_find_4 0 rfl rfl)
theorem dX0_find_96 : decode cX0_find 96 = .ok (.aload_n 0, 1) := dk_42 (dk_at dksX0_find_4 2 rfl rfl)
theorem dX0_find_97 : decode cX0_find 97 = .ok (.getfield 180, 3) := dk_180 0 180 (dk_at dksX0_find_4 3 rfl rfl)
theorem dX0_find_100 : decode cX0_find 100 = .ok (.istore 7, 2) := dk_54 7 (dk_at dksX0_find_4 6 rfl rfl)
theorem dX0_find_102 : decode cX0_find 102 = .ok (.iload 7, 2) := dk_21 7 (dk_at dksX0_find_4 8 rfl rfl)
theorem dX0_find_104 : decode cX0_find 104 = .ok (.aload_n 0, 1) := dk_42 (dk_at dksX0_find_4 10 rfl rfl)
theorem dX0_find_105 : decode cX0_find 105 = .ok (.getfield 94, 3) := dk_180 0 94 (dk_at dksX0_find_4 11 rfl rfl)
theorem dX0_find_108 : decode cX0_find 108 = .ok (.if_icmp .ge 24, 3) := dk_162 0 24 (dk_at dksX0_find_4 14 rfl rfl)
theorem dX0_find_111 : decode cX0_find 111 = .ok (.aload_n 0, 1) := dk_42 (dk_at dksX0_find_4 17 rfl rfl)
theorem dX0_find_112 : decode cX0_find 112 = .ok (.getfield 42, 3) := dk_180 0 42 (dk_at dksX0_find_4 18 rfl rfl)
theorem dX0_find_115 : decode cX0_find 115 = .ok (.iload 7, 2) := dk_21 7 (dk_at dksX0_find_4 21 rfl rfl)
theorem dX0_find_117 : decode cX0_find 117 = .ok (.iaload, 1) := dk_46 (dk_at dksX0_find_4 23 rfl rfl)
theorem dX0_find_118 : decode cX0_find 118 = .ok (.iload 6, 2) := dk_21 6 (dk_at dksX0_find_5 0 rfl rfl)
theorem dX0_find_120 : decode cX0_find 120 = .ok (.if_icmp .ne 6, 3) := dk_160 0 6 (dk_at dksX0_find_5 2 rfl rfl)
theorem dX0_find_123 : decode cX0_find 123 = .ok (.iload 7, 2) := dk_21 7 (dk_at dksX0_find_5 5 rfl rfl)
theorem dX0_find_125 : decode cX0_find 125 = .ok (.ireturn, 1) := dk_172 (dk_at dksX0_find_5 7 rfl rfl)
theorem dX0_find_126 : decode cX0_find 126 = .ok (.iinc 7 1, 3) := dk_132 7 1 (dk_at dksX0_find_5 8 rfl rfl)
theorem dX0_find_129 : decode cX0_find 129 = .ok (.goto (-27), 3) := dk_167 255 229 (dk_at dksX0_find_5 11 rfl rfl)
theorem dX0_find_132 : decode cX0_find 132 = .ok (.aload_n 0, 1) := dk_42 (dk_at dksX0_find_5 14 rfl rfl)
theorem dX0_find_133 : decode cX0_find 133 = .ok (.getfield 94, 3) := dk_180 0 94 (dk_at dksX0_find_5 15 rfl rfl)
theorem dX0_find_136 : decode cX0_find 136 = .ok (.bipush 60, 2) := dk_16 60 (dk_at dksX0_find_5 18 rfl rfl)
theorem dX0_find_138 : decode cX0_find 138 = .ok (.if_icmp .ne 11, 3) := dk_160 0 11 (dk_at dksX0_find_5 20 rfl rfl)
theorem dX0_find_141 : decode cX0_find 141 = .ok (.aload_n 0, 1) := dk_42 (dk_at dksX0_find_5 23 rfl rfl)
theorem dX0_find_142 : decode cX0_find 142 = .ok (.iconst 1, 1) := dk_4 (dk_at dksX0_find_6 0 rfl rfl)
theorem dX0_find_143 : decode cX0_find 143 = .ok (.putfield 183, 3) := dk_181 0 183 (dk_at dksX0_find_6 1 rfl rfl)
theorem dX0_find_146 : decode cX0_find 146 = .ok (.bipush (-6), 2) := dk_16 250 (dk_at dksX0_find_6 4 rfl rfl)
theorem dX0_find_148 : decode cX0_find 148 = .ok (.ireturn, 1) := dk_172 (dk_at dksX0_find_6 6 rfl rfl)
theorem dX0_find_149 : decode cX0_find 149 = .ok (.aload_n 0, 1) := dk_42 (dk_at dksX0_find_6 7 rfl rfl)
theorem dX0_find_150 : decode cX0_find 150 = .ok (.getfield 94, 3) := dk_180 0 94 (dk_at dksX0_find_6 8 rfl rfl)
theorem dX0_find_153 : decode cX0_find 153 = .ok (.istore 7, 2) := dk_54 7 (dk_at dksX0_find_6 11 rfl rfl)
theorem dX0_find_155 : decode cX0_find 155 = .ok (.aload_n 0, 1) := dk_42 (dk_at dksX0_find_6 13 rfl rfl)
theorem dX0_find_156 : decode cX0_find 156 = .ok (.getfield 42, 3) := dk_180 0 42 (dk_at dksX0_find_6 14 rfl rfl)
theorem dX0_find_159 : decode cX0_find 159 = .ok (.iload 7, 2) := dk_21 7 (dk_at dksX0_find_6 17 rfl rfl)
theorem dX0_find_161 : decode cX0_find 161 = .ok (.iload 6, 2) := dk_21 6 (dk_at dksX0_find_6 19 rfl rfl)
theorem dX0_find_163 : decode cX0_find 163 = .ok (.iastore, 1) := dk_79 (dk_at dksX0_find_6 21 rfl rfl)
theorem dX0_find_164 : decode cX0_find 164 = .ok (.aload_n 0, 1) := dk_42 (dk_at dksX0_find_6 22 rfl rfl)
theorem dX0_find_165 : decode cX0_find 165 = .ok (.dup, 1) := dk_89 (dk_at dksX0_find_6 23 rfl rfl)
theorem dX0_find_166 : decode cX0_find 166 = .ok (.getfield 94, 3) := dk_180 0 94 (dk_at dksX0_find_7 0 rfl rfl)
theorem dX0_find_169 : decode cX0_find 169 = .ok (.iconst 1, 1) := dk_4 (dk_at dksX0_find_7 3 rfl rfl)
theorem dX0_find_170 : decode cX0_find 170 = .ok (.iadd, 1) := dk_96 (dk_at dksX0_find_7 4 rfl rfl)
theorem dX0_find_171 : decode cX0_find 171 = .ok (.putfield 94, 3) := dk_181 0 94 (dk_at dksX0_find_7 5 rfl rfl)
theorem dX0_find_174 : decode cX0_find 174 = .ok (.aload_n 0, 1) := dk_42 (dk_at dksX0_find_7 8 rfl rfl)
theorem dX0_find_175 : decode cX0_find 175 = .ok (.aload_n 0, 1) := dk_42 (dk_at dksX0_find_7 9 rfl rfl)
theorem dX0_find_176 : decode cX0_find 176 = .ok (.getfield 11, 3) := dk_180 0 11 (dk_at dksX0_find_7 10 rfl rfl)
theorem dX0_find_179 : decode cX0_find 179 = .ok (.iload 7, 2) := dk_21 7 (dk_at dksX0_find_7 13 rfl rfl)
theorem dX0_find_181 : decode cX0_find 181 = .ok (.aaload, 1) := dk_50 (dk_at dksX0_find_7 15 rfl rfl)
theorem dX0_find_182 : decode cX0_find 182 = .ok (.iload_n 1, 1) := dk_27 (dk_at dksX0_find_7 16 rfl rfl)
theorem dX0_find_183 : decode cX0_find 183 = .ok (.iload_n 2, 1) := dk_28 (dk_at dksX0_find_7 17 rfl rfl)
theorem dX0_find_184 : decode cX0_find 184 = .ok (.iload_n 3, 1) := dk_29 (dk_at dksX0_find_7 18 rfl rfl)
theorem dX0_find_185 : decode cX0_find 185 = .ok (.invokevirtual 186, 3) := dk_182 0 186 (dk_at dksX0_find_7 19 rfl rfl)
theorem dX0_find_188 : decode cX0_find 188 = .ok (.iload 7, 2) := dk_21 7 (dk_at dksX0_find_7 22 rfl rfl)
theorem dX0_find_190 : decode cX0_find 190 = .ok (.ireturn, 1) := dk_172 (dk_at dksX0_find_8 0 rfl rfl)
abbrev cX0_lay : ByteArray := prog_1_method_25_code
def yX0_lay : MethodName := ⟨RX0, "lay", "(LKindNets$Kind;IIZ)V"⟩
def dkwX0_lay_11 : List UInt8 := [79, 132, 7, 1, 167, 255, 49, 177]
abbrev dktX0_lay_11 : List UInt8 := dkwX0_lay_11 ++ []
def dkwX0_lay_10 : List UInt8 := [25, 5, 180, 0, 113, 21, 7, 46, 167, 0, 16, 25, 6, 180, 0, 113, 21, 7, 46, 167, 0, 5, 16, 250]
abbrev dktX0_lay_10 : List UInt8 := dkwX0_lay_10 ++ dktX0_lay_11
def dkwX0_lay_9 : List UInt8 := [3, 54, 8, 43, 180, 0, 113, 21, 7, 21, 8, 153, 0, 35, 25, 5, 21, 7, 182, 0, 148, 153, 0, 14]
abbrev dktX0_lay_9 : List UInt8 := dkwX0_lay_9 ++ dktX0_lay_10
def dkwX0_lay_8 : List UInt8 := [25, 5, 180, 0, 101, 16, 123, 160, 0, 7, 4, 167, 0, 4, 3, 21, 4, 159, 0, 7, 4, 167, 0, 4]
abbrev dktX0_lay_8 : List UInt8 := dkwX0_lay_8 ++ dktX0_lay_9
def dkwX0_lay_7 : List UInt8 := [79, 167, 0, 96, 25, 5, 21, 7, 182, 0, 148, 154, 0, 13, 25, 6, 21, 7, 182, 0, 148, 153, 0, 76]
abbrev dktX0_lay_7 : List UInt8 := dkwX0_lay_7 ++ dktX0_lay_8
def dkwX0_lay_6 : List UInt8 := [46, 25, 6, 180, 0, 113, 21, 7, 46, 21, 4, 21, 8, 159, 0, 7, 4, 167, 0, 4, 3, 182, 0, 190]
abbrev dktX0_lay_6 : List UInt8 := dkwX0_lay_6 ++ dktX0_lay_7
def dkwX0_lay_5 : List UInt8 := [154, 0, 7, 4, 167, 0, 4, 3, 54, 8, 43, 180, 0, 113, 21, 7, 42, 25, 5, 180, 0, 113, 21, 7]
abbrev dktX0_lay_5 : List UInt8 := dkwX0_lay_5 ++ dktX0_lay_6
def dkwX0_lay_4 : List UInt8 := [25, 6, 21, 7, 182, 0, 148, 153, 0, 67, 25, 5, 180, 0, 101, 16, 62, 160, 0, 12, 21, 7]
abbrev dktX0_lay_4 : List UInt8 := dkwX0_lay_4 ++ dktX0_lay_5
def dkwX0_lay_3 : List UInt8 := [180, 0, 101, 160, 0, 193, 42, 180, 0, 183, 154, 0, 186, 25, 5, 21, 7, 182, 0, 148, 153, 0, 77]
abbrev dktX0_lay_3 : List UInt8 := dkwX0_lay_3 ++ dktX0_lay_4
def dkwX0_lay_2 : List UInt8 := [16, 33, 182, 0, 109, 3, 54, 7, 21, 7, 16, 8, 162, 0, 206, 25, 5, 180, 0, 101, 25, 6]
abbrev dktX0_lay_2 : List UInt8 := dkwX0_lay_2 ++ dktX0_lay_3
def dkwX0_lay_1 : List UInt8 := [180, 0, 101, 160, 0, 11, 25, 5, 180, 0, 101, 167, 0, 15, 21, 4, 153, 0, 8, 16, 46, 167, 0, 5]
abbrev dktX0_lay_1 : List UInt8 := dkwX0_lay_1 ++ dktX0_lay_2
def dkwX0_lay_0 : List UInt8 := [42, 180, 0, 11, 28, 50, 58, 5, 42, 180, 0, 11, 29, 50, 58, 6, 43, 25, 5, 180, 0, 101, 25, 6]
abbrev dktX0_lay_0 : List UInt8 := dkwX0_lay_0 ++ dktX0_lay_1
theorem dksX0_lay_0 : cX0_lay.data.toList.drop 0 = dktX0_lay_0 := by decide +kernel
theorem dksX0_lay_1 : cX0_lay.data.toList.drop 24 = dktX0_lay_1 := dk_seg dksX0_lay_0 24 rfl rfl
theorem dksX0_lay_2 : cX0_lay.data.toList.drop 48 = dktX0_lay_2 := dk_seg dksX0_lay_1 24 rfl rfl
theorem dksX0_lay_3 : cX0_lay.data.toList.drop 70 = dktX0_lay_3 := dk_seg dksX0_lay_2 22 rfl rfl
theorem dksX0_lay_4 : cX0_lay.data.toList.drop 93 = dktX0_lay_4 := dk_seg dksX0_lay_3 23 rfl rfl
theorem dksX0_lay_5 : cX0_lay.data.toList.drop 115 = dktX0_lay_5 := dk_seg dksX0_lay_4 22 rfl rfl
theorem dksX0_lay_6 : cX0_lay.data.toList.drop 139 = dktX0_lay_6 := dk_seg dksX0_lay_5 24 rfl rfl
theorem dksX0_lay_7 : cX0_lay.data.toList.drop 163 = dktX0_lay_7 := dk_seg dksX0_lay_6 24 rfl rfl
theorem dksX0_lay_8 : cX0_lay.data.toList.drop 187 = dktX0_lay_8 := dk_seg dksX0_lay_7 24 rfl rfl
theorem dksX0_lay_9 : cX0_lay.data.toList.drop 211 = dktX0_lay_9 := dk_seg dksX0_lay_8 24 rfl rfl
theorem dksX0_lay_10 : cX0_lay.data.toList.drop 235 = dktX0_lay_10 := dk_seg dksX0_lay_9 24 rfl rfl
theorem dksX0_lay_11 : cX0_lay.data.toList.drop 259 = dktX0_lay_11 := dk_seg dksX0_lay_10 24 rfl rfl
theorem dX0_lay_0 : decode cX0_lay 0 = .ok (.aload_n 0, 1) := dk_42 (dk_at dksX0_lay_0 0 rfl rfl)
theorem dX0_lay_1 : decode cX0_lay 1 = .ok (.getfield 11, 3) := dk_180 0 11 (dk_at dksX0_lay_0 1 rfl rfl)
theorem dX0_lay_4 : decode cX0_lay 4 = .ok (.iload_n 2, 1) := dk_28 (dk_at dksX0_lay_0 4 rfl rfl)
theorem dX0_lay_5 : decode cX0_lay 5 = .ok (.aaload, 1) := dk_50 (dk_at dksX0_lay_0 5 rfl rfl)
theorem dX0_lay_6 : decode cX0_lay 6 = .ok (.astore 5, 2) := dk_58 5 (dk_at dksX0_lay_0 6 rfl rfl)
theorem dX0_lay_8 : decode cX0_lay 8 = .ok (.aload_n 0, 1) := dk_42 (dk_at dksX0_lay_0 8 rfl rfl)
theorem dX0_lay_9 : decode cX0_lay 9 = .ok (.getfield 11, 3) := dk_180 0 11 (dk_at dksX0_lay_0 9 rfl rfl)
theorem dX0_lay_12 : decode cX0_lay 12 = .ok (.iload_n 3, 1) := dk_29 (dk_at dksX0_lay_0 12 rfl rfl)
theorem dX0_lay_13 : decode cX0_lay 13 = .ok (.aaload, 1) := dk_50 (dk_at dksX0_lay_0 13 rfl rfl)
theorem dX0_lay_14 : decode cX0_lay 14 = .ok (.astore 6, 2) := dk_58 6 (dk_at dksX0_lay_0 14 rfl rfl)
theorem dX0_lay_16 : decode cX0_lay 16 = .ok (.aload_n 1, 1) := dk_43 (dk_at dksX0_lay_0 16 rfl rfl)
theorem dX0_lay_17 : decode cX0_lay 17 = .ok (.aload 5, 2) := dk_25 5 (dk_at dksX0_lay_0 17 rfl rfl)
theorem dX0_lay_19 : decode cX0_lay 19 = .ok (.getfield 101, 3) := dk_180 0 101 (dk_at dksX0_lay_0 19 rfl rfl)
theorem dX0_lay_22 : decode cX0_lay 22 = .ok (.aload 6, 2) := dk_25 6 (dk_at dksX0_lay_0 22 rfl rfl)
theorem dX0_lay_24 : decode cX0_lay 24 = .ok (.getfield 101, 3) := dk_180 0 101 (dk_at dksX0_lay_1 0 rfl rfl)
theorem dX0_lay_27 : decode cX0_lay 27 = .ok (.if_icmp .ne 11, 3) := dk_160 0 11 (dk_at dksX0_lay_1 3 rfl rfl)
theorem dX0_lay_30 : decode cX0_lay 30 = .ok (.aload 5, 2) := dk_25 5 (dk_at dksX0_lay_1 6 rfl rfl)
theorem dX0_lay_32 : decode cX0_lay 32 = .ok (.getfield 101, 3) := dk_180 0 101 (dk_at dksX0_lay_1 8 rfl rfl)
theorem dX0_lay_35 : decode cX0_lay 35 = .ok (.goto 15, 3) := dk_167 0 15 (dk_at dksX0_lay_1 11 rfl rfl)
theorem dX0_lay_38 : decode cX0_lay 38 = .ok (.iload 4, 2) := dk_21 4 (dk_at dksX0_lay_1 14 rfl rfl)
theorem dX0_lay_40 : decode cX0_lay 40 = .ok (.ifCond .eq 8, 3) := dk_153 0 8 (dk_at dksX0_lay_1 16 rfl rfl)
theorem dX0_lay_43 : decode cX0_lay 43 = .ok (.bipush 46, 2) := dk_16 46 (dk_at dksX0_lay_1 19 rfl rfl)
theorem dX0_lay_45 : decode cX0_lay 45 = .ok (.goto 5, 3) := dk_167 0 5 (dk_at dksX0_lay_1 21 rfl rfl)
theorem dX0_lay_48 : decode cX0_lay 48 = .ok (.bipush 33, 2) := dk_16 33 (dk_at dksX0_lay_2 0 rfl rfl)
theorem dX0_lay_50 : decode cX0_lay 50 = .ok (.invokevirtual 109, 3) := dk_182 0 109 (dk_at dksX0_lay_2 2 rfl rfl)
theorem dX0_lay_53 : decode cX0_lay 53 = .ok (.iconst 0, 1) := dk_3 (dk_at dksX0_lay_2 5 rfl rfl)
theorem dX0_lay_54 : decode cX0_lay 54 = .ok (.istore 7, 2) := dk_54 7 (dk_at dksX0_lay_2 6 rfl rfl)
theorem dX0_lay_56 : decode cX0_lay 56 = .ok (.iload 7, 2) := dk_21 7 (dk_at dksX0_lay_2 8 rfl rfl)
theorem dX0_lay_58 : decode cX0_lay 58 = .ok (.bipush 8, 2) := dk_16 8 (dk_at dksX0_lay_2 10 rfl rfl)
theorem dX0_lay_60 : decode cX0_lay 60 = .ok (.if_icmp .ge 206, 3) := dk_162 0 206 (dk_at dksX0_lay_2 12 rfl rfl)
theorem dX0_lay_63 : decode cX0_lay 63 = .ok (.aload 5, 2) := dk_25 5 (dk_at dksX0_lay_2 15 rfl rfl)
theorem dX0_lay_65 : decode cX0_lay 65 = .ok (.getfield 101, 3) := dk_180 0 101 (dk_at dksX0_lay_2 17 rfl rfl)
theorem dX0_lay_68 : decode cX0_lay 68 = .ok (.aload 6, 2) := dk_25 6 (dk_at dksX0_lay_2 20 rfl rfl)
theorem dX0_lay_70 : decode cX0_lay 70 = .ok (.getfield 101, 3) := dk_180 0 101 (dk_at dksX0_lay_3 0 rfl rfl)
theorem dX0_lay_73 : decode cX0_lay 73 = .ok (.if_icmp .ne 193, 3) := dk_160 0 193 (dk_at dksX0_lay_3 3 rfl rfl)
theorem dX0_lay_76 : decode cX0_lay 76 = .ok (.aload_n 0, 1) := dk_42 (dk_at dksX0_lay_3 6 rfl rfl)
theorem dX0_lay_77 : decode cX0_lay 77 = .ok (.getfield 183, 3) := dk_180 0 183 (dk_at dksX0_lay_3 7 rfl rfl)
theorem dX0_lay_80 : decode cX0_lay 80 = .ok (.ifCond .ne 186, 3) := dk_154 0 186 (dk_at dksX0_lay_3 10 rfl rfl)
theorem dX0_lay_83 : decode cX0_lay 83 = .ok (.aload 5, 2) := dk_25 5 (dk_at dksX0_lay_3 13 rfl rfl)
theorem dX0_lay_85 : decode cX0_lay 85 = .ok (.iload 7, 2) := dk_21 7 (dk_at dksX0_lay_3 15 rfl rfl)
theorem dX0_lay_87 : decode cX0_lay 87 = .ok (.invokevirtual 148, 3) := dk_182 0 148 (dk_at dksX0_lay_3 17 rfl rfl)
theorem dX0_lay_90 : decode cX0_lay 90 = .ok (.ifCond .eq 77, 3) := dk_153 0 77 (dk_at dksX0_lay_3 20 rfl rfl)
theorem dX0_lay_93 : decode cX0_lay 93 = .ok (.aload 6, 2) := dk_25 6 (dk_at dksX0_lay_4 0 rfl rfl)
theorem dX0_lay_95 : decode cX0_lay 95 = .ok (.iload 7, 2) := dk_21 7 (dk_at dksX0_lay_4 2 rfl rfl)
theorem dX0_lay_97 : decode cX0_lay 97 = .ok (.invokevirtual 148, 3) := dk_182 0 148 (dk_at dksX0_lay_4 4 rfl rfl)
theorem dX0_lay_100 : decode cX0_lay 100 = .ok (.ifCond .eq 67, 3) := dk_153 0 67 (dk_at dksX0_lay_4 7 rfl rfl)
theorem dX0_lay_103 : decode cX0_lay 103 = .ok (.aload 5, 2) := dk_25 5 (dk_at dksX0_lay_4 10 rfl rfl)
theorem dX0_lay_105 : decode cX0_lay 105 = .ok (.getfield 101, 3) := dk_180 0 101 (dk_at dksX0_lay_4 12 rfl rfl)
theorem dX0_lay_108 : decode cX0_lay 108 = .ok (.bipush 62, 2) := dk_16 62 (dk_at dksX0_lay_4 15 rfl rfl)
theorem dX0_lay_110 : decode cX0_lay 110 = .ok (.if_icmp .ne 12, 3) := dk_160 0 12 (dk_at dksX0_lay_4 17 rfl rfl)
theorem dX0_lay_113 : decode cX0_lay 113 = .ok (.iload 7, 2) := dk_21 7 (dk_at dksX0_lay_4 20 rfl rfl)
theorem dX0_lay_115 : decode cX0_lay 115 = .ok (.ifCond .ne 7, 3) := dk_154 0 7 (dk_at dksX0_lay_5 0 rfl rfl)
theorem dX0_lay_118 : decode cX0_lay 118 = .ok (.iconst 1, 1) := dk_4 (dk_at dksX0_lay_5 3 rfl rfl)
theorem dX0_lay_119 : decode cX0_lay 119 = .ok (.goto 4, 3) := dk_167 0 4 (dk_at dksX0_lay_5 4 rfl rfl)
theorem dX0_lay_122 : decode cX0_lay 122 = .ok (.iconst 0, 1) := dk_3 (dk_at dksX0_lay_5 7 rfl rfl)
theorem dX0_lay_123 : decode cX0_lay 123 = .ok (.istore 8, 2) := dk_54 8 (dk_at dksX0_lay_5 8 rfl rfl)
theorem dX0_lay_125 : decode cX0_lay 125 = .ok (.aload_n 1, 1) := dk_43 (dk_at dksX0_lay_5 10 rfl rfl)
theorem dX0_lay_126 : decode cX0_lay 126 = .ok (.getfield 113, 3) := dk_180 0 113 (dk_at dksX0_lay_5 11 rfl rfl)
theorem dX0_lay_129 : decode cX0_lay 129 = .ok (.iload 7, 2) := dk_21 7 (dk_at dksX0_lay_5 14 rfl rfl)
theorem dX0_lay_131 : decode cX0_lay 131 = .ok (.aload_n 0, 1) := dk_42 (dk_at dksX0_lay_5 16 rfl rfl)
theorem dX0_lay_132 : decode cX0_lay 132 = .ok (.aload 5, 2) := dk_25 5 (dk_at dksX0_lay_5 17 rfl rfl)
theorem dX0_lay_134 : decode cX0_lay 134 = .ok (.getfield 113, 3) := dk_180 0 113 (dk_at dksX0_lay_5 19 rfl rfl)
theorem dX0_lay_137 : decode cX0_lay 137 = .ok (.iload 7, 2) := dk_21 7 (dk_at dksX0_lay_5 22 rfl rfl)
theorem dX0_lay_139 : decode cX0_lay 139 = .ok (.iaload, 1) := dk_46 (dk_at dksX0_lay_6 0 rfl rfl)
theorem dX0_lay_140 : decode cX0_lay 140 = .ok (.aload 6, 2) := dk_25 6 (dk_at dksX0_lay_6 1 rfl rfl)
theorem dX0_lay_142 : decode cX0_lay 142 = .ok (.getfield 113, 3) := dk_180 0 113 (dk_at dksX0_lay_6 3 rfl rfl)
theorem dX0_lay_145 : decode cX0_lay 145 = .ok (.iload 7, 2) := dk_21 7 (dk_at dksX0_lay_6 6 rfl rfl)
theorem dX0_lay_147 : decode cX0_lay 147 = .ok (.iaload, 1) := dk_46 (dk_at dksX0_lay_6 8 rfl rfl)
theorem dX0_lay_148 : decode cX0_lay 148 = .ok (.iload 4, 2) := dk_21 4 (dk_at dksX0_lay_6 9 rfl rfl)
theorem dX0_lay_150 : decode cX0_lay 150 = .ok (.iload 8, 2) := dk_21 8 (dk_at dksX0_lay_6 11 rfl rfl)
theorem dX0_lay_152 : decode cX0_lay 152 = .ok (.if_icmp .eq 7, 3) := dk_159 0 7 (dk_at dksX0_lay_6 13 rfl rfl)
theorem dX0_lay_155 : decode cX0_lay 155 = .ok (.iconst 1, 1) := dk_4 (dk_at dksX0_lay_6 16 rfl rfl)
theorem dX0_lay_156 : decode cX0_lay 156 = .ok (.goto 4, 3) := dk_167 0 4 (dk_at dksX0_lay_6 17 rfl rfl)
theorem dX0_lay_159 : decode cX0_lay 159 = .ok (.iconst 0, 1) := dk_3 (dk_at dksX0_lay_6 20 rfl rfl)
theorem dX0_lay_160 : decode cX0_lay 160 = .ok (.invokevirtual 190, 3) := dk_182 0 190 (dk_at dksX0_lay_6 21 rfl rfl)
theorem dX0_lay_163 : decode cX0_lay 163 = .ok (.iastore, 1) := dk_79 (dk_at dksX0_lay_7 0 rfl rfl)
theorem dX0_lay_164 : decode cX0_lay 164 = .ok (.goto 96, 3) := dk_167 0 96 (dk_at dksX0_lay_7 1 rfl rfl)
theorem dX0_lay_167 : decode cX0_lay 167 = .ok (.aload 5, 2) := dk_25 5 (dk_at dksX0_lay_7 4 rfl rfl)
theorem dX0_lay_169 : decode cX0_lay 169 = .ok (.iload 7, 2) := dk_21 7 (dk_at dksX0_lay_7 6 rfl rfl)
theorem dX0_lay_171 : decode cX0_lay 171 = .ok (.invokevirtual 148, 3) := dk_182 0 148 (dk_at dksX0_lay_7 8 rfl rfl)
theorem dX0_lay_174 : decode cX0_lay 174 = .ok (.ifCond .ne 13, 3) := dk_154 0 13 (dk_at dksX0_lay_7 11 rfl rfl)
theorem dX0_lay_177 : decode cX0_lay 177 = .ok (.aload 6, 2) := dk_25 6 (dk_at dksX0_lay_7 14 rfl rfl)
theorem dX0_lay_179 : decode cX0_lay 179 = .ok (.iload 7, 2) := dk_21 7 (dk_at dksX0_lay_7 16 rfl rfl)
theorem dX0_lay_181 : decode cX0_lay 181 = .ok (.invokevirtual 148, 3) := dk_182 0 148 (dk_at dksX0_lay_7 18 rfl rfl)
theorem dX0_lay_184 : decode cX0_lay 184 = .ok (.ifCond .eq 76, 3) := dk_153 0 76 (dk_at dksX0_lay_7 21 rfl rfl)
theorem dX0_lay_187 : decode cX0_lay 187 = .ok (.aload 5, 2) := dk_25 5 (dk_at dksX0_lay_8 0 rfl rfl)
theorem dX0_lay_189 : decode cX0_lay 189 = .ok (.getfield 101, 3) := dk_180 0 101 (dk_at dksX0_lay_8 2 rfl rfl)
theorem dX0_lay_192 : decode cX0_lay 192 = .ok (.bipush 123, 2) := dk_16 123 (dk_at dksX0_lay_8 5 rfl rfl)
theorem dX0_lay_194 : decode cX0_lay 194 = .ok (.if_icmp .ne 7, 3) := dk_160 0 7 (dk_at dksX0_lay_8 7 rfl rfl)
theorem dX0_lay_197 : decode cX0_lay 197 = .ok (.iconst 1, 1) := dk_4 (dk_at dksX0_lay_8 10 rfl rfl)
theorem dX0_lay_198 : decode cX0_lay 198 = .ok (.goto 4, 3) := dk_167 0 4 (dk_at dksX0_lay_8 11 rfl rfl)
theorem dX0_lay_201 : decode cX0_lay 201 = .ok (.iconst 0, 1) := dk_3 (dk_at dksX0_lay_8 14 rfl rfl)
theorem dX0_lay_202 : decode cX0_lay 202 = .ok (.iload 4, 2) := dk_21 4 (dk_at dksX0_lay_8 15 rfl rfl)
theorem dX0_lay_204 : decode cX0_lay 204 = .ok (.if_icmp .eq 7, 3) := dk_159 0 7 (dk_at dksX0_lay_8 17 rfl rfl)
theorem dX0_lay_207 : decode cX0_lay 207 = .ok (.iconst 1, 1) := dk_4 (dk_at dksX0_lay_8 20 rfl rfl)
theorem dX0_lay_208 : decode cX0_lay 208 = .ok (.goto 4, 3) := dk_167 0 4 (dk_at dksX0_lay_8 21 rfl rfl)
theorem dX0_lay_211 : decode cX0_lay 211 = .ok (.iconst 0, 1) := dk_3 (dk_at dksX0_lay_9 0 rfl rfl)
theorem dX0_lay_212 : decode cX0_lay 212 = .ok (.istore 8, 2) := dk_54 8 (dk_at dksX0_lay_9 1 rfl rfl)
theorem dX0_lay_214 : decode cX0_lay 214 = .ok (.aload_n 1, 1) := dk_43 (dk_at dksX0_lay_9 3 rfl rfl)
theorem dX0_lay_215 : decode cX0_lay 215 = .ok (.getfield 113, 3) := dk_180 0 113 (dk_at dksX0_lay_9 4 rfl rfl)
theorem dX0_lay_218 : decode cX0_lay 218 = .ok (.iload 7, 2) := dk_21 7 (dk_at dksX0_lay_9 7 rfl rfl)
theorem dX0_lay_220 : decode cX0_lay 220 = .ok (.iload 8, 2) := dk_21 8 (dk_at dksX0_lay_9 9 rfl rfl)
theorem dX0_lay_222 : decode cX0_lay 222 = .ok (.ifCond .eq 35, 3) := dk_153 0 35 (dk_at dksX0_lay_9 11 rfl rfl)
theorem dX0_lay_225 : decode cX0_lay 225 = .ok (.aload 5, 2) := dk_25 5 (dk_at dksX0_lay_9 14 rfl rfl)
theorem dX0_lay_227 : decode cX0_lay 227 = .ok (.iload 7, 2) := dk_21 7 (dk_at dksX0_lay_9 16 rfl rfl)
theorem dX0_lay_229 : decode cX0_lay 229 = .ok (.invokevirtual 148, 3) := dk_182 0 148 (dk_at dksX0_lay_9 18 rfl rfl)
theorem dX0_lay_232 : decode cX0_lay 232 = .ok (.ifCond .eq 14, 3) := dk_153 0 14 (dk_at dksX0_lay_9 21 rfl rfl)
theorem dX0_lay_235 : decode cX0_lay 235 = .ok (.aload 5, 2) := dk_25 5 (dk_at dksX0_lay_10 0 rfl rfl)
theorem dX0_lay_237 : decode cX0_lay 237 = .ok (.getfield 113, 3) := dk_180 0 113 (dk_at dksX0_lay_10 2 rfl rfl)
theorem dX0_lay_240 : decode cX0_lay 240 = .ok (.iload 7, 2) := dk_21 7 (dk_at dksX0_lay_10 5 rfl rfl)
theorem dX0_lay_242 : decode cX0_lay 242 = .ok (.iaload, 1) := dk_46 (dk_at dksX0_lay_10 7 rfl rfl)
theorem dX0_lay_243 : decode cX0_lay 243 = .ok (.goto 16, 3) := dk_167 0 16 (dk_at dksX0_lay_10 8 rfl rfl)
theorem dX0_lay_246 : decode cX0_lay 246 = .ok (.aload 6, 2) := dk_25 6 (dk_at dksX0_lay_10 11 rfl rfl)
theorem dX0_lay_248 : decode cX0_lay 248 = .ok (.getfield 113, 3) := dk_180 0 113 (dk_at dksX0_lay_10 13 rfl rfl)
theorem dX0_lay_251 : decode cX0_lay 251 = .ok (.iload 7, 2) := dk_21 7 (dk_at dksX0_lay_10 16 rfl rfl)
theorem dX0_lay_253 : decode cX0_lay 253 = .ok (.iaload, 1) := dk_46 (dk_at dksX0_lay_10 18 rfl rfl)
theorem dX0_lay_254 : decode cX0_lay 254 = .ok (.goto 5, 3) := dk_167 0 5 (dk_at dksX0_lay_10 19 rfl rfl)
theorem dX0_lay_257 : decode cX0_lay 257 = .ok (.bipush (-6), 2) := dk_16 250 (dk_at dksX0_lay_10 22 rfl rfl)
theorem dX0_lay_259 : decode cX0_lay 259 = .ok (.iastore, 1) := dk_79 (dk_at dksX0_lay_11 0 rfl rfl)
theorem dX0_lay_260 : decode cX0_lay 260 = .ok (.iinc 7 1, 3) := dk_132 7 1 (dk_at dksX0_lay_11 1 rfl rfl)
theorem dX0_lay_263 : decode cX0_lay 263 = .ok (.goto (-207), 3) := dk_167 255 49 (dk_at dksX0_lay_11 4 rfl rfl)
theorem dX0_lay_266 : decode cX0_lay 266 = .ok (.return_, 1) := dk_177 (dk_at dksX0_lay_11 7 rfl rfl)
abbrev cX0_slip : ByteArray := prog_1_method_27_code
def yX0_slip : MethodName := ⟨RX0, "slip", "()I"⟩
def dkwX0_slip_0 : List UInt8 := [42, 180, 0, 48, 42, 180, 0, 19, 42, 180, 0, 76, 182, 0, 194, 172]
abbrev dktX0_slip_0 : List UInt8 := dkwX0_slip_0 ++ []
theorem dksX0_slip_0 : cX0_slip.data.toList.drop 0 = dktX0_slip_0 := by decide +kernel
theorem dX0_slip_0 : decode cX0_slip 0 = .ok (.aload_n 0, 1) := dk_42 (dk_at dksX0_slip_0 0 rfl rfl)
theorem dX0_slip_1 : decode cX0_slip 1 = .ok (.getfield 48, 3) := dk_180 0 48 (dk_at dksX0_slip_0 1 rfl rfl)
theorem dX0_slip_4 : decode cX0_slip 4 = .ok (.aload_n 0, 1) := dk_42 (dk_at dksX0_slip_0 4 rfl rfl)
theorem dX0_slip_5 : decode cX0_slip 5 = .ok (.getfield 19, 3) := dk_180 0 19 (dk_at dksX0_slip_0 5 rfl rfl)
theorem dX0_slip_8 : decode cX0_slip 8 = .ok (.aload_n 0, 1) := dk_42 (dk_at dksX0_slip_0 8 rfl rfl)
theorem dX0_slip_9 : decode cX0_slip 9 = .ok (.getfield 76, 3) := dk_180 0 76 (dk_at dksX0_slip_0 9 rfl rfl)
theorem dX0_slip_12 : decode cX0_slip 12 = .ok (.invokevirtual 194, 3) := dk_182 0 194 (dk_at dksX0_slip_0 12 rfl rfl)
theorem dX0_slip_15 : decode cX0_slip 15 = .ok (.ireturn, 1) := dk_172 (dk_at dksX0_slip_0 15 rfl rfl)
abbrev cX0_fits : ByteArray := prog_1_method_32_code
def yX0_fits : MethodName := ⟨RX0, "fits", "(I)I"⟩
def dkwX0_fits_7 : List UInt8 := [160, 0, 8, 16, 250, 167, 0, 4, 28, 172]
abbrev dktX0_fits_7 : List UInt8 := dkwX0_fits_7 ++ []
def dkwX0_fits_6 : List UInt8 := [21, 5, 28, 162, 0, 8, 21, 5, 167, 0, 4, 28, 61, 132, 3, 1, 167, 255, 126, 28, 16, 100]
abbrev dktX0_fits_6 : List UInt8 := dkwX0_fits_6 ++ dktX0_fits_7
def dkwX0_fits_5 : List UInt8 := [61, 21, 4, 153, 0, 11, 42, 29, 182, 0, 221, 167, 0, 5, 16, 250, 54, 5, 21, 5, 155, 0, 14]
abbrev dktX0_fits_5 : List UInt8 := dkwX0_fits_5 ++ dktX0_fits_6
def dkwX0_fits_4 : List UInt8 := [167, 0, 4, 3, 54, 4, 21, 4, 153, 0, 7, 28, 167, 0, 12, 42, 180, 0, 48, 180, 0, 195, 29, 46]
abbrev dktX0_fits_4 : List UInt8 := dkwX0_fits_4 ++ dktX0_fits_5
def dkwX0_fits_3 : List UInt8 := [159, 0, 22, 42, 42, 180, 0, 11, 42, 180, 0, 52, 29, 46, 50, 29, 182, 0, 217, 153, 0, 7, 4]
abbrev dktX0_fits_3 : List UInt8 := dkwX0_fits_3 ++ dktX0_fits_4
def dkwX0_fits_2 : List UInt8 := [164, 0, 112, 42, 180, 0, 52, 29, 42, 29, 27, 182, 0, 214, 79, 42, 180, 0, 52, 29, 46, 16, 250]
abbrev dktX0_fits_2 : List UInt8 := dkwX0_fits_2 ++ dktX0_fits_3
def dkwX0_fits_1 : List UInt8 := [62, 29, 42, 180, 0, 48, 180, 0, 207, 162, 0, 125, 28, 42, 180, 0, 48, 180, 0, 195, 29, 46]
abbrev dktX0_fits_1 : List UInt8 := dkwX0_fits_1 ++ dktX0_fits_2
def dkwX0_fits_0 : List UInt8 := [42, 27, 182, 0, 132, 154, 0, 5, 2, 172, 42, 182, 0, 211, 155, 0, 6, 16, 251, 172, 16, 100, 61, 3]
abbrev dktX0_fits_0 : List UInt8 := dkwX0_fits_0 ++ dktX0_fits_1
theorem dksX0_fits_0 : cX0_fits.data.toList.drop 0 = dktX0_fits_0 := by decide +kernel
theorem dksX0_fits_1 : cX0_fits.data.toList.drop 24 = dktX0_fits_1 := dk_seg dksX0_fits_0 24 rfl rfl
theorem dksX0_fits_2 : cX0_fits.data.toList.drop 46 = dktX0_fits_2 := dk_seg dksX0_fits_1 22 rfl rfl
theorem dksX0_fits_3 : cX0_fits.data.toList.drop 69 = dktX0_fits_3 := dk_seg dksX0_fits_2 23 rfl rfl
theorem dksX0_fits_4 : cX0_fits.data.toList.drop 92 = dktX0_fits_4 := dk_seg dksX0_fits_3 23 rfl rfl
theorem dksX0_fits_5 : cX0_fits.data.toList.drop 116 = dktX0_fits_5 := dk_seg dksX0_fits_4 24 rfl rfl
theorem dksX0_fits_6 : cX0_fits.data.toList.drop 139 = dktX0_fits_6 := dk_seg dksX0_fits_5 23 rfl rfl
theorem dksX0_fits_7 : cX0_fits.data.toList.drop 161 = dktX0_fits_7 := dk_seg dksX0_fits_6 22 rfl rfl
theorem dX0_fits_0 : decode cX0_fits 0 = .ok (.aload_n 0, 1) := dk_42 (dk_at dksX0_fits_0 0 rfl rfl)
theorem dX0_fits_1 : decode cX0_fits 1 = .ok (.iload_n 1, 1) := dk_27 (dk_at dksX0_fits_0 1 rfl rfl)
theorem dX0_fits_2 : decode cX0_fits 2 = .ok (.invokevirtual 132, 3) := dk_182 0 132 (dk_at dksX0_fits_0 2 rfl rfl)
theorem dX0_fits_5 : decode cX0_fits 5 = .ok (.ifCond .ne 5, 3) := dk_154 0 5 (dk_at dksX0_fits_0 5 rfl rfl)
theorem dX0_fits_8 : decode cX0_fits 8 = .ok (.iconst (-1), 1) := dk_2 (dk_at dksX0_fits_0 8 rfl rfl)
theorem dX0_fits_9 : decode cX0_fits 9 = .ok (.ireturn, 1) := dk_172 (dk_at dksX0_fits_0 9 rfl rfl)
theorem dX0_fits_10 : decode cX0_fits 10 = .ok (.aload_n 0, 1) := dk_42 (dk_at dksX0_fits_0 10 rfl rfl)
theorem dX0_fits_11 : decode cX0_fits 11 = .ok (.invokevirtual 211, 3) := dk_182 0 211 (dk_at dksX0_fits_0 11 rfl rfl)
theorem dX0_fits_14 : decode cX0_fits 14 = .ok (.ifCond .lt 6, 3) := dk_155 0 6 (dk_at dksX0_fits_0 14 rfl rfl)
theorem dX0_fits_17 : decode cX0_fits 17 = .ok (.bipush (-5), 2) := dk_16 251 (dk_at dksX0_fits_0 17 rfl rfl)
theorem dX0_fits_19 : decode cX0_fits 19 = .ok (.ireturn, 1) := dk_172 (dk_at dksX0_fits_0 19 rfl rfl)
theorem dX0_fits_20 : decode cX0_fits 20 = .ok (.bipush 100, 2) := dk_16 100 (dk_at dksX0_fits_0 20 rfl rfl)
theorem dX0_fits_22 : decode cX0_fits 22 = .ok (.istore_n 2, 1) := dk_61 (dk_at dksX0_fits_0 22 rfl rfl)
theorem dX0_fits_23 : decode cX0_fits 23 = .ok (.iconst 0, 1) := dk_3 (dk_at dksX0_fits_0 23 rfl rfl)
theorem dX0_fits_24 : decode cX0_fits 24 = .ok (.istore_n 3, 1) := dk_62 (dk_at dksX0_fits_1 0 rfl rfl)
theorem dX0_fits_25 : decode cX0_fits 25 = .ok (.iload_n 3, 1) := dk_29 (dk_at dksX0_fits_1 1 rfl rfl)
theorem dX0_fits_26 : decode cX0_fits 26 = .ok (.aload_n 0, 1) := dk_42 (dk_at dksX0_fits_1 2 rfl rfl)
theorem dX0_fits_27 : decode cX0_fits 27 = .ok (.getfield 48, 3) := dk_180 0 48 (dk_at dksX0_fits_1 3 rfl rfl)
theorem dX0_fits_30 : decode cX0_fits 30 = .ok (.getfield 207, 3) := dk_180 0 207 (dk_at dksX0_fits_1 6 rfl rfl)
theorem dX0_fits_33 : decode cX0_fits 33 = .ok (.if_icmp .ge 125, 3) := dk_162 0 125 (dk_at dksX0_fits_1 9 rfl rfl)
theorem dX0_fits_36 : decode cX0_fits 36 = .ok (.iload_n 2, 1) := dk_28 (dk_at dksX0_fits_1 12 rfl rfl)
theorem dX0_fits_37 : decode cX0_fits 37 = .ok (.aload_n 0, 1) := dk_42 (dk_at dksX0_fits_1 13 rfl rfl)
theorem dX0_fits_38 : decode cX0_fits 38 = .ok (.getfield 48, 3) := dk_180 0 48 (dk_at dksX0_fits_1 14 rfl rfl)
theorem dX0_fits_41 : decode cX0_fits 41 = .ok (.getfield 195, 3) := dk_180 0 195 (dk_at dksX0_fits_1 17 rfl rfl)
theorem dX0_fits_44 : decode cX0_fits 44 = .ok (.iload_n 3, 1) := dk_29 (dk_at dksX0_fits_1 20 rfl rfl)
theorem dX0_fits_45 : decode cX0_fits 45 = .ok (.iaload, 1) := dk_46 (dk_at dksX0_fits_1 21 rfl rfl)
theorem dX0_fits_46 : decode cX0_fits 46 = .ok (.if_icmp .le 112, 3) := dk_164 0 112 (dk_at dksX0_fits_2 0 rfl rfl)
theorem dX0_fits_49 : decode cX0_fits 49 = .ok (.aload_n 0, 1) := dk_42 (dk_at dksX0_fits_2 3 rfl rfl)
theorem dX0_fits_50 : decode cX0_fits 50 = .ok (.getfield 52, 3) := dk_180 0 52 (dk_at dksX0_fits_2 4 rfl rfl)
theorem dX0_fits_53 : decode cX0_fits 53 = .ok (.iload_n 3, 1) := dk_29 (dk_at dksX0_fits_2 7 rfl rfl)
theorem dX0_fits_54 : decode cX0_fits 54 = .ok (.aload_n 0, 1) := dk_42 (dk_at dksX0_fits_2 8 rfl rfl)
theorem dX0_fits_55 : decode cX0_fits 55 = .ok (.iload_n 3, 1) := dk_29 (dk_at dksX0_fits_2 9 rfl rfl)
theorem dX0_fits_56 : decode cX0_fits 56 = .ok (.iload_n 1, 1) := dk_27 (dk_at dksX0_fits_2 10 rfl rfl)
theorem dX0_fits_57 : decode cX0_fits 57 = .ok (.invokevirtual 214, 3) := dk_182 0 214 (dk_at dksX0_fits_2 11 rfl rfl)
theorem dX0_fits_60 : decode cX0_fits 60 = .ok (.iastore, 1) := dk_79 (dk_at dksX0_fits_2 14 rfl rfl)
theorem dX0_fits_61 : decode cX0_fits 61 = .ok (.aload_n 0, 1) := dk_42 (dk_at dksX0_fits_2 15 rfl rfl)
theorem dX0_fits_62 : decode cX0_fits 62 = .ok (.getfield 52, 3) := dk_180 0 52 (dk_at dksX0_fits_2 16 rfl rfl)
theorem dX0_fits_65 : decode cX0_fits 65 = .ok (.iload_n 3, 1) := dk_29 (dk_at dksX0_fits_2 19 rfl rfl)
theorem dX0_fits_66 : decode cX0_fits 66 = .ok (.iaload, 1) := dk_46 (dk_at dksX0_fits_2 20 rfl rfl)
theorem dX0_fits_67 : decode cX0_fits 67 = .ok (.bipush (-6), 2) := dk_16 250 (dk_at dksX0_fits_2 21 rfl rfl)
theorem dX0_fits_69 : decode cX0_fits 69 = .ok (.if_icmp .eq 22, 3) := dk_159 0 22 (dk_at dksX0_fits_3 0 rfl rfl)
theorem dX0_fits_72 : decode cX0_fits 72 = .ok (.aload_n 0, 1) := dk_42 (dk_at dksX0_fits_3 3 rfl rfl)
theorem dX0_fits_73 : decode cX0_fits 73 = .ok (.aload_n 0, 1) := dk_42 (dk_at dksX0_fits_3 4 rfl rfl)
theorem dX0_fits_74 : decode cX0_fits 74 = .ok (.getfield 11, 3) := dk_180 0 11 (dk_at dksX0_fits_3 5 rfl rfl)
theorem dX0_fits_77 : decode cX0_fits 77 = .ok (.aload_n 0, 1) := dk_42 (dk_at dksX0_fits_3 8 rfl rfl)
theorem dX0_fits_78 : decode cX0_fits 78 = .ok (.getfield 52, 3) := dk_180 0 52 (dk_at dksX0_fits_3 9 rfl rfl)
theorem dX0_fits_81 : decode cX0_fits 81 = .ok (.iload_n 3, 1) := dk_29 (dk_at dksX0_fits_3 12 rfl rfl)
theorem dX0_fits_82 : decode cX0_fits 82 = .ok (.iaload, 1) := dk_46 (dk_at dksX0_fits_3 13 rfl rfl)
theorem dX0_fits_83 : decode cX0_fits 83 = .ok (.aaload, 1) := dk_50 (dk_at dksX0_fits_3 14 rfl rfl)
theorem dX0_fits_84 : decode cX0_fits 84 = .ok (.iload_n 3, 1) := dk_29 (dk_at dksX0_fits_3 15 rfl rfl)
theorem dX0_fits_85 : decode cX0_fits 85 = .ok (.invokevirtual 217, 3) := dk_182 0 217 (dk_at dksX0_fits_3 16 rfl rfl)
theorem dX0_fits_88 : decode cX0_fits 88 = .ok (.ifCond .eq 7, 3) := dk_153 0 7 (dk_at dksX0_fits_3 19 rfl rfl)
theorem dX0_fits_91 : decode cX0_fits 91 = .ok (.iconst 1, 1) := dk_4 (dk_at dksX0_fits_3 22 rfl rfl)
theorem dX0_fits_92 : decode cX0_fits 92 = .ok (.goto 4, 3) := dk_167 0 4 (dk_at dksX0_fits_4 0 rfl rfl)
theorem dX0_fits_95 : decode cX0_fits 95 = .ok (.iconst 0, 1) := dk_3 (dk_at dksX0_fits_4 3 rfl rfl)
theorem dX0_fits_96 : decode cX0_fits 96 = .ok (.istore 4, 2) := dk_54 4 (dk_at dksX0_fits_4 4 rfl rfl)
theorem dX0_fits_98 : decode cX0_fits 98 = .ok (.iload 4, 2) := dk_21 4 (dk_at dksX0_fits_4 6 rfl rfl)
theorem dX0_fits_100 : decode cX0_fits 100 = .ok (.ifCond .eq 7, 3) := dk_153 0 7 (dk_at dksX0_fits_4 8 rfl rfl)
theorem dX0_fits_103 : decode cX0_fits 103 = .ok (.iload_n 2, 1) := dk_28 (dk_at dksX0_fits_4 11 rfl rfl)
theorem dX0_fits_104 : decode cX0_fits 104 = .ok (.goto 12, 3) := dk_167 0 12 (dk_at dksX0_fits_4 12 rfl rfl)
theorem dX0_fits_107 : decode cX0_fits 107 = .ok (.aload_n 0, 1) := dk_42 (dk_at dksX0_fits_4 15 rfl rfl)
theorem dX0_fits_108 : decode cX0_fits 108 = .ok (.getfield 48, 3) := dk_180 0 48 (dk_at dksX0_fits_4 16 rfl rfl)
theorem dX0_fits_111 : decode cX0_fits 111 = .ok (.getfield 195, 3) := dk_180 0 195 (dk_at dksX0_fits_4 19 rfl rfl)
theorem dX0_fits_114 : decode cX0_fits 114 = .ok (.iload_n 3, 1) := dk_29 (dk_at dksX0_fits_4 22 rfl rfl)
theorem dX0_fits_115 : decode cX0_fits 115 = .ok (.iaload, 1) := dk_46 (dk_at dksX0_fits_4 23 rfl rfl)
theorem dX0_fits_116 : decode cX0_fits 116 = .ok (.istore_n 2, 1) := dk_61 (dk_at dksX0_fits_5 0 rfl rfl)
theorem dX0_fits_117 : decode cX0_fits 117 = .ok (.iload 4, 2) := dk_21 4 (dk_at dksX0_fits_5 1 rfl rfl)
theorem dX0_fits_119 : decode cX0_fits 119 = .ok (.ifCond .eq 11, 3) := dk_153 0 11 (dk_at dksX0_fits_5 3 rfl rfl)
theorem dX0_fits_122 : decode cX0_fits 122 = .ok (.aload_n 0, 1) := dk_42 (dk_at dksX0_fits_5 6 rfl rfl)
theorem dX0_fits_123 : decode cX0_fits 123 = .ok (.iload_n 3, 1) := dk_29 (dk_at dksX0_fits_5 7 rfl rfl)
theorem dX0_fits_124 : decode cX0_fits 124 = .ok (.invokevirtual 221, 3) := dk_182 0 221 (dk_at dksX0_fits_5 8 rfl rfl)
theorem dX0_fits_127 : decode cX0_fits 127 = .ok (.goto 5, 3) := dk_167 0 5 (dk_at dksX0_fits_5 11 rfl rfl)
theorem dX0_fits_130 : decode cX0_fits 130 = .ok (.bipush (-6), 2) := dk_16 250 (dk_at dksX0_fits_5 14 rfl rfl)
theorem dX0_fits_132 : decode cX0_fits 132 = .ok (.istore 5, 2) := dk_54 5 (dk_at dksX0_fits_5 16 rfl rfl)
theorem dX0_fits_134 : decode cX0_fits 134 = .ok (.iload 5, 2) := dk_21 5 (dk_at dksX0_fits_5 18 rfl rfl)
theorem dX0_fits_136 : decode cX0_fits 136 = .ok (.ifCond .lt 14, 3) := dk_155 0 14 (dk_at dksX0_fits_5 20 rfl rfl)
theorem dX0_fits_139 : decode cX0_fits 139 = .ok (.iload 5, 2) := dk_21 5 (dk_at dksX0_fits_6 0 rfl rfl)
theorem dX0_fits_141 : decode cX0_fits 141 = .ok (.iload_n 2, 1) := dk_28 (dk_at dksX0_fits_6 2 rfl rfl)
theorem dX0_fits_142 : decode cX0_fits 142 = .ok (.if_icmp .ge 8, 3) := dk_162 0 8 (dk_at dksX0_fits_6 3 rfl rfl)
theorem dX0_fits_145 : decode cX0_fits 145 = .ok (.iload 5, 2) := dk_21 5 (dk_at dksX0_fits_6 6 rfl rfl)
theorem dX0_fits_147 : decode cX0_fits 147 = .ok (.goto 4, 3) := dk_167 0 4 (dk_at dksX0_fits_6 8 rfl rfl)
theorem dX0_fits_150 : decode cX0_fits 150 = .ok (.iload_n 2, 1) := dk_28 (dk_at dksX0_fits_6 11 rfl rfl)
theorem dX0_fits_151 : decode cX0_fits 151 = .ok (.istore_n 2, 1) := dk_61 (dk_at dksX0_fits_6 12 rfl rfl)
theorem dX0_fits_152 : decode cX0_fits 152 = .ok (.iinc 3 1, 3) := dk_132 3 1 (dk_at dksX0_fits_6 13 rfl rfl)
theorem dX0_fits_155 : decode cX0_fits 155 = .ok (.goto (-130), 3) := dk_167 255 126 (dk_at dksX0_fits_6 16 rfl rfl)
theorem dX0_fits_158 : decode cX0_fits 158 = .ok (.iload_n 2, 1) := dk_28 (dk_at dksX0_fits_6 19 rfl rfl)
theorem dX0_fits_159 : decode cX0_fits 159 = .ok (.bipush 100, 2) := dk_16 100 (dk_at dksX0_fits_6 20 rfl rfl)
theorem dX0_fits_161 : decode cX0_fits 161 = .ok (.if_icmp .ne 8, 3) := dk_160 0 8 (dk_at dksX0_fits_7 0 rfl rfl)
theorem dX0_fits_164 : decode cX0_fits 164 = .ok (.bipush (-6), 2) := dk_16 250 (dk_at dksX0_fits_7 3 rfl rfl)
theorem dX0_fits_166 : decode cX0_fits 166 = .ok (.goto 4, 3) := dk_167 0 4 (dk_at dksX0_fits_7 5 rfl rfl)
theorem dX0_fits_169 : decode cX0_fits 169 = .ok (.iload_n 2, 1) := dk_28 (dk_at dksX0_fits_7 8 rfl rfl)
theorem dX0_fits_170 : decode cX0_fits 170 = .ok (.ireturn, 1) := dk_172 (dk_at dksX0_fits_7 9 rfl rfl)
abbrev cX0_mustBe : ByteArray := prog_1_method_29_code
def yX0_mustBe : MethodName := ⟨RX0, "mustBe", "(II)I"⟩
def dkwX0_mustBe_4 : List UInt8 := [46, 172]
abbrev dktX0_mustBe_4 : List UInt8 := dkwX0_mustBe_4 ++ []
def dkwX0_mustBe_3 : List UInt8 := [25, 4, 180, 0, 113, 3, 46, 167, 0, 18, 25, 4, 180, 0, 113, 42, 180, 0, 48, 180, 0, 204, 27, 46]
abbrev dktX0_mustBe_3 : List UInt8 := dkwX0_mustBe_3 ++ dktX0_mustBe_4
def dkwX0_mustBe_2 : List UInt8 := [172, 42, 180, 0, 11, 42, 180, 0, 52, 29, 46, 50, 58, 4, 25, 4, 180, 0, 101, 16, 42, 160, 0, 13]
abbrev dktX0_mustBe_2 : List UInt8 := dkwX0_mustBe_2 ++ dktX0_mustBe_3
def dkwX0_mustBe_1 : List UInt8 := [159, 0, 22, 42, 180, 0, 11, 42, 180, 0, 52, 29, 46, 50, 180, 0, 101, 16, 46, 160, 0, 6, 16, 250]
abbrev dktX0_mustBe_1 : List UInt8 := dkwX0_mustBe_1 ++ dktX0_mustBe_2
def dkwX0_mustBe_0 : List UInt8 := [42, 180, 0, 48, 180, 0, 201, 27, 46, 62, 29, 156, 0, 5, 28, 172, 42, 180, 0, 52, 29, 46, 16, 250]
abbrev dktX0_mustBe_0 : List UInt8 := dkwX0_mustBe_0 ++ dktX0_mustBe_1
theorem dksX0_mustBe_0 : cX0_mustBe.data.toList.drop 0 = dktX0_mustBe_0 := by decide +kernel
theorem dksX0_mustBe_1 : cX0_mustBe.data.toList.drop 24 = dktX0_mustBe_1 := dk_seg dksX0_mustBe_0 24 rfl rfl
theorem dksX0_mustBe_2 : cX0_mustBe.data.toList.drop 48 = dktX0_mustBe_2 := dk_seg dksX0_mustBe_1 24 rfl rfl
theorem dksX0_mustBe_3 : cX0_mustBe.data.toList.drop 72 = dktX0_mustBe_3 := dk_seg dksX0_mustBe_2 24 rfl rfl
theorem dksX0_mustBe_4 : cX0_mustBe.data.toList.drop 96 = dktX0_mustBe_4 := dk_seg dksX0_mustBe_3 24 rfl rfl
theorem dX0_mustBe_0 : decode cX0_mustBe 0 = .ok (.aload_n 0, 1) := dk_42 (dk_at dksX0_mustBe_0 0 rfl rfl)
theorem dX0_mustBe_1 : decode cX0_mustBe 1 = .ok (.getfield 48, 3) := dk_180 0 48 (dk_at dksX0_mustBe_0 1 rfl rfl)
theorem dX0_mustBe_4 : decode cX0_mustBe 4 = .ok (.getfield 201, 3) := dk_180 0 201 (dk_at dksX0_mustBe_0 4 rfl rfl)
theorem dX0_mustBe_7 : decode cX0_mustBe 7 = .ok (.iload_n 1, 1) := dk_27 (dk_at dksX0_mustBe_0 7 rfl rfl)
theorem dX0_mustBe_8 : decode cX0_mustBe 8 = .ok (.iaload, 1) := dk_46 (dk_at dksX0_mustBe_0 8 rfl rfl)
theorem dX0_mustBe_9 : decode cX0_mustBe 9 = .ok (.istore_n 3, 1) := dk_62 (dk_at dksX0_mustBe_0 9 rfl rfl)
theorem dX0_mustBe_10 : decode cX0_mustBe 10 = .ok (.iload_n 3, 1) := dk_29 (dk_at dksX0_mustBe_0 10 rfl rfl)
theorem dX0_mustBe_11 : decode cX0_mustBe 11 = .ok (.ifCond .ge 5, 3) := dk_156 0 5 (dk_at dksX0_mustBe_0 11 rfl rfl)
theorem dX0_mustBe_14 : decode cX0_mustBe 14 = .ok (.iload_n 2, 1) := dk_28 (dk_at dksX0_mustBe_0 14 rfl rfl)
theorem dX0_mustBe_15 : decode cX0_mustBe 15 = .ok (.ireturn, 1) := dk_172 (dk_at dksX0_mustBe_0 15 rfl rfl)
theorem dX0_mustBe_16 : decode cX0_mustBe 16 = .ok (.aload_n 0, 1) := dk_42 (dk_at dksX0_mustBe_0 16 rfl rfl)
theorem dX0_mustBe_17 : decode cX0_mustBe 17 = .ok (.getfield 52, 3) := dk_180 0 52 (dk_at dksX0_mustBe_0 17 rfl rfl)
theorem dX0_mustBe_20 : decode cX0_mustBe 20 = .ok (.iload_n 3, 1) := dk_29 (dk_at dksX0_mustBe_0 20 rfl rfl)
theorem dX0_mustBe_21 : decode cX0_mustBe 21 = .ok (.iaload, 1) := dk_46 (dk_at dksX0_mustBe_0 21 rfl rfl)
theorem dX0_mustBe_22 : decode cX0_mustBe 22 = .ok (.bipush (-6), 2) := dk_16 250 (dk_at dksX0_mustBe_0 22 rfl rfl)
theorem dX0_mustBe_24 : decode cX0_mustBe 24 = .ok (.if_icmp .eq 22, 3) := dk_159 0 22 (dk_at dksX0_mustBe_1 0 rfl rfl)
theorem dX0_mustBe_27 : decode cX0_mustBe 27 = .ok (.aload_n 0, 1) := dk_42 (dk_at dksX0_mustBe_1 3 rfl rfl)
theorem dX0_mustBe_28 : decode cX0_mustBe 28 = .ok (.getfield 11, 3) := dk_180 0 11 (dk_at dksX0_mustBe_1 4 rfl rfl)
theorem dX0_mustBe_31 : decode cX0_mustBe 31 = .ok (.aload_n 0, 1) := dk_42 (dk_at dksX0_mustBe_1 7 rfl rfl)
theorem dX0_mustBe_32 : decode cX0_mustBe 32 = .ok (.getfield 52, 3) := dk_180 0 52 (dk_at dksX0_mustBe_1 8 rfl rfl)
theorem dX0_mustBe_35 : decode cX0_mustBe 35 = .ok (.iload_n 3, 1) := dk_29 (dk_at dksX0_mustBe_1 11 rfl rfl)
theorem dX0_mustBe_36 : decode cX0_mustBe 36 = .ok (.iaload, 1) := dk_46 (dk_at dksX0_mustBe_1 12 rfl rfl)
theorem dX0_mustBe_37 : decode cX0_mustBe 37 = .ok (.aaload, 1) := dk_50 (dk_at dksX0_mustBe_1 13 rfl rfl)
theorem dX0_mustBe_38 : decode cX0_mustBe 38 = .ok (.getfield 101, 3) := dk_180 0 101 (dk_at dksX0_mustBe_1 14 rfl rfl)
theorem dX0_mustBe_41 : decode cX0_mustBe 41 = .ok (.bipush 46, 2) := dk_16 46 (dk_at dksX0_mustBe_1 17 rfl rfl)
theorem dX0_mustBe_43 : decode cX0_mustBe 43 = .ok (.if_icmp .ne 6, 3) := dk_160 0 6 (dk_at dksX0_mustBe_1 19 rfl rfl)
theorem dX0_mustBe_46 : decode cX0_mustBe 46 = .ok (.bipush (-6), 2) := dk_16 250 (dk_at dksX0_mustBe_1 22 rfl rfl)
theorem dX0_mustBe_48 : decode cX0_mustBe 48 = .ok (.ireturn, 1) := dk_172 (dk_at dksX0_mustBe_2 0 rfl rfl)
theorem dX0_mustBe_49 : decode cX0_mustBe 49 = .ok (.aload_n 0, 1) := dk_42 (dk_at dksX0_mustBe_2 1 rfl rfl)
theorem dX0_mustBe_50 : decode cX0_mustBe 50 = .ok (.getfield 11, 3) := dk_180 0 11 (dk_at dksX0_mustBe_2 2 rfl rfl)
theorem dX0_mustBe_53 : decode cX0_mustBe 53 = .ok (.aload_n 0, 1) := dk_42 (dk_at dksX0_mustBe_2 5 rfl rfl)
theorem dX0_mustBe_54 : decode cX0_mustBe 54 = .ok (.getfield 52, 3) := dk_180 0 52 (dk_at dksX0_mustBe_2 6 rfl rfl)
theorem dX0_mustBe_57 : decode cX0_mustBe 57 = .ok (.iload_n 3, 1) := dk_29 (dk_at dksX0_mustBe_2 9 rfl rfl)
theorem dX0_mustBe_58 : decode cX0_mustBe 58 = .ok (.iaload, 1) := dk_46 (dk_at dksX0_mustBe_2 10 rfl rfl)
theorem dX0_mustBe_59 : decode cX0_mustBe 59 = .ok (.aaload, 1) := dk_50 (dk_at dksX0_mustBe_2 11 rfl rfl)
theorem dX0_mustBe_60 : decode cX0_mustBe 60 = .ok (.astore 4, 2) := dk_58 4 (dk_at dksX0_mustBe_2 12 rfl rfl)
theorem dX0_mustBe_62 : decode cX0_mustBe 62 = .ok (.aload 4, 2) := dk_25 4 (dk_at dksX0_mustBe_2 14 rfl rfl)
theorem dX0_mustBe_64 : decode cX0_mustBe 64 = .ok (.getfield 101, 3) := dk_180 0 101 (dk_at dksX0_mustBe_2 16 rfl rfl)
theorem dX0_mustBe_67 : decode cX0_mustBe 67 = .ok (.bipush 42, 2) := dk_16 42 (dk_at dksX0_mustBe_2 19 rfl rfl)
theorem dX0_mustBe_69 : decode cX0_mustBe 69 = .ok (.if_icmp .ne 13, 3) := dk_160 0 13 (dk_at dksX0_mustBe_2 21 rfl rfl)
theorem dX0_mustBe_72 : decode cX0_mustBe 72 = .ok (.aload 4, 2) := dk_25 4 (dk_at dksX0_mustBe_3 0 rfl rfl)
theorem dX0_mustBe_74 : decode cX0_mustBe 74 = .ok (.getfield 113, 3) := dk_180 0 113 (dk_at dksX0_mustBe_3 2 rfl rfl)
theorem dX0_mustBe_77 : decode cX0_mustBe 77 = .ok (.iconst 0, 1) := dk_3 (dk_at dksX0_mustBe_3 5 rfl rfl)
theorem dX0_mustBe_78 : decode cX0_mustBe 78 = .ok (.iaload, 1) := dk_46 (dk_at dksX0_mustBe_3 6 rfl rfl)
theorem dX0_mustBe_79 : decode cX0_mustBe 79 = .ok (.goto 18, 3) := dk_167 0 18 (dk_at dksX0_mustBe_3 7 rfl rfl)
theorem dX0_mustBe_82 : decode cX0_mustBe 82 = .ok (.aload 4, 2) := dk_25 4 (dk_at dksX0_mustBe_3 10 rfl rfl)
theorem dX0_mustBe_84 : decode cX0_mustBe 84 = .ok (.getfield 113, 3) := dk_180 0 113 (dk_at dksX0_mustBe_3 12 rfl rfl)
theorem dX0_mustBe_87 : decode cX0_mustBe 87 = .ok (.aload_n 0, 1) := dk_42 (dk_at dksX0_mustBe_3 15 rfl rfl)
theorem dX0_mustBe_88 : decode cX0_mustBe 88 = .ok (.getfield 48, 3) := dk_180 0 48 (dk_at dksX0_mustBe_3 16 rfl rfl)
theorem dX0_mustBe_91 : decode cX0_mustBe 91 = .ok (.getfield 204, 3) := dk_180 0 204 (dk_at dksX0_mustBe_3 19 rfl rfl)
theorem dX0_mustBe_94 : decode cX0_mustBe 94 = .ok (.iload_n 1, 1) := dk_27 (dk_at dksX0_mustBe_3 22 rfl rfl)
theorem dX0_mustBe_95 : decode cX0_mustBe 95 = .ok (.iaload, 1) := dk_46 (dk_at dksX0_mustBe_3 23 rfl rfl)
theorem dX0_mustBe_96 : decode cX0_mustBe 96 = .ok (.iaload, 1) := dk_46 (dk_at dksX0_mustBe_4 0 rfl rfl)
theorem dX0_mustBe_97 : decode cX0_mustBe 97 = .ok (.ireturn, 1) := dk_172 (dk_at dksX0_mustBe_4 1 rfl rfl)
abbrev cX0_isOf : ByteArray := prog_1_method_28_code
def yX0_isOf : MethodName := ⟨RX0, "isOf", "(LKindNets$Kind;I)Z"⟩
def dkwX0_isOf_6 : List UInt8 := [167, 0, 4, 3, 172, 43, 180, 0, 101, 16, 46, 160, 0, 7, 4, 167, 0, 4, 3, 172]
abbrev dktX0_isOf_6 : List UInt8 := dkwX0_isOf_6 ++ []
def dkwX0_isOf_5 : List UInt8 := [180, 0, 198, 28, 46, 182, 0, 148, 153, 0, 7, 4, 167, 0, 4, 3, 172, 29, 16, 40, 160, 0, 7, 4]
abbrev dktX0_isOf_5 : List UInt8 := dkwX0_isOf_5 ++ dktX0_isOf_6
def dkwX0_isOf_4 : List UInt8 := [29, 16, 123, 160, 0, 7, 4, 167, 0, 4, 3, 172, 29, 16, 91, 160, 0, 23, 43, 42, 180, 0, 48]
abbrev dktX0_isOf_4 : List UInt8 := dkwX0_isOf_4 ++ dktX0_isOf_5
def dkwX0_isOf_3 : List UInt8 := [29, 16, 70, 160, 0, 7, 4, 167, 0, 4, 3, 172, 29, 16, 36, 160, 0, 7, 4, 167, 0, 4, 3, 172]
abbrev dktX0_isOf_3 : List UInt8 := dkwX0_isOf_3 ++ dktX0_isOf_4
def dkwX0_isOf_2 : List UInt8 := [29, 16, 48, 161, 0, 13, 29, 16, 57, 163, 0, 7, 4, 167, 0, 4, 3, 172, 29, 16, 84, 159, 0, 9]
abbrev dktX0_isOf_2 : List UInt8 := dkwX0_isOf_2 ++ dktX0_isOf_3
def dkwX0_isOf_1 : List UInt8 := [171, 0, 0, 0, 157, 0, 0, 0, 6, 0, 0, 0, 42, 0, 0, 0, 145, 0, 0, 0, 91, 0, 0, 0, 117, 0, 0, 0, 110, 0, 0, 0, 57, 0, 0, 0, 115, 0, 0, 0, 93, 0, 0, 0, 116, 0, 0, 0, 75, 0, 0, 0, 123, 0, 0, 0, 105]
abbrev dktX0_isOf_1 : List UInt8 := dkwX0_isOf_1 ++ dktX0_isOf_2
def dkwX0_isOf_0 : List UInt8 := [42, 180, 0, 19, 42, 180, 0, 48, 180, 0, 195, 28, 46, 52, 62, 43, 180, 0, 101]
abbrev dktX0_isOf_0 : List UInt8 := dkwX0_isOf_0 ++ dktX0_isOf_1
theorem dksX0_isOf_0 : cX0_isOf.data.toList.drop 0 = dktX0_isOf_0 := by decide +kernel
theorem dksX0_isOf_1 : cX0_isOf.data.toList.drop 19 = dktX0_isOf_1 := dk_seg dksX0_isOf_0 19 rfl rfl
theorem dksX0_isOf_2 : cX0_isOf.data.toList.drop 76 = dktX0_isOf_2 := dk_seg dksX0_isOf_1 57 rfl rfl
theorem dksX0_isOf_3 : cX0_isOf.data.toList.drop 100 = dktX0_isOf_3 := dk_seg dksX0_isOf_2 24 rfl rfl
theorem dksX0_isOf_4 : cX0_isOf.data.toList.drop 124 = dktX0_isOf_4 := dk_seg dksX0_isOf_3 24 rfl rfl
theorem dksX0_isOf_5 : cX0_isOf.data.toList.drop 147 = dktX0_isOf_5 := dk_seg dksX0_isOf_4 23 rfl rfl
theorem dksX0_isOf_6 : cX0_isOf.data.toList.drop 171 = dktX0_isOf_6 := dk_seg dksX0_isOf_5 24 rfl rfl
theorem dX0_isOf_0 : decode cX0_isOf 0 = .ok (.aload_n 0, 1) := dk_42 (dk_at dksX0_isOf_0 0 rfl rfl)
theorem dX0_isOf_1 : decode cX0_isOf 1 = .ok (.getfield 19, 3) := dk_180 0 19 (dk_at dksX0_isOf_0 1 rfl rfl)
theorem dX0_isOf_4 : decode cX0_isOf 4 = .ok (.aload_n 0, 1) := dk_42 (dk_at dksX0_isOf_0 4 rfl rfl)
theorem dX0_isOf_5 : decode cX0_isOf 5 = .ok (.getfield 48, 3) := dk_180 0 48 (dk_at dksX0_isOf_0 5 rfl rfl)
theorem dX0_isOf_8 : decode cX0_isOf 8 = .ok (.getfield 195, 3) := dk_180 0 195 (dk_at dksX0_isOf_0 8 rfl rfl)
theorem dX0_isOf_11 : decode cX0_isOf 11 = .ok (.iload_n 2, 1) := dk_28 (dk_at dksX0_isOf_0 11 rfl rfl)
theorem dX0_isOf_12 : decode cX0_isOf 12 = .ok (.iaload, 1) := dk_46 (dk_at dksX0_isOf_0 12 rfl rfl)
theorem dX0_isOf_13 : decode cX0_isOf 13 = .ok (.caload, 1) := dk_52 (dk_at dksX0_isOf_0 13 rfl rfl)
theorem dX0_isOf_14 : decode cX0_isOf 14 = .ok (.istore_n 3, 1) := dk_62 (dk_at dksX0_isOf_0 14 rfl rfl)
theorem dX0_isOf_15 : decode cX0_isOf 15 = .ok (.aload_n 1, 1) := dk_43 (dk_at dksX0_isOf_0 15 rfl rfl)
theorem dX0_isOf_16 : decode cX0_isOf 16 = .ok (.getfield 101, 3) := dk_180 0 101 (dk_at dksX0_isOf_0 16 rfl rfl)
theorem dX0_isOf_19 : decode cX0_isOf 19 = .ok (.lookupswitch 157 #[(42, 145), (91, 117), (110, 57), (115, 93), (116, 75), (123, 105)], 57) := by decide +kernel
theorem dX0_isOf_76 : decode cX0_isOf 76 = .ok (.iload_n 3, 1) := dk_29 (dk_at dksX0_isOf_2 0 rfl rfl)
theorem dX0_isOf_77 : decode cX0_isOf 77 = .ok (.bipush 48, 2) := dk_16 48 (dk_at dksX0_isOf_2 1 rfl rfl)
theorem dX0_isOf_79 : decode cX0_isOf 79 = .ok (.if_icmp .lt 13, 3) := dk_161 0 13 (dk_at dksX0_isOf_2 3 rfl rfl)
theorem dX0_isOf_82 : decode cX0_isOf 82 = .ok (.iload_n 3, 1) := dk_29 (dk_at dksX0_isOf_2 6 rfl rfl)
theorem dX0_isOf_83 : decode cX0_isOf 83 = .ok (.bipush 57, 2) := dk_16 57 (dk_at dksX0_isOf_2 7 rfl rfl)
theorem dX0_isOf_85 : decode cX0_isOf 85 = .ok (.if_icmp .gt 7, 3) := dk_163 0 7 (dk_at dksX0_isOf_2 9 rfl rfl)
theorem dX0_isOf_88 : decode cX0_isOf 88 = .ok (.iconst 1, 1) := dk_4 (dk_at dksX0_isOf_2 12 rfl rfl)
theorem dX0_isOf_89 : decode cX0_isOf 89 = .ok (.goto 4, 3) := dk_167 0 4 (dk_at dksX0_isOf_2 13 rfl rfl)
theorem dX0_isOf_92 : decode cX0_isOf 92 = .ok (.iconst 0, 1) := dk_3 (dk_at dksX0_isOf_2 16 rfl rfl)
theorem dX0_isOf_93 : decode cX0_isOf 93 = .ok (.ireturn, 1) := dk_172 (dk_at dksX0_isOf_2 17 rfl rfl)
theorem dX0_isOf_94 : decode cX0_isOf 94 = .ok (.iload_n 3, 1) := dk_29 (dk_at dksX0_isOf_2 18 rfl rfl)
theorem dX0_isOf_95 : decode cX0_isOf 95 = .ok (.bipush 84, 2) := dk_16 84 (dk_at dksX0_isOf_2 19 rfl rfl)
theorem dX0_isOf_97 : decode cX0_isOf 97 = .ok (.if_icmp .eq 9, 3) := dk_159 0 9 (dk_at dksX0_isOf_2 21 rfl rfl)
theorem dX0_isOf_100 : decode cX0_isOf 100 = .ok (.iload_n 3, 1) := dk_29 (dk_at dksX0_isOf_3 0 rfl rfl)
theorem dX0_isOf_101 : decode cX0_isOf 101 = .ok (.bipush 70, 2) := dk_16 70 (dk_at dksX0_isOf_3 1 rfl rfl)
theorem dX0_isOf_103 : decode cX0_isOf 103 = .ok (.if_icmp .ne 7, 3) := dk_160 0 7 (dk_at dksX0_isOf_3 3 rfl rfl)
theorem dX0_isOf_106 : decode cX0_isOf 106 = .ok (.iconst 1, 1) := dk_4 (dk_at dksX0_isOf_3 6 rfl rfl)
theorem dX0_isOf_107 : decode cX0_isOf 107 = .ok (.goto 4, 3) := dk_167 0 4 (dk_at dksX0_isOf_3 7 rfl rfl)
theorem dX0_isOf_110 : decode cX0_isOf 110 = .ok (.iconst 0, 1) := dk_3 (dk_at dksX0_isOf_3 10 rfl rfl)
theorem dX0_isOf_111 : decode cX0_isOf 111 = .ok (.ireturn, 1) := dk_172 (dk_at dksX0_isOf_3 11 rfl rfl)
theorem dX0_isOf_112 : decode cX0_isOf 112 = .ok (.iload_n 3, 1) := dk_29 (dk_at dksX0_isOf_3 12 rfl rfl)
theorem dX0_isOf_113 : decode cX0_isOf 113 = .ok (.bipush 36, 2) := dk_16 36 (dk_at dksX0_isOf_3 13 rfl rfl)
theorem dX0_isOf_115 : decode cX0_isOf 115 = .ok (.if_icmp .ne 7, 3) := dk_160 0 7 (dk_at dksX0_isOf_3 15 rfl rfl)
theorem dX0_isOf_118 : decode cX0_isOf 118 = .ok (.iconst 1, 1) := dk_4 (dk_at dksX0_isOf_3 18 rfl rfl)
theorem dX0_isOf_119 : decode cX0_isOf 119 = .ok (.goto 4, 3) := dk_167 0 4 (dk_at dksX0_isOf_3 19 rfl rfl)
theorem dX0_isOf_122 : decode cX0_isOf 122 = .ok (.iconst 0, 1) := dk_3 (dk_at dksX0_isOf_3 22 rfl rfl)
theorem dX0_isOf_123 : decode cX0_isOf 123 = .ok (.ireturn, 1) := dk_172 (dk_at dksX0_isOf_3 23 rfl rfl)
theorem dX0_isOf_124 : decode cX0_isOf 124 = .ok (.iload_n 3, 1) := dk_29 (dk_at dksX0_isOf_4 0 rfl rfl)
theorem dX0_isOf_125 : decode cX0_isOf 125 = .ok (.bipush 123, 2) := dk_16 123 (dk_at dksX0_isOf_4 1 rfl rfl)
theorem dX0_isOf_127 : decode cX0_isOf 127 = .ok (.if_icmp .ne 7, 3) := dk_160 0 7 (dk_at dksX0_isOf_4 3 rfl rfl)
theorem dX0_isOf_130 : decode cX0_isOf 130 = .ok (.iconst 1, 1) := dk_4 (dk_at dksX0_isOf_4 6 rfl rfl)
theorem dX0_isOf_131 : decode cX0_isOf 131 = .ok (.goto 4, 3) := dk_167 0 4 (dk_at dksX0_isOf_4 7 rfl rfl)
theorem dX0_isOf_134 : decode cX0_isOf 134 = .ok (.iconst 0, 1) := dk_3 (dk_at dksX0_isOf_4 10 rfl rfl)
theorem dX0_isOf_135 : decode cX0_isOf 135 = .ok (.ireturn, 1) := dk_172 (dk_at dksX0_isOf_4 11 rfl rfl)
theorem dX0_isOf_136 : decode cX0_isOf 136 = .ok (.iload_n 3, 1) := dk_29 (dk_at dksX0_isOf_4 12 rfl rfl)
theorem dX0_isOf_137 : decode cX0_isOf 137 = .ok (.bipush 91, 2) := dk_16 91 (dk_at dksX0_isOf_4 13 rfl rfl)
theorem dX0_isOf_139 : decode cX0_isOf 139 = .ok (.if_icmp .ne 23, 3) := dk_160 0 23 (dk_at dksX0_isOf_4 15 rfl rfl)
theorem dX0_isOf_142 : decode cX0_isOf 142 = .ok (.aload_n 1, 1) := dk_43 (dk_at dksX0_isOf_4 18 rfl rfl)
theorem dX0_isOf_143 : decode cX0_isOf 143 = .ok (.aload_n 0, 1) := dk_42 (dk_at dksX0_isOf_4 19 rfl rfl)
theorem dX0_isOf_144 : decode cX0_isOf 144 = .ok (.getfield 48, 3) := dk_180 0 48 (dk_at dksX0_isOf_4 20 rfl rfl)
theorem dX0_isOf_147 : decode cX0_isOf 147 = .ok (.getfield 198, 3) := dk_180 0 198 (dk_at dksX0_isOf_5 0 rfl rfl)
theorem dX0_isOf_150 : decode cX0_isOf 150 = .ok (.iload_n 2, 1) := dk_28 (dk_at dksX0_isOf_5 3 rfl rfl)
theorem dX0_isOf_151 : decode cX0_isOf 151 = .ok (.iaload, 1) := dk_46 (dk_at dksX0_isOf_5 4 rfl rfl)
theorem dX0_isOf_152 : decode cX0_isOf 152 = .ok (.invokevirtual 148, 3) := dk_182 0 148 (dk_at dksX0_isOf_5 5 rfl rfl)
theorem dX0_isOf_155 : decode cX0_isOf 155 = .ok (.ifCond .eq 7, 3) := dk_153 0 7 (dk_at dksX0_isOf_5 8 rfl rfl)
theorem dX0_isOf_158 : decode cX0_isOf 158 = .ok (.iconst 1, 1) := dk_4 (dk_at dksX0_isOf_5 11 rfl rfl)
theorem dX0_isOf_159 : decode cX0_isOf 159 = .ok (.goto 4, 3) := dk_167 0 4 (dk_at dksX0_isOf_5 12 rfl rfl)
theorem dX0_isOf_162 : decode cX0_isOf 162 = .ok (.iconst 0, 1) := dk_3 (dk_at dksX0_isOf_5 15 rfl rfl)
theorem dX0_isOf_163 : decode cX0_isOf 163 = .ok (.ireturn, 1) := dk_172 (dk_at dksX0_isOf_5 16 rfl rfl)
theorem dX0_isOf_164 : decode cX0_isOf 164 = .ok (.iload_n 3, 1) := dk_29 (dk_at dksX0_isOf_5 17 rfl rfl)
theorem dX0_isOf_165 : decode cX0_isOf 165 = .ok (.bipush 40, 2) := dk_16 40 (dk_at dksX0_isOf_5 18 rfl rfl)
theorem dX0_isOf_167 : decode cX0_isOf 167 = .ok (.if_icmp .ne 7, 3) := dk_160 0 7 (dk_at dksX0_isOf_5 20 rfl rfl)
theorem dX0_isOf_170 : decode cX0_isOf 170 = .ok (.iconst 1, 1) := dk_4 (dk_at dksX0_isOf_5 23 rfl rfl)
theorem dX0_isOf_171 : decode cX0_isOf 171 = .ok (.goto 4, 3) := dk_167 0 4 (dk_at dksX0_isOf_6 0 rfl rfl)
theorem dX0_isOf_174 : decode cX0_isOf 174 = .ok (.iconst 0, 1) := dk_3 (dk_at dksX0_isOf_6 3 rfl rfl)
theorem dX0_isOf_175 : decode cX0_isOf 175 = .ok (.ireturn, 1) := dk_172 (dk_at dksX0_isOf_6 4 rfl rfl)
theorem dX0_isOf_176 : decode cX0_isOf 176 = .ok (.aload_n 1, 1) := dk_43 (dk_at dksX0_isOf_6 5 rfl rfl)
theorem dX0_isOf_177 : decode cX0_isOf 177 = .ok (.getfield 101, 3) := dk_180 0 101 (dk_at dksX0_isOf_6 6 rfl rfl)
theorem dX0_isOf_180 : decode cX0_isOf 180 = .ok (.bipush 46, 2) := dk_16 46 (dk_at dksX0_isOf_6 9 rfl rfl)
theorem dX0_isOf_182 : decode cX0_isOf 182 = .ok (.if_icmp .ne 7, 3) := dk_160 0 7 (dk_at dksX0_isOf_6 11 rfl rfl)
theorem dX0_isOf_185 : decode cX0_isOf 185 = .ok (.iconst 1, 1) := dk_4 (dk_at dksX0_isOf_6 14 rfl rfl)
theorem dX0_isOf_186 : decode cX0_isOf 186 = .ok (.goto 4, 3) := dk_167 0 4 (dk_at dksX0_isOf_6 15 rfl rfl)
theorem dX0_isOf_189 : decode cX0_isOf 189 = .ok (.iconst 0, 1) := dk_3 (dk_at dksX0_isOf_6 18 rfl rfl)
theorem dX0_isOf_190 : decode cX0_isOf 190 = .ok (.ireturn, 1) := dk_172 (dk_at dksX0_isOf_6 19 rfl rfl)
abbrev cX0_lackOf : ByteArray := prog_1_method_30_code
def yX0_lackOf : MethodName := ⟨RX0, "lackOf", "(I)I"⟩
def dkwX0_lackOf_5 : List UInt8 := [29, 122, 4, 126, 154, 0, 9, 42, 27, 182, 0, 208, 172, 132, 3, 1, 167, 255, 215, 16, 250, 172]
abbrev dktX0_lackOf_5 : List UInt8 := dkwX0_lackOf_5 ++ []
def dkwX0_lackOf_4 : List UInt8 := [16, 8, 162, 0, 41, 42, 180, 0, 11, 42, 180, 0, 52, 27, 46, 50, 29, 182, 0, 148, 153, 0, 17, 28]
abbrev dktX0_lackOf_4 : List UInt8 := dkwX0_lackOf_4 ++ dktX0_lackOf_5
def dkwX0_lackOf_3 : List UInt8 := [180, 0, 48, 180, 0, 204, 29, 46, 120, 167, 0, 4, 3, 128, 61, 132, 3, 1, 167, 255, 211, 3, 62, 29]
abbrev dktX0_lackOf_3 : List UInt8 := dkwX0_lackOf_3 ++ dktX0_lackOf_4
def dkwX0_lackOf_2 : List UInt8 := [180, 0, 207, 162, 0, 40, 28, 42, 180, 0, 48, 180, 0, 201, 29, 46, 27, 160, 0, 17, 4, 42]
abbrev dktX0_lackOf_2 : List UInt8 := dkwX0_lackOf_2 ++ dktX0_lackOf_3
def dkwX0_lackOf_1 : List UInt8 := [180, 0, 101, 16, 123, 159, 0, 6, 16, 250, 172, 3, 61, 27, 4, 96, 62, 29, 42, 180, 0, 48]
abbrev dktX0_lackOf_1 : List UInt8 := dkwX0_lackOf_1 ++ dktX0_lackOf_2
def dkwX0_lackOf_0 : List UInt8 := [42, 180, 0, 52, 27, 46, 16, 250, 159, 0, 22, 42, 180, 0, 11, 42, 180, 0, 52, 27, 46, 50]
abbrev dktX0_lackOf_0 : List UInt8 := dkwX0_lackOf_0 ++ dktX0_lackOf_1
theorem dksX0_lackOf_0 : cX0_lackOf.data.toList.drop 0 = dktX0_lackOf_0 := by decide +kernel
theorem dksX0_lackOf_1 : cX0_lackOf.data.toList.drop 22 = dktX0_lackOf_1 := dk_seg dksX0_lackOf_0 22 rfl rfl
theorem dksX0_lackOf_2 : cX0_lackOf.data.toList.drop 44 = dktX0_lackOf_2 := dk_seg dksX0_lackOf_1 22 rfl rfl
theorem dksX0_lackOf_3 : cX0_lackOf.data.toList.drop 66 = dktX0_lackOf_3 := dk_seg dksX0_lackOf_2 22 rfl rfl
theorem dksX0_lackOf_4 : cX0_lackOf.data.toList.drop 90 = dktX0_lackOf_4 := dk_seg dksX0_lackOf_3 24 rfl rfl
theorem dksX0_lackOf_5 : cX0_lackOf.data.toList.drop 114 = dktX0_lackOf_5 := dk_seg dksX0_lackOf_4 24 rfl rfl
theorem dX0_lackOf_0 : decode cX0_lackOf 0 = .ok (.aload_n 0, 1) := dk_42 (dk_at dksX0_lackOf_0 0 rfl rfl)
theorem dX0_lackOf_1 : decode cX0_lackOf 1 = .ok (.getfield 52, 3) := dk_180 0 52 (dk_at dksX0_lackOf_0 1 rfl rfl)
theorem dX0_lackOf_4 : decode cX0_lackOf 4 = .ok (.iload_n 1, 1) := dk_27 (dk_at dksX0_lackOf_0 4 rfl rfl)
theorem dX0_lackOf_5 : decode cX0_lackOf 5 = .ok (.iaload, 1) := dk_46 (dk_at dksX0_lackOf_0 5 rfl rfl)
theorem dX0_lackOf_6 : decode cX0_lackOf 6 = .ok (.bipush (-6), 2) := dk_16 250 (dk_at dksX0_lackOf_0 6 rfl rfl)
theorem dX0_lackOf_8 : decode cX0_lackOf 8 = .ok (.if_icmp .eq 22, 3) := dk_159 0 22 (dk_at dksX0_lackOf_0 8 rfl rfl)
theorem dX0_lackOf_11 : decode cX0_lackOf 11 = .ok (.aload_n 0, 1) := dk_42 (dk_at dksX0_lackOf_0 11 rfl rfl)
theorem dX0_lackOf_12 : decode cX0_lackOf 12 = .ok (.getfield 11, 3) := dk_180 0 11 (dk_at dksX0_lackOf_0 12 rfl rfl)
theorem dX0_lackOf_15 : decode cX0_lackOf 15 = .ok (.aload_n 0, 1) := dk_42 (dk_at dksX0_lackOf_0 15 rfl rfl)
theorem dX0_lackOf_16 : decode cX0_lackOf 16 = .ok (.getfield 52, 3) := dk_180 0 52 (dk_at dksX0_lackOf_0 16 rfl rfl)
theorem dX0_lackOf_19 : decode cX0_lackOf 19 = .ok (.iload_n 1, 1) := dk_27 (dk_at dksX0_lackOf_0 19 rfl rfl)
theorem dX0_lackOf_20 : decode cX0_lackOf 20 = .ok (.iaload, 1) := dk_46 (dk_at dksX0_lackOf_0 20 rfl rfl)
theorem dX0_lackOf_21 : decode cX0_lackOf 21 = .ok (.aaload, 1) := dk_50 (dk_at dksX0_lackOf_0 21 rfl rfl)
theorem dX0_lackOf_22 : decode cX0_lackOf 22 = .ok (.getfield 101, 3) := dk_180 0 101 (dk_at dksX0_lackOf_1 0 rfl rfl)
theorem dX0_lackOf_25 : decode cX0_lackOf 25 = .ok (.bipush 123, 2) := dk_16 123 (dk_at dksX0_lackOf_1 3 rfl rfl)
theorem dX0_lackOf_27 : decode cX0_lackOf 27 = .ok (.if_icmp .eq 6, 3) := dk_159 0 6 (dk_at dksX0_lackOf_1 5 rfl rfl)
theorem dX0_lackOf_30 : decode cX0_lackOf 30 = .ok (.bipush (-6), 2) := dk_16 250 (dk_at dksX0_lackOf_1 8 rfl rfl)
theorem dX0_lackOf_32 : decode cX0_lackOf 32 = .ok (.ireturn, 1) := dk_172 (dk_at dksX0_lackOf_1 10 rfl rfl)
theorem dX0_lackOf_33 : decode cX0_lackOf 33 = .ok (.iconst 0, 1) := dk_3 (dk_at dksX0_lackOf_1 11 rfl rfl)
theorem dX0_lackOf_34 : decode cX0_lackOf 34 = .ok (.istore_n 2, 1) := dk_61 (dk_at dksX0_lackOf_1 12 rfl rfl)
theorem dX0_lackOf_35 : decode cX0_lackOf 35 = .ok (.iload_n 1, 1) := dk_27 (dk_at dksX0_lackOf_1 13 rfl rfl)
theorem dX0_lackOf_36 : decode cX0_lackOf 36 = .ok (.iconst 1, 1) := dk_4 (dk_at dksX0_lackOf_1 14 rfl rfl)
theorem dX0_lackOf_37 : decode cX0_lackOf 37 = .ok (.iadd, 1) := dk_96 (dk_at dksX0_lackOf_1 15 rfl rfl)
theorem dX0_lackOf_38 : decode cX0_lackOf 38 = .ok (.istore_n 3, 1) := dk_62 (dk_at dksX0_lackOf_1 16 rfl rfl)
theorem dX0_lackOf_39 : decode cX0_lackOf 39 = .ok (.iload_n 3, 1) := dk_29 (dk_at dksX0_lackOf_1 17 rfl rfl)
theorem dX0_lackOf_40 : decode cX0_lackOf 40 = .ok (.aload_n 0, 1) := dk_42 (dk_at dksX0_lackOf_1 18 rfl rfl)
theorem dX0_lackOf_41 : decode cX0_lackOf 41 = .ok (.getfield 48, 3) := dk_180 0 48 (dk_at dksX0_lackOf_1 19 rfl rfl)
theorem dX0_lackOf_44 : decode cX0_lackOf 44 = .ok (.getfield 207, 3) := dk_180 0 207 (dk_at dksX0_lackOf_2 0 rfl rfl)
theorem dX0_lackOf_47 : decode cX0_lackOf 47 = .ok (.if_icmp .ge 40, 3) := dk_162 0 40 (dk_at dksX0_lackOf_2 3 rfl rfl)
theorem dX0_lackOf_50 : decode cX0_lackOf 50 = .ok (.iload_n 2, 1) := dk_28 (dk_at dksX0_lackOf_2 6 rfl rfl)
theorem dX0_lackOf_51 : decode cX0_lackOf 51 = .ok (.aload_n 0, 1) := dk_42 (dk_at dksX0_lackOf_2 7 rfl rfl)
theorem dX0_lackOf_52 : decode cX0_lackOf 52 = .ok (.getfield 48, 3) := dk_180 0 48 (dk_at dksX0_lackOf_2 8 rfl rfl)
theorem dX0_lackOf_55 : decode cX0_lackOf 55 = .ok (.getfield 201, 3) := dk_180 0 201 (dk_at dksX0_lackOf_2 11 rfl rfl)
theorem dX0_lackOf_58 : decode cX0_lackOf 58 = .ok (.iload_n 3, 1) := dk_29 (dk_at dksX0_lackOf_2 14 rfl rfl)
theorem dX0_lackOf_59 : decode cX0_lackOf 59 = .ok (.iaload, 1) := dk_46 (dk_at dksX0_lackOf_2 15 rfl rfl)
theorem dX0_lackOf_60 : decode cX0_lackOf 60 = .ok (.iload_n 1, 1) := dk_27 (dk_at dksX0_lackOf_2 16 rfl rfl)
theorem dX0_lackOf_61 : decode cX0_lackOf 61 = .ok (.if_icmp .ne 17, 3) := dk_160 0 17 (dk_at dksX0_lackOf_2 17 rfl rfl)
theorem dX0_lackOf_64 : decode cX0_lackOf 64 = .ok (.iconst 1, 1) := dk_4 (dk_at dksX0_lackOf_2 20 rfl rfl)
theorem dX0_lackOf_65 : decode cX0_lackOf 65 = .ok (.aload_n 0, 1) := dk_42 (dk_at dksX0_lackOf_2 21 rfl rfl)
theorem dX0_lackOf_66 : decode cX0_lackOf 66 = .ok (.getfield 48, 3) := dk_180 0 48 (dk_at dksX0_lackOf_3 0 rfl rfl)
theorem dX0_lackOf_69 : decode cX0_lackOf 69 = .ok (.getfield 204, 3) := dk_180 0 204 (dk_at dksX0_lackOf_3 3 rfl rfl)
theorem dX0_lackOf_72 : decode cX0_lackOf 72 = .ok (.iload_n 3, 1) := dk_29 (dk_at dksX0_lackOf_3 6 rfl rfl)
theorem dX0_lackOf_73 : decode cX0_lackOf 73 = .ok (.iaload, 1) := dk_46 (dk_at dksX0_lackOf_3 7 rfl rfl)
theorem dX0_lackOf_74 : decode cX0_lackOf 74 = .ok (.ishl, 1) := dk_120 (dk_at dksX0_lackOf_3 8 rfl rfl)
theorem dX0_lackOf_75 : decode cX0_lackOf 75 = .ok (.goto 4, 3) := dk_167 0 4 (dk_at dksX0_lackOf_3 9 rfl rfl)
theorem dX0_lackOf_78 : decode cX0_lackOf 78 = .ok (.iconst 0, 1) := dk_3 (dk_at dksX0_lackOf_3 12 rfl rfl)
theorem dX0_lackOf_79 : decode cX0_lackOf 79 = .ok (.ior, 1) := dk_128 (dk_at dksX0_lackOf_3 13 rfl rfl)
theorem dX0_lackOf_80 : decode cX0_lackOf 80 = .ok (.istore_n 2, 1) := dk_61 (dk_at dksX0_lackOf_3 14 rfl rfl)
theorem dX0_lackOf_81 : decode cX0_lackOf 81 = .ok (.iinc 3 1, 3) := dk_132 3 1 (dk_at dksX0_lackOf_3 15 rfl rfl)
theorem dX0_lackOf_84 : decode cX0_lackOf 84 = .ok (.goto (-45), 3) := dk_167 255 211 (dk_at dksX0_lackOf_3 18 rfl rfl)
theorem dX0_lackOf_87 : decode cX0_lackOf 87 = .ok (.iconst 0, 1) := dk_3 (dk_at dksX0_lackOf_3 21 rfl rfl)
theorem dX0_lackOf_88 : decode cX0_lackOf 88 = .ok (.istore_n 3, 1) := dk_62 (dk_at dksX0_lackOf_3 22 rfl rfl)
theorem dX0_lackOf_89 : decode cX0_lackOf 89 = .ok (.iload_n 3, 1) := dk_29 (dk_at dksX0_lackOf_3 23 rfl rfl)
theorem dX0_lackOf_90 : decode cX0_lackOf 90 = .ok (.bipush 8, 2) := dk_16 8 (dk_at dksX0_lackOf_4 0 rfl rfl)
theorem dX0_lackOf_92 : decode cX0_lackOf 92 = .ok (.if_icmp .ge 41, 3) := dk_162 0 41 (dk_at dksX0_lackOf_4 2 rfl rfl)
theorem dX0_lackOf_95 : decode cX0_lackOf 95 = .ok (.aload_n 0, 1) := dk_42 (dk_at dksX0_lackOf_4 5 rfl rfl)
theorem dX0_lackOf_96 : decode cX0_lackOf 96 = .ok (.getfield 11, 3) := dk_180 0 11 (dk_at dksX0_lackOf_4 6 rfl rfl)
theorem dX0_lackOf_99 : decode cX0_lackOf 99 = .ok (.aload_n 0, 1) := dk_42 (dk_at dksX0_lackOf_4 9 rfl rfl)
theorem dX0_lackOf_100 : decode cX0_lackOf 100 = .ok (.getfield 52, 3) := dk_180 0 52 (dk_at dksX0_lackOf_4 10 rfl rfl)
theorem dX0_lackOf_103 : decode cX0_lackOf 103 = .ok (.iload_n 1, 1) := dk_27 (dk_at dksX0_lackOf_4 13 rfl rfl)
theorem dX0_lackOf_104 : decode cX0_lackOf 104 = .ok (.iaload, 1) := dk_46 (dk_at dksX0_lackOf_4 14 rfl rfl)
theorem dX0_lackOf_105 : decode cX0_lackOf 105 = .ok (.aaload, 1) := dk_50 (dk_at dksX0_lackOf_4 15 rfl rfl)
theorem dX0_lackOf_106 : decode cX0_lackOf 106 = .ok (.iload_n 3, 1) := dk_29 (dk_at dksX0_lackOf_4 16 rfl rfl)
theorem dX0_lackOf_107 : decode cX0_lackOf 107 = .ok (.invokevirtual 148, 3) := dk_182 0 148 (dk_at dksX0_lackOf_4 17 rfl rfl)
theorem dX0_lackOf_110 : decode cX0_lackOf 110 = .ok (.ifCond .eq 17, 3) := dk_153 0 17 (dk_at dksX0_lackOf_4 20 rfl rfl)
theorem dX0_lackOf_113 : decode cX0_lackOf 113 = .ok (.iload_n 2, 1) := dk_28 (dk_at dksX0_lackOf_4 23 rfl rfl)
theorem dX0_lackOf_114 : decode cX0_lackOf 114 = .ok (.iload_n 3, 1) := dk_29 (dk_at dksX0_lackOf_5 0 rfl rfl)
theorem dX0_lackOf_115 : decode cX0_lackOf 115 = .ok (.ishr, 1) := dk_122 (dk_at dksX0_lackOf_5 1 rfl rfl)
theorem dX0_lackOf_116 : decode cX0_lackOf 116 = .ok (.iconst 1, 1) := dk_4 (dk_at dksX0_lackOf_5 2 rfl rfl)
theorem dX0_lackOf_117 : decode cX0_lackOf 117 = .ok (.iand, 1) := dk_126 (dk_at dksX0_lackOf_5 3 rfl rfl)
theorem dX0_lackOf_118 : decode cX0_lackOf 118 = .ok (.ifCond .ne 9, 3) := dk_154 0 9 (dk_at dksX0_lackOf_5 4 rfl rfl)
theorem dX0_lackOf_121 : decode cX0_lackOf 121 = .ok (.aload_n 0, 1) := dk_42 (dk_at dksX0_lackOf_5 7 rfl rfl)
theorem dX0_lackOf_122 : decode cX0_lackOf 122 = .ok (.iload_n 1, 1) := dk_27 (dk_at dksX0_lackOf_5 8 rfl rfl)
theorem dX0_lackOf_123 : decode cX0_lackOf 123 = .ok (.invokevirtual 208, 3) := dk_182 0 208 (dk_at dksX0_lackOf_5 9 rfl rfl)
theorem dX0_lackOf_126 : decode cX0_lackOf 126 = .ok (.ireturn, 1) := dk_172 (dk_at dksX0_lackOf_5 12 rfl rfl)
theorem dX0_lackOf_127 : decode cX0_lackOf 127 = .ok (.iinc 3 1, 3) := dk_132 3 1 (dk_at dksX0_lackOf_5 13 rfl rfl)
theorem dX0_lackOf_130 : decode cX0_lackOf 130 = .ok (.goto (-41), 3) := dk_167 255 215 (dk_at dksX0_lackOf_5 16 rfl rfl)
theorem dX0_lackOf_133 : decode cX0_lackOf 133 = .ok (.bipush (-6), 2) := dk_16 250 (dk_at dksX0_lackOf_5 19 rfl rfl)
theorem dX0_lackOf_135 : decode cX0_lackOf 135 = .ok (.ireturn, 1) := dk_172 (dk_at dksX0_lackOf_5 21 rfl rfl)
abbrev cX0_endOf : ByteArray := prog_1_method_31_code
def yX0_endOf : MethodName := ⟨RX0, "endOf", "(I)I"⟩
def dkwX0_endOf_3 : List UInt8 := [167, 0, 4, 3, 96, 61, 132, 3, 1, 28, 157, 255, 190, 29, 4, 100, 172]
abbrev dktX0_endOf_3 : List UInt8 := dkwX0_endOf_3 ++ []
def dkwX0_endOf_2 : List UInt8 := [21, 4, 16, 125, 159, 0, 17, 21, 4, 16, 93, 159, 0, 10, 21, 4, 16, 41, 160, 0, 7, 2]
abbrev dktX0_endOf_2 : List UInt8 := dkwX0_endOf_2 ++ dktX0_endOf_3
def dkwX0_endOf_1 : List UInt8 := [16, 123, 159, 0, 17, 21, 4, 16, 91, 159, 0, 10, 21, 4, 16, 40, 160, 0, 7, 4, 167, 0, 29]
abbrev dktX0_endOf_1 : List UInt8 := dkwX0_endOf_1 ++ dktX0_endOf_2
def dkwX0_endOf_0 : List UInt8 := [3, 61, 42, 180, 0, 48, 180, 0, 195, 27, 46, 62, 42, 180, 0, 19, 29, 52, 54, 4, 28, 21, 4]
abbrev dktX0_endOf_0 : List UInt8 := dkwX0_endOf_0 ++ dktX0_endOf_1
theorem dksX0_endOf_0 : cX0_endOf.data.toList.drop 0 = dktX0_endOf_0 := by decide +kernel
theorem dksX0_endOf_1 : cX0_endOf.data.toList.drop 23 = dktX0_endOf_1 := dk_seg dksX0_endOf_0 23 rfl rfl
theorem dksX0_endOf_2 : cX0_endOf.data.toList.drop 46 = dktX0_endOf_2 := dk_seg dksX0_endOf_1 23 rfl rfl
theorem dksX0_endOf_3 : cX0_endOf.data.toList.drop 68 = dktX0_endOf_3 := dk_seg dksX0_endOf_2 22 rfl rfl
theorem dX0_endOf_0 : decode cX0_endOf 0 = .ok (.iconst 0, 1) := dk_3 (dk_at dksX0_endOf_0 0 rfl rfl)
theorem dX0_endOf_1 : decode cX0_endOf 1 = .ok (.istore_n 2, 1) := dk_61 (dk_at dksX0_endOf_0 1 rfl rfl)
theorem dX0_endOf_2 : decode cX0_endOf 2 = .ok (.aload_n 0, 1) := dk_42 (dk_at dksX0_endOf_0 2 rfl rfl)
theorem dX0_endOf_3 : decode cX0_endOf 3 = .ok (.getfield 48, 3) := dk_180 0 48 (dk_at dksX0_endOf_0 3 rfl rfl)
theorem dX0_endOf_6 : decode cX0_endOf 6 = .ok (.getfield 195, 3) := dk_180 0 195 (dk_at dksX0_endOf_0 6 rfl rfl)
theorem dX0_endOf_9 : decode cX0_endOf 9 = .ok (.iload_n 1, 1) := dk_27 (dk_at dksX0_endOf_0 9 rfl rfl)
theorem dX0_endOf_10 : decode cX0_endOf 10 = .ok (.iaload, 1) := dk_46 (dk_at dksX0_endOf_0 10 rfl rfl)
theorem dX0_endOf_11 : decode cX0_endOf 11 = .ok (.istore_n 3, 1) := dk_62 (dk_at dksX0_endOf_0 11 rfl rfl)
theorem dX0_endOf_12 : decode cX0_endOf 12 = .ok (.aload_n 0, 1) := dk_42 (dk_at dksX0_endOf_0 12 rfl rfl)
theorem dX0_endOf_13 : decode cX0_endOf 13 = .ok (.getfield 19, 3) := dk_180 0 19 (dk_at dksX0_endOf_0 13 rfl rfl)
theorem dX0_endOf_16 : decode cX0_endOf 16 = .ok (.iload_n 3, 1) := dk_29 (dk_at dksX0_endOf_0 16 rfl rfl)
theorem dX0_endOf_17 : decode cX0_endOf 17 = .ok (.caload, 1) := dk_52 (dk_at dksX0_endOf_0 17 rfl rfl)
theorem dX0_endOf_18 : decode cX0_endOf 18 = .ok (.istore 4, 2) := dk_54 4 (dk_at dksX0_endOf_0 18 rfl rfl)
theorem dX0_endOf_20 : decode cX0_endOf 20 = .ok (.iload_n 2, 1) := dk_28 (dk_at dksX0_endOf_0 20 rfl rfl)
theorem dX0_endOf_21 : decode cX0_endOf 21 = .ok (.iload 4, 2) := dk_21 4 (dk_at dksX0_endOf_0 21 rfl rfl)
theorem dX0_endOf_23 : decode cX0_endOf 23 = .ok (.bipush 123, 2) := dk_16 123 (dk_at dksX0_endOf_1 0 rfl rfl)
theorem dX0_endOf_25 : decode cX0_endOf 25 = .ok (.if_icmp .eq 17, 3) := dk_159 0 17 (dk_at dksX0_endOf_1 2 rfl rfl)
theorem dX0_endOf_28 : decode cX0_endOf 28 = .ok (.iload 4, 2) := dk_21 4 (dk_at dksX0_endOf_1 5 rfl rfl)
theorem dX0_endOf_30 : decode cX0_endOf 30 = .ok (.bipush 91, 2) := dk_16 91 (dk_at dksX0_endOf_1 7 rfl rfl)
theorem dX0_endOf_32 : decode cX0_endOf 32 = .ok (.if_icmp .eq 10, 3) := dk_159 0 10 (dk_at dksX0_endOf_1 9 rfl rfl)
theorem dX0_endOf_35 : decode cX0_endOf 35 = .ok (.iload 4, 2) := dk_21 4 (dk_at dksX0_endOf_1 12 rfl rfl)
theorem dX0_endOf_37 : decode cX0_endOf 37 = .ok (.bipush 40, 2) := dk_16 40 (dk_at dksX0_endOf_1 14 rfl rfl)
theorem dX0_endOf_39 : decode cX0_endOf 39 = .ok (.if_icmp .ne 7, 3) := dk_160 0 7 (dk_at dksX0_endOf_1 16 rfl rfl)
theorem dX0_endOf_42 : decode cX0_endOf 42 = .ok (.iconst 1, 1) := dk_4 (dk_at dksX0_endOf_1 19 rfl rfl)
theorem dX0_endOf_43 : decode cX0_endOf 43 = .ok (.goto 29, 3) := dk_167 0 29 (dk_at dksX0_endOf_1 20 rfl rfl)
theorem dX0_endOf_46 : decode cX0_endOf 46 = .ok (.iload 4, 2) := dk_21 4 (dk_at dksX0_endOf_2 0 rfl rfl)
theorem dX0_endOf_48 : decode cX0_endOf 48 = .ok (.bipush 125, 2) := dk_16 125 (dk_at dksX0_endOf_2 2 rfl rfl)
theorem dX0_endOf_50 : decode cX0_endOf 50 = .ok (.if_icmp .eq 17, 3) := dk_159 0 17 (dk_at dksX0_endOf_2 4 rfl rfl)
theorem dX0_endOf_53 : decode cX0_endOf 53 = .ok (.iload 4, 2) := dk_21 4 (dk_at dksX0_endOf_2 7 rfl rfl)
theorem dX0_endOf_55 : decode cX0_endOf 55 = .ok (.bipush 93, 2) := dk_16 93 (dk_at dksX0_endOf_2 9 rfl rfl)
theorem dX0_endOf_57 : decode cX0_endOf 57 = .ok (.if_icmp .eq 10, 3) := dk_159 0 10 (dk_at dksX0_endOf_2 11 rfl rfl)
theorem dX0_endOf_60 : decode cX0_endOf 60 = .ok (.iload 4, 2) := dk_21 4 (dk_at dksX0_endOf_2 14 rfl rfl)
theorem dX0_endOf_62 : decode cX0_endOf 62 = .ok (.bipush 41, 2) := dk_16 41 (dk_at dksX0_endOf_2 16 rfl rfl)
theorem dX0_endOf_64 : decode cX0_endOf 64 = .ok (.if_icmp .ne 7, 3) := dk_160 0 7 (dk_at dksX0_endOf_2 18 rfl rfl)
theorem dX0_endOf_67 : decode cX0_endOf 67 = .ok (.iconst (-1), 1) := dk_2 (dk_at dksX0_endOf_2 21 rfl rfl)
theorem dX0_endOf_68 : decode cX0_endOf 68 = .ok (.goto 4, 3) := dk_167 0 4 (dk_at dksX0_endOf_3 0 rfl rfl)
theorem dX0_endOf_71 : decode cX0_endOf 71 = .ok (.iconst 0, 1) := dk_3 (dk_at dksX0_endOf_3 3 rfl rfl)
theorem dX0_endOf_72 : decode cX0_endOf 72 = .ok (.iadd, 1) := dk_96 (dk_at dksX0_endOf_3 4 rfl rfl)
theorem dX0_endOf_73 : decode cX0_endOf 73 = .ok (.istore_n 2, 1) := dk_61 (dk_at dksX0_endOf_3 5 rfl rfl)
theorem dX0_endOf_74 : decode cX0_endOf 74 = .ok (.iinc 3 1, 3) := dk_132 3 1 (dk_at dksX0_endOf_3 6 rfl rfl)
theorem dX0_endOf_77 : decode cX0_endOf 77 = .ok (.iload_n 2, 1) := dk_28 (dk_at dksX0_endOf_3 9 rfl rfl)
theorem dX0_endOf_78 : decode cX0_endOf 78 = .ok (.ifCond .gt (-66), 3) := dk_157 255 190 (dk_at dksX0_endOf_3 10 rfl rfl)
theorem dX0_endOf_81 : decode cX0_endOf 81 = .ok (.iload_n 3, 1) := dk_29 (dk_at dksX0_endOf_3 13 rfl rfl)
theorem dX0_endOf_82 : decode cX0_endOf 82 = .ok (.iconst 1, 1) := dk_4 (dk_at dksX0_endOf_3 14 rfl rfl)
theorem dX0_endOf_83 : decode cX0_endOf 83 = .ok (.isub, 1) := dk_100 (dk_at dksX0_endOf_3 15 rfl rfl)
theorem dX0_endOf_84 : decode cX0_endOf 84 = .ok (.ireturn, 1) := dk_172 (dk_at dksX0_endOf_3 16 rfl rfl)
abbrev cX0_size : ByteArray := prog_1_method_33_code
def yX0_size : MethodName := ⟨RX0, "size", "()I"⟩
def dkwX0_size_0 : List UInt8 := [42, 182, 0, 211, 155, 0, 8, 16, 251, 167, 0, 10, 42, 180, 0, 48, 180, 0, 207, 172]
abbrev dktX0_size_0 : List UInt8 := dkwX0_size_0 ++ []
theorem dksX0_size_0 : cX0_size.data.toList.drop 0 = dktX0_size_0 := by decide +kernel
theorem dX0_size_0 : decode cX0_size 0 = .ok (.aload_n 0, 1) := dk_42 (dk_at dksX0_size_0 0 rfl rfl)
theorem dX0_size_1 : decode cX0_size 1 = .ok (.invokevirtual 211, 3) := dk_182 0 211 (dk_at dksX0_size_0 1 rfl rfl)
theorem dX0_size_4 : decode cX0_size 4 = .ok (.ifCond .lt 8, 3) := dk_155 0 8 (dk_at dksX0_size_0 4 rfl rfl)
theorem dX0_size_7 : decode cX0_size 7 = .ok (.bipush (-5), 2) := dk_16 251 (dk_at dksX0_size_0 7 rfl rfl)
theorem dX0_size_9 : decode cX0_size 9 = .ok (.goto 10, 3) := dk_167 0 10 (dk_at dksX0_size_0 9 rfl rfl)
theorem dX0_size_12 : decode cX0_size 12 = .ok (.aload_n 0, 1) := dk_42 (dk_at dksX0_size_0 12 rfl rfl)
theorem dX0_size_13 : decode cX0_size 13 = .ok (.getfield 48, 3) := dk_180 0 48 (dk_at dksX0_size_0 13 rfl rfl)
theorem dX0_size_16 : decode cX0_size 16 = .ok (.getfield 207, 3) := dk_180 0 207 (dk_at dksX0_size_0 16 rfl rfl)
theorem dX0_size_19 : decode cX0_size 19 = .ok (.ireturn, 1) := dk_172 (dk_at dksX0_size_0 19 rfl rfl)
abbrev cX0_count : ByteArray := prog_1_method_38_code
def yX0_count : MethodName := ⟨RX0, "count", "(II)I"⟩
def dkwX0_count_3 : List UInt8 := [132, 3, 1, 167, 255, 209, 42, 180, 0, 57, 28, 50, 27, 47, 136, 172]
abbrev dktX0_count_3 : List UInt8 := dkwX0_count_3 ++ []
def dkwX0_count_2 : List UInt8 := [29, 50, 21, 4, 42, 42, 180, 0, 11, 21, 4, 50, 29, 182, 0, 251, 80, 132, 4, 1, 167, 255, 223]
abbrev dktX0_count_2 : List UInt8 := dkwX0_count_2 ++ dktX0_count_3
def dkwX0_count_1 : List UInt8 := [172, 4, 62, 29, 28, 163, 0, 48, 3, 54, 4, 21, 4, 42, 180, 0, 94, 162, 0, 30, 42, 180, 0, 57]
abbrev dktX0_count_1 : List UInt8 := dkwX0_count_1 ++ dktX0_count_2
def dkwX0_count_0 : List UInt8 := [42, 27, 182, 0, 132, 154, 0, 5, 2, 172, 28, 133, 10, 20, 0, 249, 184, 0, 72, 154, 0, 6, 16, 254]
abbrev dktX0_count_0 : List UInt8 := dkwX0_count_0 ++ dktX0_count_1
theorem dksX0_count_0 : cX0_count.data.toList.drop 0 = dktX0_count_0 := by decide +kernel
theorem dksX0_count_1 : cX0_count.data.toList.drop 24 = dktX0_count_1 := dk_seg dksX0_count_0 24 rfl rfl
theorem dksX0_count_2 : cX0_count.data.toList.drop 48 = dktX0_count_2 := dk_seg dksX0_count_1 24 rfl rfl
theorem dksX0_count_3 : cX0_count.data.toList.drop 71 = dktX0_count_3 := dk_seg dksX0_count_2 23 rfl rfl
theorem dX0_count_0 : decode cX0_count 0 = .ok (.aload_n 0, 1) := dk_42 (dk_at dksX0_count_0 0 rfl rfl)
theorem dX0_count_1 : decode cX0_count 1 = .ok (.iload_n 1, 1) := dk_27 (dk_at dksX0_count_0 1 rfl rfl)
theorem dX0_count_2 : decode cX0_count 2 = .ok (.invokevirtual 132, 3) := dk_182 0 132 (dk_at dksX0_count_0 2 rfl rfl)
theorem dX0_count_5 : decode cX0_count 5 = .ok (.ifCond .ne 5, 3) := dk_154 0 5 (dk_at dksX0_count_0 5 rfl rfl)
theorem dX0_count_8 : decode cX0_count 8 = .ok (.iconst (-1), 1) := dk_2 (dk_at dksX0_count_0 8 rfl rfl)
theorem dX0_count_9 : decode cX0_count 9 = .ok (.ireturn, 1) := dk_172 (dk_at dksX0_count_0 9 rfl rfl)
theorem dX0_count_10 : decode cX0_count 10 = .ok (.iload_n 2, 1) := dk_28 (dk_at dksX0_count_0 10 rfl rfl)
theorem dX0_count_11 : decode cX0_count 11 = .ok (.i2l, 1) := dk_133 (dk_at dksX0_count_0 11 rfl rfl)
theorem dX0_count_12 : decode cX0_count 12 = .ok (.lconst 1, 1) := dk_10 (dk_at dksX0_count_0 12 rfl rfl)
theorem dX0_count_13 : decode cX0_count 13 = .ok (.ldc2_w 249, 3) := dk_20 0 249 (dk_at dksX0_count_0 13 rfl rfl)
theorem dX0_count_16 : decode cX0_count 16 = .ok (.invokestatic 72, 3) := dk_184 0 72 (dk_at dksX0_count_0 16 rfl rfl)
theorem dX0_count_19 : decode cX0_count 19 = .ok (.ifCond .ne 6, 3) := dk_154 0 6 (dk_at dksX0_count_0 19 rfl rfl)
theorem dX0_count_22 : decode cX0_count 22 = .ok (.bipush (-2), 2) := dk_16 254 (dk_at dksX0_count_0 22 rfl rfl)
theorem dX0_count_24 : decode cX0_count 24 = .ok (.ireturn, 1) := dk_172 (dk_at dksX0_count_1 0 rfl rfl)
theorem dX0_count_25 : decode cX0_count 25 = .ok (.iconst 1, 1) := dk_4 (dk_at dksX0_count_1 1 rfl rfl)
theorem dX0_count_26 : decode cX0_count 26 = .ok (.istore_n 3, 1) := dk_62 (dk_at dksX0_count_1 2 rfl rfl)
theorem dX0_count_27 : decode cX0_count 27 = .ok (.iload_n 3, 1) := dk_29 (dk_at dksX0_count_1 3 rfl rfl)
theorem dX0_count_28 : decode cX0_count 28 = .ok (.iload_n 2, 1) := dk_28 (dk_at dksX0_count_1 4 rfl rfl)
theorem dX0_count_29 : decode cX0_count 29 = .ok (.if_icmp .gt 48, 3) := dk_163 0 48 (dk_at dksX0_count_1 5 rfl rfl)
theorem dX0_count_32 : decode cX0_count 32 = .ok (.iconst 0, 1) := dk_3 (dk_at dksX0_count_1 8 rfl rfl)
theorem dX0_count_33 : decode cX0_count 33 = .ok (.istore 4, 2) := dk_54 4 (dk_at dksX0_count_1 9 rfl rfl)
theorem dX0_count_35 : decode cX0_count 35 = .ok (.iload 4, 2) := dk_21 4 (dk_at dksX0_count_1 11 rfl rfl)
theorem dX0_count_37 : decode cX0_count 37 = .ok (.aload_n 0, 1) := dk_42 (dk_at dksX0_count_1 13 rfl rfl)
theorem dX0_count_38 : decode cX0_count 38 = .ok (.getfield 94, 3) := dk_180 0 94 (dk_at dksX0_count_1 14 rfl rfl)
theorem dX0_count_41 : decode cX0_count 41 = .ok (.if_icmp .ge 30, 3) := dk_162 0 30 (dk_at dksX0_count_1 17 rfl rfl)
theorem dX0_count_44 : decode cX0_count 44 = .ok (.aload_n 0, 1) := dk_42 (dk_at dksX0_count_1 20 rfl rfl)
theorem dX0_count_45 : decode cX0_count 45 = .ok (.getfield 57, 3) := dk_180 0 57 (dk_at dksX0_count_1 21 rfl rfl)
theorem dX0_count_48 : decode cX0_count 48 = .ok (.iload_n 3, 1) := dk_29 (dk_at dksX0_count_2 0 rfl rfl)
theorem dX0_count_49 : decode cX0_count 49 = .ok (.aaload, 1) := dk_50 (dk_at dksX0_count_2 1 rfl rfl)
theorem dX0_count_50 : decode cX0_count 50 = .ok (.iload 4, 2) := dk_21 4 (dk_at dksX0_count_2 2 rfl rfl)
theorem dX0_count_52 : decode cX0_count 52 = .ok (.aload_n 0, 1) := dk_42 (dk_at dksX0_count_2 4 rfl rfl)
theorem dX0_count_53 : decode cX0_count 53 = .ok (.aload_n 0, 1) := dk_42 (dk_at dksX0_count_2 5 rfl rfl)
theorem dX0_count_54 : decode cX0_count 54 = .ok (.getfield 11, 3) := dk_180 0 11 (dk_at dksX0_count_2 6 rfl rfl)
theorem dX0_count_57 : decode cX0_count 57 = .ok (.iload 4, 2) := dk_21 4 (dk_at dksX0_count_2 9 rfl rfl)
theorem dX0_count_59 : decode cX0_count 59 = .ok (.aaload, 1) := dk_50 (dk_at dksX0_count_2 11 rfl rfl)
theorem dX0_count_60 : decode cX0_count 60 = .ok (.iload_n 3, 1) := dk_29 (dk_at dksX0_count_2 12 rfl rfl)
theorem dX0_count_61 : decode cX0_count 61 = .ok (.invokevirtual 251, 3) := dk_182 0 251 (dk_at dksX0_count_2 13 rfl rfl)
theorem dX0_count_64 : decode cX0_count 64 = .ok (.lastore, 1) := dk_80 (dk_at dksX0_count_2 16 rfl rfl)
theorem dX0_count_65 : decode cX0_count 65 = .ok (.iinc 4 1, 3) := dk_132 4 1 (dk_at dksX0_count_2 17 rfl rfl)
theorem dX0_count_68 : decode cX0_count 68 = .ok (.goto (-33), 3) := dk_167 255 223 (dk_at dksX0_count_2 20 rfl rfl)
theorem dX0_count_71 : decode cX0_count 71 = .ok (.iinc 3 1, 3) := dk_132 3 1 (dk_at dksX0_count_3 0 rfl rfl)
theorem dX0_count_74 : decode cX0_count 74 = .ok (.goto (-47), 3) := dk_167 255 209 (dk_at dksX0_count_3 3 rfl rfl)
theorem dX0_count_77 : decode cX0_count 77 = .ok (.aload_n 0, 1) := dk_42 (dk_at dksX0_count_3 6 rfl rfl)
theorem dX0_count_78 : decode cX0_count 78 = .ok (.getfield 57, 3) := dk_180 0 57 (dk_at dksX0_count_3 7 rfl rfl)
theorem dX0_count_81 : decode cX0_count 81 = .ok (.iload_n 2, 1) := dk_28 (dk_at dksX0_count_3 10 rfl rfl)
theorem dX0_count_82 : decode cX0_count 82 = .ok (.aaload, 1) := dk_50 (dk_at dksX0_count_3 11 rfl rfl)
theorem dX0_count_83 : decode cX0_count 83 = .ok (.iload_n 1, 1) := dk_27 (dk_at dksX0_count_3 12 rfl rfl)
theorem dX0_count_84 : decode cX0_count 84 = .ok (.laload, 1) := dk_47 (dk_at dksX0_count_3 13 rfl rfl)
theorem dX0_count_85 : decode cX0_count 85 = .ok (.l2i, 1) := dk_136 (dk_at dksX0_count_3 14 rfl rfl)
theorem dX0_count_86 : decode cX0_count 86 = .ok (.ireturn, 1) := dk_172 (dk_at dksX0_count_3 15 rfl rfl)
abbrev cX0_countOf : ByteArray := prog_1_method_37_code
def yX0_countOf : MethodName := ⟨RX0, "countOf", "(LKindNets$Kind;I)J"⟩
def dkwX0_countOf_7 : List UInt8 := [167, 255, 206, 33, 173, 9, 173]
abbrev dktX0_countOf_7 : List UInt8 := dkwX0_countOf_7 ++ []
def dkwX0_countOf_6 : List UInt8 := [100, 50, 43, 180, 0, 113, 21, 5, 46, 47, 167, 0, 4, 9, 97, 184, 0, 232, 66, 132, 5, 1]
abbrev dktX0_countOf_6 : List UInt8 := dkwX0_countOf_6 ++ dktX0_countOf_7
def dkwX0_countOf_5 : List UInt8 := [162, 0, 49, 28, 4, 164, 0, 44, 33, 43, 21, 5, 182, 0, 148, 153, 0, 22, 42, 180, 0, 57, 28, 4]
abbrev dktX0_countOf_5 : List UInt8 := dkwX0_countOf_5 ++ dktX0_countOf_6
def dkwX0_countOf_4 : List UInt8 := [42, 43, 180, 0, 113, 3, 46, 28, 4, 100, 182, 0, 245, 173, 9, 66, 3, 54, 5, 21, 5, 16, 8]
abbrev dktX0_countOf_4 : List UInt8 := dkwX0_countOf_4 ++ dktX0_countOf_5
def dkwX0_countOf_3 : List UInt8 := [9, 173, 28, 4, 160, 0, 9, 20, 0, 239, 167, 0, 4, 9, 173, 42, 43, 28, 4, 100, 182, 0, 241, 173]
abbrev dktX0_countOf_3 : List UInt8 := dkwX0_countOf_3 ++ dktX0_countOf_4
def dkwX0_countOf_2 : List UInt8 := [28, 4, 160, 0, 9, 20, 0, 235, 167, 0, 4, 9, 173, 28, 4, 160, 0, 9, 20, 0, 237, 167, 0, 4]
abbrev dktX0_countOf_2 : List UInt8 := dkwX0_countOf_2 ++ dktX0_countOf_3
def dkwX0_countOf_1 : List UInt8 := [171, 0, 0, 0, 0, 0, 0, 182, 0, 0, 0, 6, 0, 0, 0, 42, 0, 0, 0, 108, 0, 0, 0, 91, 0, 0, 0, 122, 0, 0, 0, 110, 0, 0, 0, 60, 0, 0, 0, 115, 0, 0, 0, 86, 0, 0, 0, 116, 0, 0, 0, 73, 0, 0, 0, 123, 0, 0, 0, 99]
abbrev dktX0_countOf_1 : List UInt8 := dkwX0_countOf_1 ++ dktX0_countOf_2
def dkwX0_countOf_0 : List UInt8 := [43, 180, 0, 101]
abbrev dktX0_countOf_0 : List UInt8 := dkwX0_countOf_0 ++ dktX0_countOf_1
theorem dksX0_countOf_0 : cX0_countOf.data.toList.drop 0 = dktX0_countOf_0 := by decide +kernel
theorem dksX0_countOf_1 : cX0_countOf.data.toList.drop 4 = dktX0_countOf_1 := dk_seg dksX0_countOf_0 4 rfl rfl
theorem dksX0_countOf_2 : cX0_countOf.data.toList.drop 64 = dktX0_countOf_2 := dk_seg dksX0_countOf_1 60 rfl rfl
theorem dksX0_countOf_3 : cX0_countOf.data.toList.drop 88 = dktX0_countOf_3 := dk_seg dksX0_countOf_2 24 rfl rfl
theorem dksX0_countOf_4 : cX0_countOf.data.toList.drop 112 = dktX0_countOf_4 := dk_seg dksX0_countOf_3 24 rfl rfl
theorem dksX0_countOf_5 : cX0_countOf.data.toList.drop 135 = dktX0_countOf_5 := dk_seg dksX0_countOf_4 23 rfl rfl
theorem dksX0_countOf_6 : cX0_countOf.data.toList.drop 159 = dktX0_countOf_6 := dk_seg dksX0_countOf_5 24 rfl rfl
theorem dksX0_countOf_7 : cX0_countOf.data.toList.drop 181 = dktX0_countOf_7 := dk_seg dksX0_countOf_6 22 rfl rfl
theorem dX0_countOf_0 : decode cX0_countOf 0 = .ok (.aload_n 1, 1) := dk_43 (dk_at dksX0_countOf_0 0 rfl rfl)
theorem dX0_countOf_1 : decode cX0_countOf 1 = .ok (.getfield 101, 3) := dk_180 0 101 (dk_at dksX0_countOf_0 1 rfl rfl)
theorem dX0_countOf_4 : decode cX0_countOf 4 = .ok (.lookupswitch 182 #[(42, 108), (91, 122), (110, 60), (115, 86), (116, 73), (123, 99)], 60) := by decide +kernel
theorem dX0_countOf_64 : decode cX0_countOf 64 = .ok (.iload_n 2, 1) := dk_28 (dk_at dksX0_countOf_2 0 rfl rfl)
theorem dX0_countOf_65 : decode cX0_countOf 65 = .ok (.iconst 1, 1) := dk_4 (dk_at dksX0_countOf_2 1 rfl rfl)
theorem dX0_countOf_66 : decode cX0_countOf 66 = .ok (.if_icmp .ne 9, 3) := dk_160 0 9 (dk_at dksX0_countOf_2 2 rfl rfl)
theorem dX0_countOf_69 : decode cX0_countOf 69 = .ok (.ldc2_w 235, 3) := dk_20 0 235 (dk_at dksX0_countOf_2 5 rfl rfl)
theorem dX0_countOf_72 : decode cX0_countOf 72 = .ok (.goto 4, 3) := dk_167 0 4 (dk_at dksX0_countOf_2 8 rfl rfl)
theorem dX0_countOf_75 : decode cX0_countOf 75 = .ok (.lconst 0, 1) := dk_9 (dk_at dksX0_countOf_2 11 rfl rfl)
theorem dX0_countOf_76 : decode cX0_countOf 76 = .ok (.lreturn, 1) := dk_173 (dk_at dksX0_countOf_2 12 rfl rfl)
theorem dX0_countOf_77 : decode cX0_countOf 77 = .ok (.iload_n 2, 1) := dk_28 (dk_at dksX0_countOf_2 13 rfl rfl)
theorem dX0_countOf_78 : decode cX0_countOf 78 = .ok (.iconst 1, 1) := dk_4 (dk_at dksX0_countOf_2 14 rfl rfl)
theorem dX0_countOf_79 : decode cX0_countOf 79 = .ok (.if_icmp .ne 9, 3) := dk_160 0 9 (dk_at dksX0_countOf_2 15 rfl rfl)
theorem dX0_countOf_82 : decode cX0_countOf 82 = .ok (.ldc2_w 237, 3) := dk_20 0 237 (dk_at dksX0_countOf_2 18 rfl rfl)
theorem dX0_countOf_85 : decode cX0_countOf 85 = .ok (.goto 4, 3) := dk_167 0 4 (dk_at dksX0_countOf_2 21 rfl rfl)
theorem dX0_countOf_88 : decode cX0_countOf 88 = .ok (.lconst 0, 1) := dk_9 (dk_at dksX0_countOf_3 0 rfl rfl)
theorem dX0_countOf_89 : decode cX0_countOf 89 = .ok (.lreturn, 1) := dk_173 (dk_at dksX0_countOf_3 1 rfl rfl)
theorem dX0_countOf_90 : decode cX0_countOf 90 = .ok (.iload_n 2, 1) := dk_28 (dk_at dksX0_countOf_3 2 rfl rfl)
theorem dX0_countOf_91 : decode cX0_countOf 91 = .ok (.iconst 1, 1) := dk_4 (dk_at dksX0_countOf_3 3 rfl rfl)
theorem dX0_countOf_92 : decode cX0_countOf 92 = .ok (.if_icmp .ne 9, 3) := dk_160 0 9 (dk_at dksX0_countOf_3 4 rfl rfl)
theorem dX0_countOf_95 : decode cX0_countOf 95 = .ok (.ldc2_w 239, 3) := dk_20 0 239 (dk_at dksX0_countOf_3 7 rfl rfl)
theorem dX0_countOf_98 : decode cX0_countOf 98 = .ok (.goto 4, 3) := dk_167 0 4 (dk_at dksX0_countOf_3 10 rfl rfl)
theorem dX0_countOf_101 : decode cX0_countOf 101 = .ok (.lconst 0, 1) := dk_9 (dk_at dksX0_countOf_3 13 rfl rfl)
theorem dX0_countOf_102 : decode cX0_countOf 102 = .ok (.lreturn, 1) := dk_173 (dk_at dksX0_countOf_3 14 rfl rfl)
theorem dX0_countOf_103 : decode cX0_countOf 103 = .ok (.aload_n 0, 1) := dk_42 (dk_at dksX0_countOf_3 15 rfl rfl)
theorem dX0_countOf_104 : decode cX0_countOf 104 = .ok (.aload_n 1, 1) := dk_43 (dk_at dksX0_countOf_3 16 rfl rfl)
theorem dX0_countOf_105 : decode cX0_countOf 105 = .ok (.iload_n 2, 1) := dk_28 (dk_at dksX0_countOf_3 17 rfl rfl)
theorem dX0_countOf_106 : decode cX0_countOf 106 = .ok (.iconst 1, 1) := dk_4 (dk_at dksX0_countOf_3 18 rfl rfl)
theorem dX0_countOf_107 : decode cX0_countOf 107 = .ok (.isub, 1) := dk_100 (dk_at dksX0_countOf_3 19 rfl rfl)
theorem dX0_countOf_108 : decode cX0_countOf 108 = .ok (.invokevirtual 241, 3) := dk_182 0 241 (dk_at dksX0_countOf_3 20 rfl rfl)
theorem dX0_countOf_111 : decode cX0_countOf 111 = .ok (.lreturn, 1) := dk_173 (dk_at dksX0_countOf_3 23 rfl rfl)
theorem dX0_countOf_112 : decode cX0_countOf 112 = .ok (.aload_n 0, 1) := dk_42 (dk_at dksX0_countOf_4 0 rfl rfl)
theorem dX0_countOf_113 : decode cX0_countOf 113 = .ok (.aload_n 1, 1) := dk_43 (dk_at dksX0_countOf_4 1 rfl rfl)
theorem dX0_countOf_114 : decode cX0_countOf 114 = .ok (.getfield 113, 3) := dk_180 0 113 (dk_at dksX0_countOf_4 2 rfl rfl)
theorem dX0_countOf_117 : decode cX0_countOf 117 = .ok (.iconst 0, 1) := dk_3 (dk_at dksX0_countOf_4 5 rfl rfl)
theorem dX0_countOf_118 : decode cX0_countOf 118 = .ok (.iaload, 1) := dk_46 (dk_at dksX0_countOf_4 6 rfl rfl)
theorem dX0_countOf_119 : decode cX0_countOf 119 = .ok (.iload_n 2, 1) := dk_28 (dk_at dksX0_countOf_4 7 rfl rfl)
theorem dX0_countOf_120 : decode cX0_countOf 120 = .ok (.iconst 1, 1) := dk_4 (dk_at dksX0_countOf_4 8 rfl rfl)
theorem dX0_countOf_121 : decode cX0_countOf 121 = .ok (.isub, 1) := dk_100 (dk_at dksX0_countOf_4 9 rfl rfl)
theorem dX0_countOf_122 : decode cX0_countOf 122 = .ok (.invokevirtual 245, 3) := dk_182 0 245 (dk_at dksX0_countOf_4 10 rfl rfl)
theorem dX0_countOf_125 : decode cX0_countOf 125 = .ok (.lreturn, 1) := dk_173 (dk_at dksX0_countOf_4 13 rfl rfl)
theorem dX0_countOf_126 : decode cX0_countOf 126 = .ok (.lconst 0, 1) := dk_9 (dk_at dksX0_countOf_4 14 rfl rfl)
theorem dX0_countOf_127 : decode cX0_countOf 127 = .ok (.lstore_n 3, 1) := dk_66 (dk_at dksX0_countOf_4 15 rfl rfl)
theorem dX0_countOf_128 : decode cX0_countOf 128 = .ok (.iconst 0, 1) := dk_3 (dk_at dksX0_countOf_4 16 rfl rfl)
theorem dX0_countOf_129 : decode cX0_countOf 129 = .ok (.istore 5, 2) := dk_54 5 (dk_at dksX0_countOf_4 17 rfl rfl)
theorem dX0_countOf_131 : decode cX0_countOf 131 = .ok (.iload 5, 2) := dk_21 5 (dk_at dksX0_countOf_4 19 rfl rfl)
theorem dX0_countOf_133 : decode cX0_countOf 133 = .ok (.bipush 8, 2) := dk_16 8 (dk_at dksX0_countOf_4 21 rfl rfl)
theorem dX0_countOf_135 : decode cX0_countOf 135 = .ok (.if_icmp .ge 49, 3) := dk_162 0 49 (dk_at dksX0_countOf_5 0 rfl rfl)
theorem dX0_countOf_138 : decode cX0_countOf 138 = .ok (.iload_n 2, 1) := dk_28 (dk_at dksX0_countOf_5 3 rfl rfl)
theorem dX0_countOf_139 : decode cX0_countOf 139 = .ok (.iconst 1, 1) := dk_4 (dk_at dksX0_countOf_5 4 rfl rfl)
theorem dX0_countOf_140 : decode cX0_countOf 140 = .ok (.if_icmp .le 44, 3) := dk_164 0 44 (dk_at dksX0_countOf_5 5 rfl rfl)
theorem dX0_countOf_143 : decode cX0_countOf 143 = .ok (.lload_n 3, 1) := dk_33 (dk_at dksX0_countOf_5 8 rfl rfl)
theorem dX0_countOf_144 : decode cX0_countOf 144 = .ok (.aload_n 1, 1) := dk_43 (dk_at dksX0_countOf_5 9 rfl rfl)
theorem dX0_countOf_145 : decode cX0_countOf 145 = .ok (.iload 5, 2) := dk_21 5 (dk_at dksX0_countOf_5 10 rfl rfl)
theorem dX0_countOf_147 : decode cX0_countOf 147 = .ok (.invokevirtual 148, 3) := dk_182 0 148 (dk_at dksX0_countOf_5 12 rfl rfl)
theorem dX0_countOf_150 : decode cX0_countOf 150 = .ok (.ifCond .eq 22, 3) := dk_153 0 22 (dk_at dksX0_countOf_5 15 rfl rfl)
theorem dX0_countOf_153 : decode cX0_countOf 153 = .ok (.aload_n 0, 1) := dk_42 (dk_at dksX0_countOf_5 18 rfl rfl)
theorem dX0_countOf_154 : decode cX0_countOf 154 = .ok (.getfield 57, 3) := dk_180 0 57 (dk_at dksX0_countOf_5 19 rfl rfl)
theorem dX0_countOf_157 : decode cX0_countOf 157 = .ok (.iload_n 2, 1) := dk_28 (dk_at dksX0_countOf_5 22 rfl rfl)
theorem dX0_countOf_158 : decode cX0_countOf 158 = .ok (.iconst 1, 1) := dk_4 (dk_at dksX0_countOf_5 23 rfl rfl)
theorem dX0_countOf_159 : decode cX0_countOf 159 = .ok (.isub, 1) := dk_100 (dk_at dksX0_countOf_6 0 rfl rfl)
theorem dX0_countOf_160 : decode cX0_countOf 160 = .ok (.aaload, 1) := dk_50 (dk_at dksX0_countOf_6 1 rfl rfl)
theorem dX0_countOf_161 : decode cX0_countOf 161 = .ok (.aload_n 1, 1) := dk_43 (dk_at dksX0_countOf_6 2 rfl rfl)
theorem dX0_countOf_162 : decode cX0_countOf 162 = .ok (.getfield 113, 3) := dk_180 0 113 (dk_at dksX0_countOf_6 3 rfl rfl)
theorem dX0_countOf_165 : decode cX0_countOf 165 = .ok (.iload 5, 2) := dk_21 5 (dk_at dksX0_countOf_6 6 rfl rfl)
theorem dX0_countOf_167 : decode cX0_countOf 167 = .ok (.iaload, 1) := dk_46 (dk_at dksX0_countOf_6 8 rfl rfl)
theorem dX0_countOf_168 : decode cX0_countOf 168 = .ok (.laload, 1) := dk_47 (dk_at dksX0_countOf_6 9 rfl rfl)
theorem dX0_countOf_169 : decode cX0_countOf 169 = .ok (.goto 4, 3) := dk_167 0 4 (dk_at dksX0_countOf_6 10 rfl rfl)
theorem dX0_countOf_172 : decode cX0_countOf 172 = .ok (.lconst 0, 1) := dk_9 (dk_at dksX0_countOf_6 13 rfl rfl)
theorem dX0_countOf_173 : decode cX0_countOf 173 = .ok (.ladd, 1) := dk_97 (dk_at dksX0_countOf_6 14 rfl rfl)
theorem dX0_countOf_174 : decode cX0_countOf 174 = .ok (.invokestatic 232, 3) := dk_184 0 232 (dk_at dksX0_countOf_6 15 rfl rfl)
theorem dX0_countOf_177 : decode cX0_countOf 177 = .ok (.lstore_n 3, 1) := dk_66 (dk_at dksX0_countOf_6 18 rfl rfl)
theorem dX0_countOf_178 : decode cX0_countOf 178 = .ok (.iinc 5 1, 3) := dk_132 5 1 (dk_at dksX0_countOf_6 19 rfl rfl)
theorem dX0_countOf_181 : decode cX0_countOf 181 = .ok (.goto (-50), 3) := dk_167 255 206 (dk_at dksX0_countOf_7 0 rfl rfl)
theorem dX0_countOf_184 : decode cX0_countOf 184 = .ok (.lload_n 3, 1) := dk_33 (dk_at dksX0_countOf_7 3 rfl rfl)
theorem dX0_countOf_185 : decode cX0_countOf 185 = .ok (.lreturn, 1) := dk_173 (dk_at dksX0_countOf_7 4 rfl rfl)
theorem dX0_countOf_186 : decode cX0_countOf 186 = .ok (.lconst 0, 1) := dk_9 (dk_at dksX0_countOf_7 5 rfl rfl)
theorem dX0_countOf_187 : decode cX0_countOf 187 = .ok (.lreturn, 1) := dk_173 (dk_at dksX0_countOf_7 6 rfl rfl)
abbrev cX0_recordsOf : ByteArray := prog_1_method_36_code
def yX0_recordsOf : MethodName := ⟨RX0, "recordsOf", "(LKindNets$Kind;I)J"⟩
def dkwX0_recordsOf_5 : List UInt8 := [167, 255, 179, 132, 3, 1, 167, 255, 164, 42, 180, 0, 60, 28, 47, 173]
abbrev dktX0_recordsOf_5 : List UInt8 := dkwX0_recordsOf_5 ++ []
def dkwX0_recordsOf_4 : List UInt8 := [97, 184, 0, 232, 55, 5, 132, 7, 1, 167, 255, 213, 42, 180, 0, 60, 21, 4, 22, 5, 80, 132, 4, 255]
abbrev dktX0_recordsOf_4 : List UInt8 := dkwX0_recordsOf_4 ++ dktX0_recordsOf_5
def dkwX0_recordsOf_3 : List UInt8 := [180, 0, 57, 21, 7, 50, 43, 180, 0, 113, 29, 46, 47, 42, 180, 0, 60, 21, 4, 21, 7, 100, 47, 105]
abbrev dktX0_recordsOf_3 : List UInt8 := dkwX0_recordsOf_3 ++ dktX0_recordsOf_4
def dkwX0_recordsOf_2 : List UInt8 := [182, 0, 148, 153, 0, 70, 9, 55, 5, 4, 54, 7, 21, 7, 21, 4, 163, 0, 42, 22, 5, 42]
abbrev dktX0_recordsOf_2 : List UInt8 := dkwX0_recordsOf_2 ++ dktX0_recordsOf_3
def dkwX0_recordsOf_1 : List UInt8 := [132, 3, 1, 167, 255, 233, 3, 62, 29, 16, 8, 162, 0, 92, 28, 54, 4, 21, 4, 155, 0, 78, 43, 29]
abbrev dktX0_recordsOf_1 : List UInt8 := dkwX0_recordsOf_1 ++ dktX0_recordsOf_2
def dkwX0_recordsOf_0 : List UInt8 := [3, 62, 29, 28, 163, 0, 24, 42, 180, 0, 60, 29, 29, 154, 0, 7, 10, 167, 0, 4, 9, 80]
abbrev dktX0_recordsOf_0 : List UInt8 := dkwX0_recordsOf_0 ++ dktX0_recordsOf_1
theorem dksX0_recordsOf_0 : cX0_recordsOf.data.toList.drop 0 = dktX0_recordsOf_0 := by decide +kernel
theorem dksX0_recordsOf_1 : cX0_recordsOf.data.toList.drop 22 = dktX0_recordsOf_1 := dk_seg dksX0_recordsOf_0 22 rfl rfl
theorem dksX0_recordsOf_2 : cX0_recordsOf.data.toList.drop 46 = dktX0_recordsOf_2 := dk_seg dksX0_recordsOf_1 24 rfl rfl
theorem dksX0_recordsOf_3 : cX0_recordsOf.data.toList.drop 68 = dktX0_recordsOf_3 := dk_seg dksX0_recordsOf_2 22 rfl rfl
theorem dksX0_recordsOf_4 : cX0_recordsOf.data.toList.drop 92 = dktX0_recordsOf_4 := dk_seg dksX0_recordsOf_3 24 rfl rfl
theorem dksX0_recordsOf_5 : cX0_recordsOf.data.toList.drop 116 = dktX0_recordsOf_5 := dk_seg dksX0_recordsOf_4 24 rfl rfl
theorem dX0_recordsOf_0 : decode cX0_recordsOf 0 = .ok (.iconst 0, 1) := dk_3 (dk_at dksX0_recordsOf_0 0 rfl rfl)
theorem dX0_recordsOf_1 : decode cX0_recordsOf 1 = .ok (.istore_n 3, 1) := dk_62 (dk_at dksX0_recordsOf_0 1 rfl rfl)
theorem dX0_recordsOf_2 : decode cX0_recordsOf 2 = .ok (.iload_n 3, 1) := dk_29 (dk_at dksX0_recordsOf_0 2 rfl rfl)
theorem dX0_recordsOf_3 : decode cX0_recordsOf 3 = .ok (.iload_n 2, 1) := dk_28 (dk_at dksX0_recordsOf_0 3 rfl rfl)
theorem dX0_recordsOf_4 : decode cX0_recordsOf 4 = .ok (.if_icmp .gt 24, 3) := dk_163 0 24 (dk_at dksX0_recordsOf_0 4 rfl rfl)
theorem dX0_recordsOf_7 : decode cX0_recordsOf 7 = .ok (.aload_n 0, 1) := dk_42 (dk_at dksX0_recordsOf_0 7 rfl rfl)
theorem dX0_recordsOf_8 : decode cX0_recordsOf 8 = .ok (.getfield 60, 3) := dk_180 0 60 (dk_at dksX0_recordsOf_0 8 rfl rfl)
theorem dX0_recordsOf_11 : decode cX0_recordsOf 11 = .ok (.iload_n 3, 1) := dk_29 (dk_at dksX0_recordsOf_0 11 rfl rfl)
theorem dX0_recordsOf_12 : decode cX0_recordsOf 12 = .ok (.iload_n 3, 1) := dk_29 (dk_at dksX0_recordsOf_0 12 rfl rfl)
theorem dX0_recordsOf_13 : decode cX0_recordsOf 13 = .ok (.ifCond .ne 7, 3) := dk_154 0 7 (dk_at dksX0_recordsOf_0 13 rfl rfl)
theorem dX0_recordsOf_16 : decode cX0_recordsOf 16 = .ok (.lconst 1, 1) := dk_10 (dk_at dksX0_recordsOf_0 16 rfl rfl)
theorem dX0_recordsOf_17 : decode cX0_recordsOf 17 = .ok (.goto 4, 3) := dk_167 0 4 (dk_at dksX0_recordsOf_0 17 rfl rfl)
theorem dX0_recordsOf_20 : decode cX0_recordsOf 20 = .ok (.lconst 0, 1) := dk_9 (dk_at dksX0_recordsOf_0 20 rfl rfl)
theorem dX0_recordsOf_21 : decode cX0_recordsOf 21 = .ok (.lastore, 1) := dk_80 (dk_at dksX0_recordsOf_0 21 rfl rfl)
theorem dX0_recordsOf_22 : decode cX0_recordsOf 22 = .ok (.iinc 3 1, 3) := dk_132 3 1 (dk_at dksX0_recordsOf_1 0 rfl rfl)
theorem dX0_recordsOf_25 : decode cX0_recordsOf 25 = .ok (.goto (-23), 3) := dk_167 255 233 (dk_at dksX0_recordsOf_1 3 rfl rfl)
theorem dX0_recordsOf_28 : decode cX0_recordsOf 28 = .ok (.iconst 0, 1) := dk_3 (dk_at dksX0_recordsOf_1 6 rfl rfl)
theorem dX0_recordsOf_29 : decode cX0_recordsOf 29 = .ok (.istore_n 3, 1) := dk_62 (dk_at dksX0_recordsOf_1 7 rfl rfl)
theorem dX0_recordsOf_30 : decode cX0_recordsOf 30 = .ok (.iload_n 3, 1) := dk_29 (dk_at dksX0_recordsOf_1 8 rfl rfl)
theorem dX0_recordsOf_31 : decode cX0_recordsOf 31 = .ok (.bipush 8, 2) := dk_16 8 (dk_at dksX0_recordsOf_1 9 rfl rfl)
theorem dX0_recordsOf_33 : decode cX0_recordsOf 33 = .ok (.if_icmp .ge 92, 3) := dk_162 0 92 (dk_at dksX0_recordsOf_1 11 rfl rfl)
theorem dX0_recordsOf_36 : decode cX0_recordsOf 36 = .ok (.iload_n 2, 1) := dk_28 (dk_at dksX0_recordsOf_1 14 rfl rfl)
theorem dX0_recordsOf_37 : decode cX0_recordsOf 37 = .ok (.istore 4, 2) := dk_54 4 (dk_at dksX0_recordsOf_1 15 rfl rfl)
theorem dX0_recordsOf_39 : decode cX0_recordsOf 39 = .ok (.iload 4, 2) := dk_21 4 (dk_at dksX0_recordsOf_1 17 rfl rfl)
theorem dX0_recordsOf_41 : decode cX0_recordsOf 41 = .ok (.ifCond .lt 78, 3) := dk_155 0 78 (dk_at dksX0_recordsOf_1 19 rfl rfl)
theorem dX0_recordsOf_44 : decode cX0_recordsOf 44 = .ok (.aload_n 1, 1) := dk_43 (dk_at dksX0_recordsOf_1 22 rfl rfl)
theorem dX0_recordsOf_45 : decode cX0_recordsOf 45 = .ok (.iload_n 3, 1) := dk_29 (dk_at dksX0_recordsOf_1 23 rfl rfl)
theorem dX0_recordsOf_46 : decode cX0_recordsOf 46 = .ok (.invokevirtual 148, 3) := dk_182 0 148 (dk_at dksX0_recordsOf_2 0 rfl rfl)
theorem dX0_recordsOf_49 : decode cX0_recordsOf 49 = .ok (.ifCond .eq 70, 3) := dk_153 0 70 (dk_at dksX0_recordsOf_2 3 rfl rfl)
theorem dX0_recordsOf_52 : decode cX0_recordsOf 52 = .ok (.lconst 0, 1) := dk_9 (dk_at dksX0_recordsOf_2 6 rfl rfl)
theorem dX0_recordsOf_53 : decode cX0_recordsOf 53 = .ok (.lstore 5, 2) := dk_55 5 (dk_at dksX0_recordsOf_2 7 rfl rfl)
theorem dX0_recordsOf_55 : decode cX0_recordsOf 55 = .ok (.iconst 1, 1) := dk_4 (dk_at dksX0_recordsOf_2 9 rfl rfl)
theorem dX0_recordsOf_56 : decode cX0_recordsOf 56 = .ok (.istore 7, 2) := dk_54 7 (dk_at dksX0_recordsOf_2 10 rfl rfl)
theorem dX0_recordsOf_58 : decode cX0_recordsOf 58 = .ok (.iload 7, 2) := dk_21 7 (dk_at dksX0_recordsOf_2 12 rfl rfl)
theorem dX0_recordsOf_60 : decode cX0_recordsOf 60 = .ok (.iload 4, 2) := dk_21 4 (dk_at dksX0_recordsOf_2 14 rfl rfl)
theorem dX0_recordsOf_62 : decode cX0_recordsOf 62 = .ok (.if_icmp .gt 42, 3) := dk_163 0 42 (dk_at dksX0_recordsOf_2 16 rfl rfl)
theorem dX0_recordsOf_65 : decode cX0_recordsOf 65 = .ok (.lload 5, 2) := dk_22 5 (dk_at dksX0_recordsOf_2 19 rfl rfl)
theorem dX0_recordsOf_67 : decode cX0_recordsOf 67 = .ok (.aload_n 0, 1) := dk_42 (dk_at dksX0_recordsOf_2 21 rfl rfl)
theorem dX0_recordsOf_68 : decode cX0_recordsOf 68 = .ok (.getfield 57, 3) := dk_180 0 57 (dk_at dksX0_recordsOf_3 0 rfl rfl)
theorem dX0_recordsOf_71 : decode cX0_recordsOf 71 = .ok (.iload 7, 2) := dk_21 7 (dk_at dksX0_recordsOf_3 3 rfl rfl)
theorem dX0_recordsOf_73 : decode cX0_recordsOf 73 = .ok (.aaload, 1) := dk_50 (dk_at dksX0_recordsOf_3 5 rfl rfl)
theorem dX0_recordsOf_74 : decode cX0_recordsOf 74 = .ok (.aload_n 1, 1) := dk_43 (dk_at dksX0_recordsOf_3 6 rfl rfl)
theorem dX0_recordsOf_75 : decode cX0_recordsOf 75 = .ok (.getfield 113, 3) := dk_180 0 113 (dk_at dksX0_recordsOf_3 7 rfl rfl)
theorem dX0_recordsOf_78 : decode cX0_recordsOf 78 = .ok (.iload_n 3, 1) := dk_29 (dk_at dksX0_recordsOf_3 10 rfl rfl)
theorem dX0_recordsOf_79 : decode cX0_recordsOf 79 = .ok (.iaload, 1) := dk_46 (dk_at dksX0_recordsOf_3 11 rfl rfl)
theorem dX0_recordsOf_80 : decode cX0_recordsOf 80 = .ok (.laload, 1) := dk_47 (dk_at dksX0_recordsOf_3 12 rfl rfl)
theorem dX0_recordsOf_81 : decode cX0_recordsOf 81 = .ok (.aload_n 0, 1) := dk_42 (dk_at dksX0_recordsOf_3 13 rfl rfl)
theorem dX0_recordsOf_82 : decode cX0_recordsOf 82 = .ok (.getfield 60, 3) := dk_180 0 60 (dk_at dksX0_recordsOf_3 14 rfl rfl)
theorem dX0_recordsOf_85 : decode cX0_recordsOf 85 = .ok (.iload 4, 2) := dk_21 4 (dk_at dksX0_recordsOf_3 17 rfl rfl)
theorem dX0_recordsOf_87 : decode cX0_recordsOf 87 = .ok (.iload 7, 2) := dk_21 7 (dk_at dksX0_recordsOf_3 19 rfl rfl)
theorem dX0_recordsOf_89 : decode cX0_recordsOf 89 = .ok (.isub, 1) := dk_100 (dk_at dksX0_recordsOf_3 21 rfl rfl)
theorem dX0_recordsOf_90 : decode cX0_recordsOf 90 = .ok (.laload, 1) := dk_47 (dk_at dksX0_recordsOf_3 22 rfl rfl)
theorem dX0_recordsOf_91 : decode cX0_recordsOf 91 = .ok (.lmul, 1) := dk_105 (dk_at dksX0_recordsOf_3 23 rfl rfl)
theorem dX0_recordsOf_92 : decode cX0_recordsOf 92 = .ok (.ladd, 1) := dk_97 (dk_at dksX0_recordsOf_4 0 rfl rfl)
theorem dX0_recordsOf_93 : decode cX0_recordsOf 93 = .ok (.invokestatic 232, 3) := dk_184 0 232 (dk_at dksX0_recordsOf_4 1 rfl rfl)
theorem dX0_recordsOf_96 : decode cX0_recordsOf 96 = .ok (.lstore 5, 2) := dk_55 5 (dk_at dksX0_recordsOf_4 4 rfl rfl)
theorem dX0_recordsOf_98 : decode cX0_recordsOf 98 = .ok (.iinc 7 1, 3) := dk_132 7 1 (dk_at dksX0_recordsOf_4 6 rfl rfl)
theorem dX0_recordsOf_101 : decode cX0_recordsOf 101 = .ok (.goto (-43), 3) := dk_167 255 213 (dk_at dksX0_recordsOf_4 9 rfl rfl)
theorem dX0_recordsOf_104 : decode cX0_recordsOf 104 = .ok (.aload_n 0, 1) := dk_42 (dk_at dksX0_recordsOf_4 12 rfl rfl)
theorem dX0_recordsOf_105 : decode cX0_recordsOf 105 = .ok (.getfield 60, 3) := dk_180 0 60 (dk_at dksX0_recordsOf_4 13 rfl rfl)
theorem dX0_recordsOf_108 : decode cX0_recordsOf 108 = .ok (.iload 4, 2) := dk_21 4 (dk_at dksX0_recordsOf_4 16 rfl rfl)
theorem dX0_recordsOf_110 : decode cX0_recordsOf 110 = .ok (.lload 5, 2) := dk_22 5 (dk_at dksX0_recordsOf_4 18 rfl rfl)
theorem dX0_recordsOf_112 : decode cX0_recordsOf 112 = .ok (.lastore, 1) := dk_80 (dk_at dksX0_recordsOf_4 20 rfl rfl)
theorem dX0_recordsOf_113 : decode cX0_recordsOf 113 = .ok (.iinc 4 (-1), 3) := dk_132 4 255 (dk_at dksX0_recordsOf_4 21 rfl rfl)
theorem dX0_recordsOf_116 : decode cX0_recordsOf 116 = .ok (.goto (-77), 3) := dk_167 255 179 (dk_at dksX0_recordsOf_5 0 rfl rfl)
theorem dX0_recordsOf_119 : decode cX0_recordsOf 119 = .ok (.iinc 3 1, 3) := dk_132 3 1 (dk_at dksX0_recordsOf_5 3 rfl rfl)
theorem dX0_recordsOf_122 : decode cX0_recordsOf 122 = .ok (.goto (-92), 3) := dk_167 255 164 (dk_at dksX0_recordsOf_5 6 rfl rfl)
theorem dX0_recordsOf_125 : decode cX0_recordsOf 125 = .ok (.aload_n 0, 1) := dk_42 (dk_at dksX0_recordsOf_5 9 rfl rfl)
theorem dX0_recordsOf_126 : decode cX0_recordsOf 126 = .ok (.getfield 60, 3) := dk_180 0 60 (dk_at dksX0_recordsOf_5 10 rfl rfl)
theorem dX0_recordsOf_129 : decode cX0_recordsOf 129 = .ok (.iload_n 2, 1) := dk_28 (dk_at dksX0_recordsOf_5 13 rfl rfl)
theorem dX0_recordsOf_130 : decode cX0_recordsOf 130 = .ok (.laload, 1) := dk_47 (dk_at dksX0_recordsOf_5 14 rfl rfl)
theorem dX0_recordsOf_131 : decode cX0_recordsOf 131 = .ok (.lreturn, 1) := dk_173 (dk_at dksX0_recordsOf_5 15 rfl rfl)
abbrev cX0_held : ByteArray := prog_1_method_34_code
def yX0_held : MethodName := ⟨RX0, "held", "(J)J"⟩
def dkwX0_held_0 : List UInt8 := [30, 20, 0, 224, 184, 0, 226, 173]
abbrev dktX0_held_0 : List UInt8 := dkwX0_held_0 ++ []
theorem dksX0_held_0 : cX0_held.data.toList.drop 0 = dktX0_held_0 := by decide +kernel
theorem dX0_held_0 : decode cX0_held 0 = .ok (.lload_n 0, 1) := dk_30 (dk_at dksX0_held_0 0 rfl rfl)
theorem dX0_held_1 : decode cX0_held 1 = .ok (.ldc2_w 224, 3) := dk_20 0 224 (dk_at dksX0_held_0 1 rfl rfl)
theorem dX0_held_4 : decode cX0_held 4 = .ok (.invokestatic 226, 3) := dk_184 0 226 (dk_at dksX0_held_0 4 rfl rfl)
theorem dX0_held_7 : decode cX0_held 7 = .ok (.lreturn, 1) := dk_173 (dk_at dksX0_held_0 7 rfl rfl)
abbrev cX0_listsOf : ByteArray := prog_1_method_35_code
def yX0_listsOf : MethodName := ⟨RX0, "listsOf", "(II)J"⟩
def dkwX0_listsOf_3 : List UInt8 := [167, 255, 195, 42, 180, 0, 60, 28, 47, 173]
abbrev dktX0_listsOf_3 : List UInt8 := dkwX0_listsOf_3 ++ []
def dkwX0_listsOf_2 : List UInt8 := [97, 184, 0, 232, 55, 4, 132, 6, 1, 167, 255, 220, 42, 180, 0, 60, 29, 22, 4, 80, 132, 3, 1]
abbrev dktX0_listsOf_2 : List UInt8 := dkwX0_listsOf_2 ++ dktX0_listsOf_3
def dkwX0_listsOf_1 : List UInt8 := [163, 0, 36, 22, 4, 42, 180, 0, 57, 21, 6, 50, 27, 47, 42, 180, 0, 60, 29, 21, 6, 100, 47, 105]
abbrev dktX0_listsOf_1 : List UInt8 := dkwX0_listsOf_1 ++ dktX0_listsOf_2
def dkwX0_listsOf_0 : List UInt8 := [42, 180, 0, 60, 3, 10, 80, 4, 62, 29, 28, 163, 0, 62, 9, 55, 4, 4, 54, 6, 21, 6, 29]
abbrev dktX0_listsOf_0 : List UInt8 := dkwX0_listsOf_0 ++ dktX0_listsOf_1
theorem dksX0_listsOf_0 : cX0_listsOf.data.toList.drop 0 = dktX0_listsOf_0 := by decide +kernel
theorem dksX0_listsOf_1 : cX0_listsOf.data.toList.drop 23 = dktX0_listsOf_1 := dk_seg dksX0_listsOf_0 23 rfl rfl
theorem dksX0_listsOf_2 : cX0_listsOf.data.toList.drop 47 = dktX0_listsOf_2 := dk_seg dksX0_listsOf_1 24 rfl rfl
theorem dksX0_listsOf_3 : cX0_listsOf.data.toList.drop 70 = dktX0_listsOf_3 := dk_seg dksX0_listsOf_2 23 rfl rfl
theorem dX0_listsOf_0 : decode cX0_listsOf 0 = .ok (.aload_n 0, 1) := dk_42 (dk_at dksX0_listsOf_0 0 rfl rfl)
theorem dX0_listsOf_1 : decode cX0_listsOf 1 = .ok (.getfield 60, 3) := dk_180 0 60 (dk_at dksX0_listsOf_0 1 rfl rfl)
theorem dX0_listsOf_4 : decode cX0_listsOf 4 = .ok (.iconst 0, 1) := dk_3 (dk_at dksX0_listsOf_0 4 rfl rfl)
theorem dX0_listsOf_5 : decode cX0_listsOf 5 = .ok (.lconst 1, 1) := dk_10 (dk_at dksX0_listsOf_0 5 rfl rfl)
theorem dX0_listsOf_6 : decode cX0_listsOf 6 = .ok (.lastore, 1) := dk_80 (dk_at dksX0_listsOf_0 6 rfl rfl)
theorem dX0_listsOf_7 : decode cX0_listsOf 7 = .ok (.iconst 1, 1) := dk_4 (dk_at dksX0_listsOf_0 7 rfl rfl)
theorem dX0_listsOf_8 : decode cX0_listsOf 8 = .ok (.istore_n 3, 1) := dk_62 (dk_at dksX0_listsOf_0 8 rfl rfl)
theorem dX0_listsOf_9 : decode cX0_listsOf 9 = .ok (.iload_n 3, 1) := dk_29 (dk_at dksX0_listsOf_0 9 rfl rfl)
theorem dX0_listsOf_10 : decode cX0_listsOf 10 = .ok (.iload_n 2, 1) := dk_28 (dk_at dksX0_listsOf_0 10 rfl rfl)
theorem dX0_listsOf_11 : decode cX0_listsOf 11 = .ok (.if_icmp .gt 62, 3) := dk_163 0 62 (dk_at dksX0_listsOf_0 11 rfl rfl)
theorem dX0_listsOf_14 : decode cX0_listsOf 14 = .ok (.lconst 0, 1) := dk_9 (dk_at dksX0_listsOf_0 14 rfl rfl)
theorem dX0_listsOf_15 : decode cX0_listsOf 15 = .ok (.lstore 4, 2) := dk_55 4 (dk_at dksX0_listsOf_0 15 rfl rfl)
theorem dX0_listsOf_17 : decode cX0_listsOf 17 = .ok (.iconst 1, 1) := dk_4 (dk_at dksX0_listsOf_0 17 rfl rfl)
theorem dX0_listsOf_18 : decode cX0_listsOf 18 = .ok (.istore 6, 2) := dk_54 6 (dk_at dksX0_listsOf_0 18 rfl rfl)
theorem dX0_listsOf_20 : decode cX0_listsOf 20 = .ok (.iload 6, 2) := dk_21 6 (dk_at dksX0_listsOf_0 20 rfl rfl)
theorem dX0_listsOf_22 : decode cX0_listsOf 22 = .ok (.iload_n 3, 1) := dk_29 (dk_at dksX0_listsOf_0 22 rfl rfl)
theorem dX0_listsOf_23 : decode cX0_listsOf 23 = .ok (.if_icmp .gt 36, 3) := dk_163 0 36 (dk_at dksX0_listsOf_1 0 rfl rfl)
theorem dX0_listsOf_26 : decode cX0_listsOf 26 = .ok (.lload 4, 2) := dk_22 4 (dk_at dksX0_listsOf_1 3 rfl rfl)
theorem dX0_listsOf_28 : decode cX0_listsOf 28 = .ok (.aload_n 0, 1) := dk_42 (dk_at dksX0_listsOf_1 5 rfl rfl)
theorem dX0_listsOf_29 : decode cX0_listsOf 29 = .ok (.getfield 57, 3) := dk_180 0 57 (dk_at dksX0_listsOf_1 6 rfl rfl)
theorem dX0_listsOf_32 : decode cX0_listsOf 32 = .ok (.iload 6, 2) := dk_21 6 (dk_at dksX0_listsOf_1 9 rfl rfl)
theorem dX0_listsOf_34 : decode cX0_listsOf 34 = .ok (.aaload, 1) := dk_50 (dk_at dksX0_listsOf_1 11 rfl rfl)
theorem dX0_listsOf_35 : decode cX0_listsOf 35 = .ok (.iload_n 1, 1) := dk_27 (dk_at dksX0_listsOf_1 12 rfl rfl)
theorem dX0_listsOf_36 : decode cX0_listsOf 36 = .ok (.laload, 1) := dk_47 (dk_at dksX0_listsOf_1 13 rfl rfl)
theorem dX0_listsOf_37 : decode cX0_listsOf 37 = .ok (.aload_n 0, 1) := dk_42 (dk_at dksX0_listsOf_1 14 rfl rfl)
theorem dX0_listsOf_38 : decode cX0_listsOf 38 = .ok (.getfield 60, 3) := dk_180 0 60 (dk_at dksX0_listsOf_1 15 rfl rfl)
theorem dX0_listsOf_41 : decode cX0_listsOf 41 = .ok (.iload_n 3, 1) := dk_29 (dk_at dksX0_listsOf_1 18 rfl rfl)
theorem dX0_listsOf_42 : decode cX0_listsOf 42 = .ok (.iload 6, 2) := dk_21 6 (dk_at dksX0_listsOf_1 19 rfl rfl)
theorem dX0_listsOf_44 : decode cX0_listsOf 44 = .ok (.isub, 1) := dk_100 (dk_at dksX0_listsOf_1 21 rfl rfl)
theorem dX0_listsOf_45 : decode cX0_listsOf 45 = .ok (.laload, 1) := dk_47 (dk_at dksX0_listsOf_1 22 rfl rfl)
theorem dX0_listsOf_46 : decode cX0_listsOf 46 = .ok (.lmul, 1) := dk_105 (dk_at dksX0_listsOf_1 23 rfl rfl)
theorem dX0_listsOf_47 : decode cX0_listsOf 47 = .ok (.ladd, 1) := dk_97 (dk_at dksX0_listsOf_2 0 rfl rfl)
theorem dX0_listsOf_48 : decode cX0_listsOf 48 = .ok (.invokestatic 232, 3) := dk_184 0 232 (dk_at dksX0_listsOf_2 1 rfl rfl)
theorem dX0_listsOf_51 : decode cX0_listsOf 51 = .ok (.lstore 4, 2) := dk_55 4 (dk_at dksX0_listsOf_2 4 rfl rfl)
theorem dX0_listsOf_53 : decode cX0_listsOf 53 = .ok (.iinc 6 1, 3) := dk_132 6 1 (dk_at dksX0_listsOf_2 6 rfl rfl)
theorem dX0_listsOf_56 : decode cX0_listsOf 56 = .ok (.goto (-36), 3) := dk_167 255 220 (dk_at dksX0_listsOf_2 9 rfl rfl)
theorem dX0_listsOf_59 : decode cX0_listsOf 59 = .ok (.aload_n 0, 1) := dk_42 (dk_at dksX0_listsOf_2 12 rfl rfl)
theorem dX0_listsOf_60 : decode cX0_listsOf 60 = .ok (.getfield 60, 3) := dk_180 0 60 (dk_at dksX0_listsOf_2 13 rfl rfl)
theorem dX0_listsOf_63 : decode cX0_listsOf 63 = .ok (.iload_n 3, 1) := dk_29 (dk_at dksX0_listsOf_2 16 rfl rfl)
theorem dX0_listsOf_64 : decode cX0_listsOf 64 = .ok (.lload 4, 2) := dk_22 4 (dk_at dksX0_listsOf_2 17 rfl rfl)
theorem dX0_listsOf_66 : decode cX0_listsOf 66 = .ok (.lastore, 1) := dk_80 (dk_at dksX0_listsOf_2 19 rfl rfl)
theorem dX0_listsOf_67 : decode cX0_listsOf 67 = .ok (.iinc 3 1, 3) := dk_132 3 1 (dk_at dksX0_listsOf_2 20 rfl rfl)
theorem dX0_listsOf_70 : decode cX0_listsOf 70 = .ok (.goto (-61), 3) := dk_167 255 195 (dk_at dksX0_listsOf_3 0 rfl rfl)
theorem dX0_listsOf_73 : decode cX0_listsOf 73 = .ok (.aload_n 0, 1) := dk_42 (dk_at dksX0_listsOf_3 3 rfl rfl)
theorem dX0_listsOf_74 : decode cX0_listsOf 74 = .ok (.getfield 60, 3) := dk_180 0 60 (dk_at dksX0_listsOf_3 4 rfl rfl)
theorem dX0_listsOf_77 : decode cX0_listsOf 77 = .ok (.iload_n 2, 1) := dk_28 (dk_at dksX0_listsOf_3 7 rfl rfl)
theorem dX0_listsOf_78 : decode cX0_listsOf 78 = .ok (.laload, 1) := dk_47 (dk_at dksX0_listsOf_3 8 rfl rfl)
theorem dX0_listsOf_79 : decode cX0_listsOf 79 = .ok (.lreturn, 1) := dk_173 (dk_at dksX0_listsOf_3 9 rfl rfl)
abbrev cX0_least : ByteArray := prog_1_method_41_code
def yX0_least : MethodName := ⟨RX0, "least", "(I)I"⟩
def dkwX0_least_1 : List UInt8 := [164, 0, 8, 16, 250, 167, 0, 9, 42, 180, 0, 64, 27, 46, 172]
abbrev dktX0_least_1 : List UInt8 := dkwX0_least_1 ++ []
def dkwX0_least_0 : List UInt8 := [42, 27, 182, 0, 132, 154, 0, 5, 2, 172, 42, 182, 1, 4, 42, 180, 0, 64, 27, 46, 16, 40]
abbrev dktX0_least_0 : List UInt8 := dkwX0_least_0 ++ dktX0_least_1
theorem dksX0_least_0 : cX0_least.data.toList.drop 0 = dktX0_least_0 := by decide +kernel
theorem dksX0_least_1 : cX0_least.data.toList.drop 22 = dktX0_least_1 := dk_seg dksX0_least_0 22 rfl rfl
theorem dX0_least_0 : decode cX0_least 0 = .ok (.aload_n 0, 1) := dk_42 (dk_at dksX0_least_0 0 rfl rfl)
theorem dX0_least_1 : decode cX0_least 1 = .ok (.iload_n 1, 1) := dk_27 (dk_at dksX0_least_0 1 rfl rfl)
theorem dX0_least_2 : decode cX0_least 2 = .ok (.invokevirtual 132, 3) := dk_182 0 132 (dk_at dksX0_least_0 2 rfl rfl)
theorem dX0_least_5 : decode cX0_least 5 = .ok (.ifCond .ne 5, 3) := dk_154 0 5 (dk_at dksX0_least_0 5 rfl rfl)
theorem dX0_least_8 : decode cX0_least 8 = .ok (.iconst (-1), 1) := dk_2 (dk_at dksX0_least_0 8 rfl rfl)
theorem dX0_least_9 : decode cX0_least 9 = .ok (.ireturn, 1) := dk_172 (dk_at dksX0_least_0 9 rfl rfl)
theorem dX0_least_10 : decode cX0_least 10 = .ok (.aload_n 0, 1) := dk_42 (dk_at dksX0_least_0 10 rfl rfl)
theorem dX0_least_11 : decode cX0_least 11 = .ok (.invokevirtual 260, 3) := dk_182 1 4 (dk_at dksX0_least_0 11 rfl rfl)
theorem dX0_least_14 : decode cX0_least 14 = .ok (.aload_n 0, 1) := dk_42 (dk_at dksX0_least_0 14 rfl rfl)
theorem dX0_least_15 : decode cX0_least 15 = .ok (.getfield 64, 3) := dk_180 0 64 (dk_at dksX0_least_0 15 rfl rfl)
theorem dX0_least_18 : decode cX0_least 18 = .ok (.iload_n 1, 1) := dk_27 (dk_at dksX0_least_0 18 rfl rfl)
theorem dX0_least_19 : decode cX0_least 19 = .ok (.iaload, 1) := dk_46 (dk_at dksX0_least_0 19 rfl rfl)
theorem dX0_least_20 : decode cX0_least 20 = .ok (.bipush 40, 2) := dk_16 40 (dk_at dksX0_least_0 20 rfl rfl)
theorem dX0_least_22 : decode cX0_least 22 = .ok (.if_icmp .le 8, 3) := dk_164 0 8 (dk_at dksX0_least_1 0 rfl rfl)
theorem dX0_least_25 : decode cX0_least 25 = .ok (.bipush (-6), 2) := dk_16 250 (dk_at dksX0_least_1 3 rfl rfl)
theorem dX0_least_27 : decode cX0_least 27 = .ok (.goto 9, 3) := dk_167 0 9 (dk_at dksX0_least_1 5 rfl rfl)
theorem dX0_least_30 : decode cX0_least 30 = .ok (.aload_n 0, 1) := dk_42 (dk_at dksX0_least_1 8 rfl rfl)
theorem dX0_least_31 : decode cX0_least 31 = .ok (.getfield 64, 3) := dk_180 0 64 (dk_at dksX0_least_1 9 rfl rfl)
theorem dX0_least_34 : decode cX0_least 34 = .ok (.iload_n 1, 1) := dk_27 (dk_at dksX0_least_1 12 rfl rfl)
theorem dX0_least_35 : decode cX0_least 35 = .ok (.iaload, 1) := dk_46 (dk_at dksX0_least_1 13 rfl rfl)
theorem dX0_least_36 : decode cX0_least 36 = .ok (.ireturn, 1) := dk_172 (dk_at dksX0_least_1 14 rfl rfl)
abbrev cX0_findLeasts : ByteArray := prog_1_method_40_code
def yX0_findLeasts : MethodName := ⟨RX0, "findLeasts", "()V"⟩
def dkwX0_findLeasts_3 : List UInt8 := [180, 0, 64, 28, 29, 79, 132, 2, 1, 167, 255, 209, 167, 255, 198, 177]
abbrev dktX0_findLeasts_3 : List UInt8 := dkwX0_findLeasts_3 ++ []
def dkwX0_findLeasts_2 : List UInt8 := [50, 182, 1, 0, 62, 27, 29, 42, 180, 0, 64, 28, 46, 162, 0, 7, 4, 167, 0, 4, 3, 128, 60, 42]
abbrev dktX0_findLeasts_2 : List UInt8 := dkwX0_findLeasts_2 ++ dktX0_findLeasts_3
def dkwX0_findLeasts_1 : List UInt8 := [4, 60, 27, 153, 0, 60, 3, 60, 3, 61, 28, 42, 180, 0, 94, 162, 0, 45, 42, 42, 180, 0, 11, 28]
abbrev dktX0_findLeasts_1 : List UInt8 := dkwX0_findLeasts_1 ++ dktX0_findLeasts_2
def dkwX0_findLeasts_0 : List UInt8 := [3, 60, 27, 42, 180, 0, 94, 162, 0, 17, 42, 180, 0, 64, 27, 16, 41, 79, 132, 1, 1, 167, 255, 237]
abbrev dktX0_findLeasts_0 : List UInt8 := dkwX0_findLeasts_0 ++ dktX0_findLeasts_1
theorem dksX0_findLeasts_0 : cX0_findLeasts.data.toList.drop 0 = dktX0_findLeasts_0 := by decide +kernel
theorem dksX0_findLeasts_1 : cX0_findLeasts.data.toList.drop 24 = dktX0_findLeasts_1 := dk_seg dksX0_findLeasts_0 24 rfl rfl
theorem dksX0_findLeasts_2 : cX0_findLeasts.data.toList.drop 48 = dktX0_findLeasts_2 := dk_seg dksX0_findLeasts_1 24 rfl rfl
theorem dksX0_findLeasts_3 : cX0_findLeasts.data.toList.drop 72 = dktX0_findLeasts_3 := dk_seg dksX0_findLeasts_2 24 rfl rfl
theorem dX0_findLeasts_0 : decode cX0_findLeasts 0 = .ok (.iconst 0, 1) := dk_3 (dk_at dksX0_findLeasts_0 0 rfl rfl)
theorem dX0_findLeasts_1 : decode cX0_findLeasts 1 = .ok (.istore_n 1, 1) := dk_60 (dk_at dksX0_findLeasts_0 1 rfl rfl)
theorem dX0_findLeasts_2 : decode cX0_findLeasts 2 = .ok (.iload_n 1, 1) := dk_27 (dk_at dksX0_findLeasts_0 2 rfl rfl)
theorem dX0_findLeasts_3 : decode cX0_findLeasts 3 = .ok (.aload_n 0, 1) := dk_42 (dk_at dksX0_findLeasts_0 3 rfl rfl)
theorem dX0_findLeasts_4 : decode cX0_findLeasts 4 = .ok (.getfield 94, 3) := dk_180 0 94 (dk_at dksX0_findLeasts_0 4 rfl rfl)
theorem dX0_findLeasts_7 : decode cX0_findLeasts 7 = .ok (.if_icmp .ge 17, 3) := dk_162 0 17 (dk_at dksX0_findLeasts_0 7 rfl rfl)
theorem dX0_findLeasts_10 : decode cX0_findLeasts 10 = .ok (.aload_n 0, 1) := dk_42 (dk_at dksX0_findLeasts_0 10 rfl rfl)
theorem dX0_findLeasts_11 : decode cX0_findLeasts 11 = .ok (.getfield 64, 3) := dk_180 0 64 (dk_at dksX0_findLeasts_0 11 rfl rfl)
theorem dX0_findLeasts_14 : decode cX0_findLeasts 14 = .ok (.iload_n 1, 1) := dk_27 (dk_at dksX0_findLeasts_0 14 rfl rfl)
theorem dX0_findLeasts_15 : decode cX0_findLeasts 15 = .ok (.bipush 41, 2) := dk_16 41 (dk_at dksX0_findLeasts_0 15 rfl rfl)
theorem dX0_findLeasts_17 : decode cX0_findLeasts 17 = .ok (.iastore, 1) := dk_79 (dk_at dksX0_findLeasts_0 17 rfl rfl)
theorem dX0_findLeasts_18 : decode cX0_findLeasts 18 = .ok (.iinc 1 1, 3) := dk_132 1 1 (dk_at dksX0_findLeasts_0 18 rfl rfl)
theorem dX0_findLeasts_21 : decode cX0_findLeasts 21 = .ok (.goto (-19), 3) := dk_167 255 237 (dk_at dksX0_findLeasts_0 21 rfl rfl)
theorem dX0_findLeasts_24 : decode cX0_findLeasts 24 = .ok (.iconst 1, 1) := dk_4 (dk_at dksX0_findLeasts_1 0 rfl rfl)
theorem dX0_findLeasts_25 : decode cX0_findLeasts 25 = .ok (.istore_n 1, 1) := dk_60 (dk_at dksX0_findLeasts_1 1 rfl rfl)
theorem dX0_findLeasts_26 : decode cX0_findLeasts 26 = .ok (.iload_n 1, 1) := dk_27 (dk_at dksX0_findLeasts_1 2 rfl rfl)
theorem dX0_findLeasts_27 : decode cX0_findLeasts 27 = .ok (.ifCond .eq 60, 3) := dk_153 0 60 (dk_at dksX0_findLeasts_1 3 rfl rfl)
theorem dX0_findLeasts_30 : decode cX0_findLeasts 30 = .ok (.iconst 0, 1) := dk_3 (dk_at dksX0_findLeasts_1 6 rfl rfl)
theorem dX0_findLeasts_31 : decode cX0_findLeasts 31 = .ok (.istore_n 1, 1) := dk_60 (dk_at dksX0_findLeasts_1 7 rfl rfl)
theorem dX0_findLeasts_32 : decode cX0_findLeasts 32 = .ok (.iconst 0, 1) := dk_3 (dk_at dksX0_findLeasts_1 8 rfl rfl)
theorem dX0_findLeasts_33 : decode cX0_findLeasts 33 = .ok (.istore_n 2, 1) := dk_61 (dk_at dksX0_findLeasts_1 9 rfl rfl)
theorem dX0_findLeasts_34 : decode cX0_findLeasts 34 = .ok (.iload_n 2, 1) := dk_28 (dk_at dksX0_findLeasts_1 10 rfl rfl)
theorem dX0_findLeasts_35 : decode cX0_findLeasts 35 = .ok (.aload_n 0, 1) := dk_42 (dk_at dksX0_findLeasts_1 11 rfl rfl)
theorem dX0_findLeasts_36 : decode cX0_findLeasts 36 = .ok (.getfield 94, 3) := dk_180 0 94 (dk_at dksX0_findLeasts_1 12 rfl rfl)
theorem dX0_findLeasts_39 : decode cX0_findLeasts 39 = .ok (.if_icmp .ge 45, 3) := dk_162 0 45 (dk_at dksX0_findLeasts_1 15 rfl rfl)
theorem dX0_findLeasts_42 : decode cX0_findLeasts 42 = .ok (.aload_n 0, 1) := dk_42 (dk_at dksX0_findLeasts_1 18 rfl rfl)
theorem dX0_findLeasts_43 : decode cX0_findLeasts 43 = .ok (.aload_n 0, 1) := dk_42 (dk_at dksX0_findLeasts_1 19 rfl rfl)
theorem dX0_findLeasts_44 : decode cX0_findLeasts 44 = .ok (.getfield 11, 3) := dk_180 0 11 (dk_at dksX0_findLeasts_1 20 rfl rfl)
theorem dX0_findLeasts_47 : decode cX0_findLeasts 47 = .ok (.iload_n 2, 1) := dk_28 (dk_at dksX0_findLeasts_1 23 rfl rfl)
theorem dX0_findLeasts_48 : decode cX0_findLeasts 48 = .ok (.aaload, 1) := dk_50 (dk_at dksX0_findLeasts_2 0 rfl rfl)
theorem dX0_findLeasts_49 : decode cX0_findLeasts 49 = .ok (.invokevirtual 256, 3) := dk_182 1 0 (dk_at dksX0_findLeasts_2 1 rfl rfl)
theorem dX0_findLeasts_52 : decode cX0_findLeasts 52 = .ok (.istore_n 3, 1) := dk_62 (dk_at dksX0_findLeasts_2 4 rfl rfl)
theorem dX0_findLeasts_53 : decode cX0_findLeasts 53 = .ok (.iload_n 1, 1) := dk_27 (dk_at dksX0_findLeasts_2 5 rfl rfl)
theorem dX0_findLeasts_54 : decode cX0_findLeasts 54 = .ok (.iload_n 3, 1) := dk_29 (dk_at dksX0_findLeasts_2 6 rfl rfl)
theorem dX0_findLeasts_55 : decode cX0_findLeasts 55 = .ok (.aload_n 0, 1) := dk_42 (dk_at dksX0_findLeasts_2 7 rfl rfl)
theorem dX0_findLeasts_56 : decode cX0_findLeasts 56 = .ok (.getfield 64, 3) := dk_180 0 64 (dk_at dksX0_findLeasts_2 8 rfl rfl)
theorem dX0_findLeasts_59 : decode cX0_findLeasts 59 = .ok (.iload_n 2, 1) := dk_28 (dk_at dksX0_findLeasts_2 11 rfl rfl)
theorem dX0_findLeasts_60 : decode cX0_findLeasts 60 = .ok (.iaload, 1) := dk_46 (dk_at dksX0_findLeasts_2 12 rfl rfl)
theorem dX0_findLeasts_61 : decode cX0_findLeasts 61 = .ok (.if_icmp .ge 7, 3) := dk_162 0 7 (dk_at dksX0_findLeasts_2 13 rfl rfl)
theorem dX0_findLeasts_64 : decode cX0_findLeasts 64 = .ok (.iconst 1, 1) := dk_4 (dk_at dksX0_findLeasts_2 16 rfl rfl)
theorem dX0_findLeasts_65 : decode cX0_findLeasts 65 = .ok (.goto 4, 3) := dk_167 0 4 (dk_at dksX0_findLeasts_2 17 rfl rfl)
theorem dX0_findLeasts_68 : decode cX0_findLeasts 68 = .ok (.iconst 0, 1) := dk_3 (dk_at dksX0_findLeasts_2 20 rfl rfl)
theorem dX0_findLeasts_69 : decode cX0_findLeasts 69 = .ok (.ior, 1) := dk_128 (dk_at dksX0_findLeasts_2 21 rfl rfl)
theorem dX0_findLeasts_70 : decode cX0_findLeasts 70 = .ok (.istore_n 1, 1) := dk_60 (dk_at dksX0_findLeasts_2 22 rfl rfl)
theorem dX0_findLeasts_71 : decode cX0_findLeasts 71 = .ok (.aload_n 0, 1) := dk_42 (dk_at dksX0_findLeasts_2 23 rfl rfl)
theorem dX0_findLeasts_72 : decode cX0_findLeasts 72 = .ok (.getfield 64, 3) := dk_180 0 64 (dk_at dksX0_findLeasts_3 0 rfl rfl)
theorem dX0_findLeasts_75 : decode cX0_findLeasts 75 = .ok (.iload_n 2, 1) := dk_28 (dk_at dksX0_findLeasts_3 3 rfl rfl)
theorem dX0_findLeasts_76 : decode cX0_findLeasts 76 = .ok (.iload_n 3, 1) := dk_29 (dk_at dksX0_findLeasts_3 4 rfl rfl)
theorem dX0_findLeasts_77 : decode cX0_findLeasts 77 = .ok (.iastore, 1) := dk_79 (dk_at dksX0_findLeasts_3 5 rfl rfl)
theorem dX0_findLeasts_78 : decode cX0_findLeasts 78 = .ok (.iinc 2 1, 3) := dk_132 2 1 (dk_at dksX0_findLeasts_3 6 rfl rfl)
theorem dX0_findLeasts_81 : decode cX0_findLeasts 81 = .ok (.goto (-47), 3) := dk_167 255 209 (dk_at dksX0_findLeasts_3 9 rfl rfl)
theorem dX0_findLeasts_84 : decode cX0_findLeasts 84 = .ok (.goto (-58), 3) := dk_167 255 198 (dk_at dksX0_findLeasts_3 12 rfl rfl)
theorem dX0_findLeasts_87 : decode cX0_findLeasts 87 = .ok (.return_, 1) := dk_177 (dk_at dksX0_findLeasts_3 15 rfl rfl)
abbrev cX0_leastOf : ByteArray := prog_1_method_39_code
def yX0_leastOf : MethodName := ⟨RX0, "leastOf", "(LKindNets$Kind;)I"⟩
def dkwX0_leastOf_5 : List UInt8 := [4, 172, 28, 172, 16, 41, 29, 4, 96, 184, 0, 254, 172, 16, 41, 172]
abbrev dktX0_leastOf_5 : List UInt8 := dkwX0_leastOf_5 ++ []
def dkwX0_leastOf_4 : List UInt8 := [171, 0, 0, 0, 0, 0, 0, 73, 0, 0, 0, 6, 0, 0, 0, 42, 0, 0, 0, 60, 0, 0, 0, 91, 0, 0, 0, 64, 0, 0, 0, 110, 0, 0, 0, 60, 0, 0, 0, 115, 0, 0, 0, 60, 0, 0, 0, 116, 0, 0, 0, 60, 0, 0, 0, 123, 0, 0, 0, 62]
abbrev dktX0_leastOf_4 : List UInt8 := dkwX0_leastOf_4 ++ dktX0_leastOf_5
def dkwX0_leastOf_3 : List UInt8 := [184, 0, 254, 167, 0, 4, 29, 62, 132, 4, 1, 167, 255, 183, 43, 180, 0, 101]
abbrev dktX0_leastOf_3 : List UInt8 := dkwX0_leastOf_3 ++ dktX0_leastOf_4
def dkwX0_leastOf_2 : List UInt8 := [43, 21, 4, 182, 0, 148, 153, 0, 22, 29, 42, 180, 0, 64, 43, 180, 0, 113, 21, 4, 46, 46]
abbrev dktX0_leastOf_2 : List UInt8 := dkwX0_leastOf_2 ++ dktX0_leastOf_3
def dkwX0_leastOf_1 : List UInt8 := [153, 0, 18, 42, 180, 0, 64, 43, 180, 0, 113, 21, 4, 46, 46, 167, 0, 4, 3, 96, 184, 0, 254, 61]
abbrev dktX0_leastOf_1 : List UInt8 := dkwX0_leastOf_1 ++ dktX0_leastOf_2
def dkwX0_leastOf_0 : List UInt8 := [4, 61, 16, 41, 62, 3, 54, 4, 21, 4, 16, 8, 162, 0, 72, 16, 41, 28, 43, 21, 4, 182, 0, 148]
abbrev dktX0_leastOf_0 : List UInt8 := dkwX0_leastOf_0 ++ dktX0_leastOf_1
theorem dksX0_leastOf_0 : cX0_leastOf.data.toList.drop 0 = dktX0_leastOf_0 := by decide +kernel
theorem dksX0_leastOf_1 : cX0_leastOf.data.toList.drop 24 = dktX0_leastOf_1 := dk_seg dksX0_leastOf_0 24 rfl rfl
theorem dksX0_leastOf_2 : cX0_leastOf.data.toList.drop 48 = dktX0_leastOf_2 := dk_seg dksX0_leastOf_1 24 rfl rfl
theorem dksX0_leastOf_3 : cX0_leastOf.data.toList.drop 70 = dktX0_leastOf_3 := dk_seg dksX0_leastOf_2 22 rfl rfl
theorem dksX0_leastOf_4 : cX0_leastOf.data.toList.drop 88 = dktX0_leastOf_4 := dk_seg dksX0_leastOf_3 18 rfl rfl
theorem dksX0_leastOf_5 : cX0_leastOf.data.toList.drop 148 = dktX0_leastOf_5 := dk_seg dksX0_leastOf_4 60 rfl rfl
theorem dX0_leastOf_0 : decode cX0_leastOf 0 = .ok (.iconst 1, 1) := dk_4 (dk_at dksX0_leastOf_0 0 rfl rfl)
theorem dX0_leastOf_1 : decode cX0_leastOf 1 = .ok (.istore_n 2, 1) := dk_61 (dk_at dksX0_leastOf_0 1 rfl rfl)
theorem dX0_leastOf_2 : decode cX0_leastOf 2 = .ok (.bipush 41, 2) := dk_16 41 (dk_at dksX0_leastOf_0 2 rfl rfl)
theorem dX0_leastOf_4 : decode cX0_leastOf 4 = .ok (.istore_n 3, 1) := dk_62 (dk_at dksX0_leastOf_0 4 rfl rfl)
theorem dX0_leastOf_5 : decode cX0_leastOf 5 = .ok (.iconst 0, 1) := dk_3 (dk_at dksX0_leastOf_0 5 rfl rfl)
theorem dX0_leastOf_6 : decode cX0_leastOf 6 = .ok (.istore 4, 2) := dk_54 4 (dk_at dksX0_leastOf_0 6 rfl rfl)
theorem dX0_leastOf_8 : decode cX0_leastOf 8 = .ok (.iload 4, 2) := dk_21 4 (dk_at dksX0_leastOf_0 8 rfl rfl)
theorem dX0_leastOf_10 : decode cX0_leastOf 10 = .ok (.bipush 8, 2) := dk_16 8 (dk_at dksX0_leastOf_0 10 rfl rfl)
theorem dX0_leastOf_12 : decode cX0_leastOf 12 = .ok (.if_icmp .ge 72, 3) := dk_162 0 72 (dk_at dksX0_leastOf_0 12 rfl rfl)
theorem dX0_leastOf_15 : decode cX0_leastOf 15 = .ok (.bipush 41, 2) := dk_16 41 (dk_at dksX0_leastOf_0 15 rfl rfl)
theorem dX0_leastOf_17 : decode cX0_leastOf 17 = .ok (.iload_n 2, 1) := dk_28 (dk_at dksX0_leastOf_0 17 rfl rfl)
theorem dX0_leastOf_18 : decode cX0_leastOf 18 = .ok (.aload_n 1, 1) := dk_43 (dk_at dksX0_leastOf_0 18 rfl rfl)
theorem dX0_leastOf_19 : decode cX0_leastOf 19 = .ok (.iload 4, 2) := dk_21 4 (dk_at dksX0_leastOf_0 19 rfl rfl)
theorem dX0_leastOf_21 : decode cX0_leastOf 21 = .ok (.invokevirtual 148, 3) := dk_182 0 148 (dk_at dksX0_leastOf_0 21 rfl rfl)
theorem dX0_leastOf_24 : decode cX0_leastOf 24 = .ok (.ifCond .eq 18, 3) := dk_153 0 18 (dk_at dksX0_leastOf_1 0 rfl rfl)
theorem dX0_leastOf_27 : decode cX0_leastOf 27 = .ok (.aload_n 0, 1) := dk_42 (dk_at dksX0_leastOf_1 3 rfl rfl)
theorem dX0_leastOf_28 : decode cX0_leastOf 28 = .ok (.getfield 64, 3) := dk_180 0 64 (dk_at dksX0_leastOf_1 4 rfl rfl)
theorem dX0_leastOf_31 : decode cX0_leastOf 31 = .ok (.aload_n 1, 1) := dk_43 (dk_at dksX0_leastOf_1 7 rfl rfl)
theorem dX0_leastOf_32 : decode cX0_leastOf 32 = .ok (.getfield 113, 3) := dk_180 0 113 (dk_at dksX0_leastOf_1 8 rfl rfl)
theorem dX0_leastOf_35 : decode cX0_leastOf 35 = .ok (.iload 4, 2) := dk_21 4 (dk_at dksX0_leastOf_1 11 rfl rfl)
theorem dX0_leastOf_37 : decode cX0_leastOf 37 = .ok (.iaload, 1) := dk_46 (dk_at dksX0_leastOf_1 13 rfl rfl)
theorem dX0_leastOf_38 : decode cX0_leastOf 38 = .ok (.iaload, 1) := dk_46 (dk_at dksX0_leastOf_1 14 rfl rfl)
theorem dX0_leastOf_39 : decode cX0_leastOf 39 = .ok (.goto 4, 3) := dk_167 0 4 (dk_at dksX0_leastOf_1 15 rfl rfl)
theorem dX0_leastOf_42 : decode cX0_leastOf 42 = .ok (.iconst 0, 1) := dk_3 (dk_at dksX0_leastOf_1 18 rfl rfl)
theorem dX0_leastOf_43 : decode cX0_leastOf 43 = .ok (.iadd, 1) := dk_96 (dk_at dksX0_leastOf_1 19 rfl rfl)
theorem dX0_leastOf_44 : decode cX0_leastOf 44 = .ok (.invokestatic 254, 3) := dk_184 0 254 (dk_at dksX0_leastOf_1 20 rfl rfl)
theorem dX0_leastOf_47 : decode cX0_leastOf 47 = .ok (.istore_n 2, 1) := dk_61 (dk_at dksX0_leastOf_1 23 rfl rfl)
theorem dX0_leastOf_48 : decode cX0_leastOf 48 = .ok (.aload_n 1, 1) := dk_43 (dk_at dksX0_leastOf_2 0 rfl rfl)
theorem dX0_leastOf_49 : decode cX0_leastOf 49 = .ok (.iload 4, 2) := dk_21 4 (dk_at dksX0_leastOf_2 1 rfl rfl)
theorem dX0_leastOf_51 : decode cX0_leastOf 51 = .ok (.invokevirtual 148, 3) := dk_182 0 148 (dk_at dksX0_leastOf_2 3 rfl rfl)
theorem dX0_leastOf_54 : decode cX0_leastOf 54 = .ok (.ifCond .eq 22, 3) := dk_153 0 22 (dk_at dksX0_leastOf_2 6 rfl rfl)
theorem dX0_leastOf_57 : decode cX0_leastOf 57 = .ok (.iload_n 3, 1) := dk_29 (dk_at dksX0_leastOf_2 9 rfl rfl)
theorem dX0_leastOf_58 : decode cX0_leastOf 58 = .ok (.aload_n 0, 1) := dk_42 (dk_at dksX0_leastOf_2 10 rfl rfl)
theorem dX0_leastOf_59 : decode cX0_leastOf 59 = .ok (.getfield 64, 3) := dk_180 0 64 (dk_at dksX0_leastOf_2 11 rfl rfl)
theorem dX0_leastOf_62 : decode cX0_leastOf 62 = .ok (.aload_n 1, 1) := dk_43 (dk_at dksX0_leastOf_2 14 rfl rfl)
theorem dX0_leastOf_63 : decode cX0_leastOf 63 = .ok (.getfield 113, 3) := dk_180 0 113 (dk_at dksX0_leastOf_2 15 rfl rfl)
theorem dX0_leastOf_66 : decode cX0_leastOf 66 = .ok (.iload 4, 2) := dk_21 4 (dk_at dksX0_leastOf_2 18 rfl rfl)
theorem dX0_leastOf_68 : decode cX0_leastOf 68 = .ok (.iaload, 1) := dk_46 (dk_at dksX0_leastOf_2 20 rfl rfl)
theorem dX0_leastOf_69 : decode cX0_leastOf 69 = .ok (.iaload, 1) := dk_46 (dk_at dksX0_leastOf_2 21 rfl rfl)
theorem dX0_leastOf_70 : decode cX0_leastOf 70 = .ok (.invokestatic 254, 3) := dk_184 0 254 (dk_at dksX0_leastOf_3 0 rfl rfl)
theorem dX0_leastOf_73 : decode cX0_leastOf 73 = .ok (.goto 4, 3) := dk_167 0 4 (dk_at dksX0_leastOf_3 3 rfl rfl)
theorem dX0_leastOf_76 : decode cX0_leastOf 76 = .ok (.iload_n 3, 1) := dk_29 (dk_at dksX0_leastOf_3 6 rfl rfl)
theorem dX0_leastOf_77 : decode cX0_leastOf 77 = .ok (.istore_n 3, 1) := dk_62 (dk_at dksX0_leastOf_3 7 rfl rfl)
theorem dX0_leastOf_78 : decode cX0_leastOf 78 = .ok (.iinc 4 1, 3) := dk_132 4 1 (dk_at dksX0_leastOf_3 8 rfl rfl)
theorem dX0_leastOf_81 : decode cX0_leastOf 81 = .ok (.goto (-73), 3) := dk_167 255 183 (dk_at dksX0_leastOf_3 11 rfl rfl)
theorem dX0_leastOf_84 : decode cX0_leastOf 84 = .ok (.aload_n 1, 1) := dk_43 (dk_at dksX0_leastOf_3 14 rfl rfl)
theorem dX0_leastOf_85 : decode cX0_leastOf 85 = .ok (.getfield 101, 3) := dk_180 0 101 (dk_at dksX0_leastOf_3 15 rfl rfl)
theorem dX0_leastOf_88 : decode cX0_leastOf 88 = .ok (.lookupswitch 73 #[(42, 60), (91, 64), (110, 60), (115, 60), (116, 60), (123, 62)], 60) := by decide +kernel
theorem dX0_leastOf_148 : decode cX0_leastOf 148 = .ok (.iconst 1, 1) := dk_4 (dk_at dksX0_leastOf_5 0 rfl rfl)
theorem dX0_leastOf_149 : decode cX0_leastOf 149 = .ok (.ireturn, 1) := dk_172 (dk_at dksX0_leastOf_5 1 rfl rfl)
theorem dX0_leastOf_150 : decode cX0_leastOf 150 = .ok (.iload_n 2, 1) := dk_28 (dk_at dksX0_leastOf_5 2 rfl rfl)
theorem dX0_leastOf_151 : decode cX0_leastOf 151 = .ok (.ireturn, 1) := dk_172 (dk_at dksX0_leastOf_5 3 rfl rfl)
theorem dX0_leastOf_152 : decode cX0_leastOf 152 = .ok (.bipush 41, 2) := dk_16 41 (dk_at dksX0_leastOf_5 4 rfl rfl)
theorem dX0_leastOf_154 : decode cX0_leastOf 154 = .ok (.iload_n 3, 1) := dk_29 (dk_at dksX0_leastOf_5 6 rfl rfl)
theorem dX0_leastOf_155 : decode cX0_leastOf 155 = .ok (.iconst 1, 1) := dk_4 (dk_at dksX0_leastOf_5 7 rfl rfl)
theorem dX0_leastOf_156 : decode cX0_leastOf 156 = .ok (.iadd, 1) := dk_96 (dk_at dksX0_leastOf_5 8 rfl rfl)
theorem dX0_leastOf_157 : decode cX0_leastOf 157 = .ok (.invokestatic 254, 3) := dk_184 0 254 (dk_at dksX0_leastOf_5 9 rfl rfl)
theorem dX0_leastOf_160 : decode cX0_leastOf 160 = .ok (.ireturn, 1) := dk_172 (dk_at dksX0_leastOf_5 12 rfl rfl)
theorem dX0_leastOf_161 : decode cX0_leastOf 161 = .ok (.bipush 41, 2) := dk_16 41 (dk_at dksX0_leastOf_5 13 rfl rfl)
theorem dX0_leastOf_163 : decode cX0_leastOf 163 = .ok (.ireturn, 1) := dk_172 (dk_at dksX0_leastOf_5 15 rfl rfl)
abbrev cX0_told : ByteArray := prog_1_method_42_code
def yX0_told : MethodName := ⟨RX0, "told", "(I)I"⟩
def dkwX0_told_7 : List UInt8 := [42, 180, 0, 76, 172, 42, 180, 0, 94, 172, 21, 4, 172, 28, 172, 29, 172, 16, 254, 172]
abbrev dktX0_told_7 : List UInt8 := dkwX0_told_7 ++ []
def dkwX0_told_6 : List UInt8 := [170, 0, 0, 0, 50, 0, 0, 0, 0, 0, 0, 0, 4, 0, 0, 0, 33, 0, 0, 0, 38, 0, 0, 0, 43, 0, 0, 0, 46, 0, 0, 0, 48]
abbrev dktX0_told_6 : List UInt8 := dkwX0_told_6 ++ dktX0_told_7
def dkwX0_told_5 : List UInt8 := [46, 155, 0, 7, 4, 167, 0, 4, 3, 96, 54, 4, 132, 5, 1, 167, 255, 226, 27]
abbrev dktX0_told_5 : List UInt8 := dkwX0_told_5 ++ dktX0_told_6
def dkwX0_told_4 : List UInt8 := [167, 255, 175, 3, 54, 4, 3, 54, 5, 21, 5, 16, 8, 162, 0, 29, 21, 4, 42, 180, 0, 15, 21, 5]
abbrev dktX0_told_4 : List UInt8 := dkwX0_told_4 ++ dktX0_told_5
def dkwX0_told_3 : List UInt8 := [182, 0, 166, 153, 0, 7, 4, 167, 0, 4, 3, 96, 62, 132, 5, 1, 167, 255, 213, 132, 4, 1]
abbrev dktX0_told_3 : List UInt8 := dkwX0_told_3 ++ dktX0_told_4
def dkwX0_told_2 : List UInt8 := [180, 0, 94, 162, 0, 40, 27, 7, 160, 0, 35, 29, 21, 4, 21, 5, 159, 0, 18, 42, 21, 4, 21, 5]
abbrev dktX0_told_2 : List UInt8 := dkwX0_told_2 ++ dktX0_told_3
def dkwX0_told_1 : List UInt8 := [180, 0, 64, 21, 4, 46, 16, 40, 164, 0, 7, 4, 167, 0, 4, 3, 96, 61, 3, 54, 5, 21, 5, 42]
abbrev dktX0_told_1 : List UInt8 := dkwX0_told_1 ++ dktX0_told_2
def dkwX0_told_0 : List UInt8 := [42, 182, 1, 4, 3, 61, 3, 62, 3, 54, 4, 21, 4, 42, 180, 0, 94, 162, 0, 78, 28, 42]
abbrev dktX0_told_0 : List UInt8 := dkwX0_told_0 ++ dktX0_told_1
theorem dksX0_told_0 : cX0_told.data.toList.drop 0 = dktX0_told_0 := by decide +kernel
theorem dksX0_told_1 : cX0_told.data.toList.drop 22 = dktX0_told_1 := dk_seg dksX0_told_0 22 rfl rfl
theorem dksX0_told_2 : cX0_told.data.toList.drop 46 = dktX0_told_2 := dk_seg dksX0_told_1 24 rfl rfl
theorem dksX0_told_3 : cX0_told.data.toList.drop 70 = dktX0_told_3 := dk_seg dksX0_told_2 24 rfl rfl
theorem dksX0_told_4 : cX0_told.data.toList.drop 92 = dktX0_told_4 := dk_seg dksX0_told_3 22 rfl rfl
theorem dksX0_told_5 : cX0_told.data.toList.drop 116 = dktX0_told_5 := dk_seg dksX0_told_4 24 rfl rfl
theorem dksX0_told_6 : cX0_told.data.toList.drop 135 = dktX0_told_6 := dk_seg dksX0_told_5 19 rfl rfl
theorem dksX0_told_7 : cX0_told.data.toList.drop 168 = dktX0_told_7 := dk_seg dksX0_told_6 33 rfl rfl
theorem dX0_told_0 : decode cX0_told 0 = .ok (.aload_n 0, 1) := dk_42 (dk_at dksX0_told_0 0 rfl rfl)
theorem dX0_told_1 : decode cX0_told 1 = .ok (.invokevirtual 260, 3) := dk_182 1 4 (dk_at dksX0_told_0 1 rfl rfl)
theorem dX0_told_4 : decode cX0_told 4 = .ok (.iconst 0, 1) := dk_3 (dk_at dksX0_told_0 4 rfl rfl)
theorem dX0_told_5 : decode cX0_told 5 = .ok (.istore_n 2, 1) := dk_61 (dk_at dksX0_told_0 5 rfl rfl)
theorem dX0_told_6 : decode cX0_told 6 = .ok (.iconst 0, 1) := dk_3 (dk_at dksX0_told_0 6 rfl rfl)
theorem dX0_told_7 : decode cX0_told 7 = .ok (.istore_n 3, 1) := dk_62 (dk_at dksX0_told_0 7 rfl rfl)
theorem dX0_told_8 : decode cX0_told 8 = .ok (.iconst 0, 1) := dk_3 (dk_at dksX0_told_0 8 rfl rfl)
theorem dX0_told_9 : decode cX0_told 9 = .ok (.istore 4, 2) := dk_54 4 (dk_at dksX0_told_0 9 rfl rfl)
theorem dX0_told_11 : decode cX0_told 11 = .ok (.iload 4, 2) := dk_21 4 (dk_at dksX0_told_0 11 rfl rfl)
theorem dX0_told_13 : decode cX0_told 13 = .ok (.aload_n 0, 1) := dk_42 (dk_at dksX0_told_0 13 rfl rfl)
theorem dX0_told_14 : decode cX0_told 14 = .ok (.getfield 94, 3) := dk_180 0 94 (dk_at dksX0_told_0 14 rfl rfl)
theorem dX0_told_17 : decode cX0_told 17 = .ok (.if_icmp .ge 78, 3) := dk_162 0 78 (dk_at dksX0_told_0 17 rfl rfl)
theorem dX0_told_20 : decode cX0_told 20 = .ok (.iload_n 2, 1) := dk_28 (dk_at dksX0_told_0 20 rfl rfl)
theorem dX0_told_21 : decode cX0_told 21 = .ok (.aload_n 0, 1) := dk_42 (dk_at dksX0_told_0 21 rfl rfl)
theorem dX0_told_22 : decode cX0_told 22 = .ok (.getfield 64, 3) := dk_180 0 64 (dk_at dksX0_told_1 0 rfl rfl)
theorem dX0_told_25 : decode cX0_told 25 = .ok (.iload 4, 2) := dk_21 4 (dk_at dksX0_told_1 3 rfl rfl)
theorem dX0_told_27 : decode cX0_told 27 = .ok (.iaload, 1) := dk_46 (dk_at dksX0_told_1 5 rfl rfl)
theorem dX0_told_28 : decode cX0_told 28 = .ok (.bipush 40, 2) := dk_16 40 (dk_at dksX0_told_1 6 rfl rfl)
theorem dX0_told_30 : decode cX0_told 30 = .ok (.if_icmp .le 7, 3) := dk_164 0 7 (dk_at dksX0_told_1 8 rfl rfl)
theorem dX0_told_33 : decode cX0_told 33 = .ok (.iconst 1, 1) := dk_4 (dk_at dksX0_told_1 11 rfl rfl)
theorem dX0_told_34 : decode cX0_told 34 = .ok (.goto 4, 3) := dk_167 0 4 (dk_at dksX0_told_1 12 rfl rfl)
theorem dX0_told_37 : decode cX0_told 37 = .ok (.iconst 0, 1) := dk_3 (dk_at dksX0_told_1 15 rfl rfl)
theorem dX0_told_38 : decode cX0_told 38 = .ok (.iadd, 1) := dk_96 (dk_at dksX0_told_1 16 rfl rfl)
theorem dX0_told_39 : decode cX0_told 39 = .ok (.istore_n 2, 1) := dk_61 (dk_at dksX0_told_1 17 rfl rfl)
theorem dX0_told_40 : decode cX0_told 40 = .ok (.iconst 0, 1) := dk_3 (dk_at dksX0_told_1 18 rfl rfl)
theorem dX0_told_41 : decode cX0_told 41 = .ok (.istore 5, 2) := dk_54 5 (dk_at dksX0_told_1 19 rfl rfl)
theorem dX0_told_43 : decode cX0_told 43 = .ok (.iload 5, 2) := dk_21 5 (dk_at dksX0_told_1 21 rfl rfl)
theorem dX0_told_45 : decode cX0_told 45 = .ok (.aload_n 0, 1) := dk_42 (dk_at dksX0_told_1 23 rfl rfl)
theorem dX0_told_46 : decode cX0_told 46 = .ok (.getfield 94, 3) := dk_180 0 94 (dk_at dksX0_told_2 0 rfl rfl)
theorem dX0_told_49 : decode cX0_told 49 = .ok (.if_icmp .ge 40, 3) := dk_162 0 40 (dk_at dksX0_told_2 3 rfl rfl)
theorem dX0_told_52 : decode cX0_told 52 = .ok (.iload_n 1, 1) := dk_27 (dk_at dksX0_told_2 6 rfl rfl)
theorem dX0_told_53 : decode cX0_told 53 = .ok (.iconst 4, 1) := dk_7 (dk_at dksX0_told_2 7 rfl rfl)
theorem dX0_told_54 : decode cX0_told 54 = .ok (.if_icmp .ne 35, 3) := dk_160 0 35 (dk_at dksX0_told_2 8 rfl rfl)
theorem dX0_told_57 : decode cX0_told 57 = .ok (.iload_n 3, 1) := dk_29 (dk_at dksX0_told_2 11 rfl rfl)
theorem dX0_told_58 : decode cX0_told 58 = .ok (.iload 4, 2) := dk_21 4 (dk_at dksX0_told_2 12 rfl rfl)
theorem dX0_told_60 : decode cX0_told 60 = .ok (.iload 5, 2) := dk_21 5 (dk_at dksX0_told_2 14 rfl rfl)
theorem dX0_told_62 : decode cX0_told 62 = .ok (.if_icmp .eq 18, 3) := dk_159 0 18 (dk_at dksX0_told_2 16 rfl rfl)
theorem dX0_told_65 : decode cX0_told 65 = .ok (.aload_n 0, 1) := dk_42 (dk_at dksX0_told_2 19 rfl rfl)
theorem dX0_told_66 : decode cX0_told 66 = .ok (.iload 4, 2) := dk_21 4 (dk_at dksX0_told_2 20 rfl rfl)
theorem dX0_told_68 : decode cX0_told 68 = .ok (.iload 5, 2) := dk_21 5 (dk_at dksX0_told_2 22 rfl rfl)
theorem dX0_told_70 : decode cX0_told 70 = .ok (.invokevirtual 166, 3) := dk_182 0 166 (dk_at dksX0_told_3 0 rfl rfl)
theorem dX0_told_73 : decode cX0_told 73 = .ok (.ifCond .eq 7, 3) := dk_153 0 7 (dk_at dksX0_told_3 3 rfl rfl)
theorem dX0_told_76 : decode cX0_told 76 = .ok (.iconst 1, 1) := dk_4 (dk_at dksX0_told_3 6 rfl rfl)
theorem dX0_told_77 : decode cX0_told 77 = .ok (.goto 4, 3) := dk_167 0 4 (dk_at dksX0_told_3 7 rfl rfl)
theorem dX0_told_80 : decode cX0_told 80 = .ok (.iconst 0, 1) := dk_3 (dk_at dksX0_told_3 10 rfl rfl)
theorem dX0_told_81 : decode cX0_told 81 = .ok (.iadd, 1) := dk_96 (dk_at dksX0_told_3 11 rfl rfl)
theorem dX0_told_82 : decode cX0_told 82 = .ok (.istore_n 3, 1) := dk_62 (dk_at dksX0_told_3 12 rfl rfl)
theorem dX0_told_83 : decode cX0_told 83 = .ok (.iinc 5 1, 3) := dk_132 5 1 (dk_at dksX0_told_3 13 rfl rfl)
theorem dX0_told_86 : decode cX0_told 86 = .ok (.goto (-43), 3) := dk_167 255 213 (dk_at dksX0_told_3 16 rfl rfl)
theorem dX0_told_89 : decode cX0_told 89 = .ok (.iinc 4 1, 3) := dk_132 4 1 (dk_at dksX0_told_3 19 rfl rfl)
theorem dX0_told_92 : decode cX0_told 92 = .ok (.goto (-81), 3) := dk_167 255 175 (dk_at dksX0_told_4 0 rfl rfl)
theorem dX0_told_95 : decode cX0_told 95 = .ok (.iconst 0, 1) := dk_3 (dk_at dksX0_told_4 3 rfl rfl)
theorem dX0_told_96 : decode cX0_told 96 = .ok (.istore 4, 2) := dk_54 4 (dk_at dksX0_told_4 4 rfl rfl)
theorem dX0_told_98 : decode cX0_told 98 = .ok (.iconst 0, 1) := dk_3 (dk_at dksX0_told_4 6 rfl rfl)
theorem dX0_told_99 : decode cX0_told 99 = .ok (.istore 5, 2) := dk_54 5 (dk_at dksX0_told_4 7 rfl rfl)
theorem dX0_told_101 : decode cX0_told 101 = .ok (.iload 5, 2) := dk_21 5 (dk_at dksX0_told_4 9 rfl rfl)
theorem dX0_told_103 : decode cX0_told 103 = .ok (.bipush 8, 2) := dk_16 8 (dk_at dksX0_told_4 11 rfl rfl)
theorem dX0_told_105 : decode cX0_told 105 = .ok (.if_icmp .ge 29, 3) := dk_162 0 29 (dk_at dksX0_told_4 13 rfl rfl)
theorem dX0_told_108 : decode cX0_told 108 = .ok (.iload 4, 2) := dk_21 4 (dk_at dksX0_told_4 16 rfl rfl)
theorem dX0_told_110 : decode cX0_told 110 = .ok (.aload_n 0, 1) := dk_42 (dk_at dksX0_told_4 18 rfl rfl)
theorem dX0_told_111 : decode cX0_told 111 = .ok (.getfield 15, 3) := dk_180 0 15 (dk_at dksX0_told_4 19 rfl rfl)
theorem dX0_told_114 : decode cX0_told 114 = .ok (.iload 5, 2) := dk_21 5 (dk_at dksX0_told_4 22 rfl rfl)
theorem dX0_told_116 : decode cX0_told 116 = .ok (.iaload, 1) := dk_46 (dk_at dksX0_told_5 0 rfl rfl)
theorem dX0_told_117 : decode cX0_told 117 = .ok (.ifCond .lt 7, 3) := dk_155 0 7 (dk_at dksX0_told_5 1 rfl rfl)
theorem dX0_told_120 : decode cX0_told 120 = .ok (.iconst 1, 1) := dk_4 (dk_at dksX0_told_5 4 rfl rfl)
theorem dX0_told_121 : decode cX0_told 121 = .ok (.goto 4, 3) := dk_167 0 4 (dk_at dksX0_told_5 5 rfl rfl)
theorem dX0_told_124 : decode cX0_told 124 = .ok (.iconst 0, 1) := dk_3 (dk_at dksX0_told_5 8 rfl rfl)
theorem dX0_told_125 : decode cX0_told 125 = .ok (.iadd, 1) := dk_96 (dk_at dksX0_told_5 9 rfl rfl)
theorem dX0_told_126 : decode cX0_told 126 = .ok (.istore 4, 2) := dk_54 4 (dk_at dksX0_told_5 10 rfl rfl)
theorem dX0_told_128 : decode cX0_told 128 = .ok (.iinc 5 1, 3) := dk_132 5 1 (dk_at dksX0_told_5 12 rfl rfl)
theorem dX0_told_131 : decode cX0_told 131 = .ok (.goto (-30), 3) := dk_167 255 226 (dk_at dksX0_told_5 15 rfl rfl)
theorem dX0_told_134 : decode cX0_told 134 = .ok (.iload_n 1, 1) := dk_27 (dk_at dksX0_told_5 18 rfl rfl)
theorem dX0_told_135 : decode cX0_told 135 = .ok (.tableswitch 50 0 4 #[33, 38, 43, 46, 48], 33) := by decide +kernel
theorem dX0_told_168 : decode cX0_told 168 = .ok (.aload_n 0, 1) := dk_42 (dk_at dksX0_told_7 0 rfl rfl)
theorem dX0_told_169 : decode cX0_told 169 = .ok (.getfield 76, 3) := dk_180 0 76 (dk_at dksX0_told_7 1 rfl rfl)
theorem dX0_told_172 : decode cX0_told 172 = .ok (.ireturn, 1) := dk_172 (dk_at dksX0_told_7 4 rfl rfl)
theorem dX0_told_173 : decode cX0_told 173 = .ok (.aload_n 0, 1) := dk_42 (dk_at dksX0_told_7 5 rfl rfl)
theorem dX0_told_174 : decode cX0_told 174 = .ok (.getfield 94, 3) := dk_180 0 94 (dk_at dksX0_told_7 6 rfl rfl)
theorem dX0_told_177 : decode cX0_told 177 = .ok (.ireturn, 1) := dk_172 (dk_at dksX0_told_7 9 rfl rfl)
theorem dX0_told_178 : decode cX0_told 178 = .ok (.iload 4, 2) := dk_21 4 (dk_at dksX0_told_7 10 rfl rfl)
theorem dX0_told_180 : decode cX0_told 180 = .ok (.ireturn, 1) := dk_172 (dk_at dksX0_told_7 12 rfl rfl)
theorem dX0_told_181 : decode cX0_told 181 = .ok (.iload_n 2, 1) := dk_28 (dk_at dksX0_told_7 13 rfl rfl)
theorem dX0_told_182 : decode cX0_told 182 = .ok (.ireturn, 1) := dk_172 (dk_at dksX0_told_7 14 rfl rfl)
theorem dX0_told_183 : decode cX0_told 183 = .ok (.iload_n 3, 1) := dk_29 (dk_at dksX0_told_7 15 rfl rfl)
theorem dX0_told_184 : decode cX0_told 184 = .ok (.ireturn, 1) := dk_172 (dk_at dksX0_told_7 16 rfl rfl)
theorem dX0_told_185 : decode cX0_told 185 = .ok (.bipush (-2), 2) := dk_16 254 (dk_at dksX0_told_7 17 rfl rfl)
theorem dX0_told_187 : decode cX0_told 187 = .ok (.ireturn, 1) := dk_172 (dk_at dksX0_told_7 19 rfl rfl)
theorem q56 : (Jvm.Cond.initialized "KindNets") ∈ lw_all := lw_g (lw_at lw_m1 1 rfl) rfl
theorem q63 : (Jvm.Cond.instantiable "KindNets" (18 : Nat)) ∈ lw_all := lw_g (lw_at lw_m1 8 rfl) rfl
theorem q65 : (Jvm.Cond.instanceMethod ({ cls := "KindNets", name := "<init>", desc := "()V" } : Jvm.MethodName)) ∈ lw_all := lw_g (lw_at lw_m1 10 rfl) rfl
theorem q66 : (Jvm.Cond.code ({ cls := "KindNets", name := "<init>", desc := "()V" } : Jvm.MethodName) prog_1_method_2_code (2 : Nat) (Option.none : Option Jvm.ClassFile.FieldType)) ∈ lw_all := lw_g (lw_at lw_m1 11 rfl) rfl
theorem q67 : (Jvm.Cond.methodLink "KindNets" (1 : Nat) ({ cls := "java/lang/Object", name := "<init>", desc := "()V" } : Jvm.MethodName)) ∈ lw_all := lw_g (lw_at lw_m1 12 rfl) rfl
theorem q70 : (Jvm.Cond.classLink "KindNets" (9 : Nat) "KindNets$Kind") ∈ lw_all := lw_g (lw_at lw_m1 15 rfl) rfl
theorem q72 : (Jvm.Cond.classLink "KindNets" (23 : Nat) "KindNets$Reader") ∈ lw_all := lw_g (lw_at lw_m1 17 rfl) rfl
theorem q74 : (Jvm.Cond.methodLink "KindNets" (25 : Nat) ({ cls := "KindNets$Reader", name := "<init>", desc := "()V" } : Jvm.MethodName)) ∈ lw_all := lw_g (lw_at lw_m1 19 rfl) rfl
theorem q86 : (Jvm.Cond.fieldLinkNest "KindNets" (101 : Nat) "KindNets$Kind" "sign" "C" "KindNets") ∈ lw_tbl := lw_at lw_m1 31 rfl
theorem q89 : (Jvm.Cond.fieldLinkNest "KindNets" (113 : Nat) "KindNets$Kind" "part" "[I" "KindNets") ∈ lw_tbl := lw_at lw_m1 34 rfl
theorem q98 : (Jvm.Cond.fieldLinkNest "KindNets" (98 : Nat) "KindNets$Reader" "read" "[LKindNets$Kind;" "KindNets") ∈ lw_tbl := lw_at lw_m1 43 rfl
theorem q103 : (Jvm.Cond.fieldLinkNest "KindNets" (120 : Nat) "KindNets$Reader" "root" "[I" "KindNets") ∈ lw_tbl := lw_at lw_m1 48 rfl
theorem q105 : (Jvm.Cond.fieldLinkNest "KindNets" (97 : Nat) "KindNets$Reader" "many" "I" "KindNets") ∈ lw_tbl := lw_at lw_m1 50 rfl
theorem q125 : (Jvm.Cond.classLink "KindNets" (33 : Nat) "[[I") ∈ lw_all := lw_g (lw_at lw_m1 70 rfl) rfl
theorem q127 : (Jvm.Cond.classLink "KindNets" (45 : Nat) "KindNets$Values") ∈ lw_all := lw_g (lw_at lw_m1 72 rfl) rfl
theorem q129 : (Jvm.Cond.methodLinkNest "KindNets" (47 : Nat) ({ cls := "KindNets$Values", name := "<init>", desc := "()V" } : Jvm.MethodName) "KindNets") ∈ lw_tbl := lw_at lw_m1 74 rfl
theorem q134 : (Jvm.Cond.fieldLinkNest "KindNets" (195 : Nat) "KindNets$Values" "at" "[I" "KindNets") ∈ lw_tbl := lw_at lw_m1 79 rfl
theorem q136 : (Jvm.Cond.fieldLinkNest "KindNets" (201 : Nat) "KindNets$Values" "up" "[I" "KindNets") ∈ lw_tbl := lw_at lw_m1 81 rfl
theorem q138 : (Jvm.Cond.fieldLinkNest "KindNets" (204 : Nat) "KindNets$Values" "letter" "[I" "KindNets") ∈ lw_tbl := lw_at lw_m1 83 rfl
theorem q140 : (Jvm.Cond.fieldLinkNest "KindNets" (198 : Nat) "KindNets$Values" "last" "[I" "KindNets") ∈ lw_tbl := lw_at lw_m1 85 rfl
theorem q142 : (Jvm.Cond.fieldLinkNest "KindNets" (207 : Nat) "KindNets$Values" "many" "I" "KindNets") ∈ lw_tbl := lw_at lw_m1 87 rfl
theorem q158 : (Jvm.Cond.classLink "KindNets" (55 : Nat) "[[J") ∈ lw_all := lw_g (lw_at lw_m1 103 rfl) rfl
theorem q160 : (Jvm.Cond.methodLinkNest "KindNets" (67 : Nat) ({ cls := "KindNets$Kind", name := "<init>", desc := "()V" } : Jvm.MethodName) "KindNets") ∈ lw_tbl := lw_at lw_m1 105 rfl
theorem q161 : (Jvm.Cond.fieldLink "KindNets" (11 : Nat) "KindNets" "kinds" "[LKindNets$Kind;") ∈ lw_all := lw_g (lw_at lw_m1 106 rfl) rfl
theorem q162 : (Jvm.Cond.fieldLink "KindNets" (94 : Nat) "KindNets" "many" "I") ∈ lw_all := lw_g (lw_at lw_m1 107 rfl) rfl
theorem q163 : (Jvm.Cond.fieldLink "KindNets" (15 : Nat) "KindNets" "names" "[I") ∈ lw_all := lw_g (lw_at lw_m1 108 rfl) rfl
theorem q164 : (Jvm.Cond.fieldLink "KindNets" (19 : Nat) "KindNets" "pad" "[C") ∈ lw_all := lw_g (lw_at lw_m1 109 rfl) rfl
theorem q165 : (Jvm.Cond.fieldLink "KindNets" (76 : Nat) "KindNets" "padMany" "I") ∈ lw_all := lw_g (lw_at lw_m1 110 rfl) rfl
theorem q166 : (Jvm.Cond.fieldLink "KindNets" (26 : Nat) "KindNets" "reader" "LKindNets$Reader;") ∈ lw_all := lw_g (lw_at lw_m1 111 rfl) rfl
theorem q167 : (Jvm.Cond.fieldLink "KindNets" (30 : Nat) "KindNets" "becomes" "[I") ∈ lw_all := lw_g (lw_at lw_m1 112 rfl) rfl
theorem q168 : (Jvm.Cond.fieldLink "KindNets" (35 : Nat) "KindNets" "fall" "[[I") ∈ lw_all := lw_g (lw_at lw_m1 113 rfl) rfl
theorem q169 : (Jvm.Cond.fieldLink "KindNets" (126 : Nat) "KindNets" "isKnown" "Z") ∈ lw_all := lw_g (lw_at lw_m1 114 rfl) rfl
theorem q170 : (Jvm.Cond.fieldLink "KindNets" (38 : Nat) "KindNets" "held" "[Z") ∈ lw_all := lw_g (lw_at lw_m1 115 rfl) rfl
theorem q171 : (Jvm.Cond.fieldLink "KindNets" (42 : Nat) "KindNets" "madeFor" "[I") ∈ lw_all := lw_g (lw_at lw_m1 116 rfl) rfl
theorem q172 : (Jvm.Cond.fieldLink "KindNets" (180 : Nat) "KindNets" "fresh" "I") ∈ lw_all := lw_g (lw_at lw_m1 117 rfl) rfl
theorem q173 : (Jvm.Cond.fieldLink "KindNets" (183 : Nat) "KindNets" "isFull" "Z") ∈ lw_all := lw_g (lw_at lw_m1 118 rfl) rfl
theorem q174 : (Jvm.Cond.fieldLink "KindNets" (48 : Nat) "KindNets" "values" "LKindNets$Values;") ∈ lw_all := lw_g (lw_at lw_m1 119 rfl) rfl
theorem q175 : (Jvm.Cond.fieldLink "KindNets" (52 : Nat) "KindNets" "must" "[I") ∈ lw_all := lw_g (lw_at lw_m1 120 rfl) rfl
theorem q176 : (Jvm.Cond.fieldLink "KindNets" (57 : Nat) "KindNets" "counts" "[[J") ∈ lw_all := lw_g (lw_at lw_m1 121 rfl) rfl
theorem q177 : (Jvm.Cond.fieldLink "KindNets" (60 : Nat) "KindNets" "sums" "[J") ∈ lw_all := lw_g (lw_at lw_m1 122 rfl) rfl
theorem q178 : (Jvm.Cond.fieldLink "KindNets" (64 : Nat) "KindNets" "leasts" "[I") ∈ lw_all := lw_g (lw_at lw_m1 123 rfl) rfl
theorem q179 : (Jvm.Cond.laysFinal "KindNets" "KindNets" "kinds" "[LKindNets$Kind;") ∈ lw_all := lw_g (lw_at lw_m1 124 rfl) rfl
theorem q180 : (Jvm.Cond.soleField "KindNets" "kinds") ∈ lw_all := lw_g (lw_at lw_m1 125 rfl) rfl
theorem q181 : (Jvm.Cond.lays "KindNets" "KindNets" "many" "I") ∈ lw_all := lw_g (lw_at lw_m1 126 rfl) rfl
theorem q182 : (Jvm.Cond.soleField "KindNets" "many") ∈ lw_all := lw_g (lw_at lw_m1 127 rfl) rfl
theorem q183 : (Jvm.Cond.laysFinal "KindNets" "KindNets" "names" "[I") ∈ lw_all := lw_g (lw_at lw_m1 128 rfl) rfl
theorem q184 : (Jvm.Cond.soleField "KindNets" "names") ∈ lw_all := lw_g (lw_at lw_m1 129 rfl) rfl
theorem q185 : (Jvm.Cond.laysFinal "KindNets" "KindNets" "pad" "[C") ∈ lw_all := lw_g (lw_at lw_m1 130 rfl) rfl
theorem q186 : (Jvm.Cond.soleField "KindNets" "pad") ∈ lw_all := lw_g (lw_at lw_m1 131 rfl) rfl
theorem q187 : (Jvm.Cond.lays "KindNets" "KindNets" "padMany" "I") ∈ lw_all := lw_g (lw_at lw_m1 132 rfl) rfl
theorem q188 : (Jvm.Cond.soleField "KindNets" "padMany") ∈ lw_all := lw_g (lw_at lw_m1 133 rfl) rfl
theorem q189 : (Jvm.Cond.laysFinal "KindNets" "KindNets" "reader" "LKindNets$Reader;") ∈ lw_all := lw_g (lw_at lw_m1 134 rfl) rfl
theorem q190 : (Jvm.Cond.soleField "KindNets" "reader") ∈ lw_all := lw_g (lw_at lw_m1 135 rfl) rfl
theorem q191 : (Jvm.Cond.laysFinal "KindNets" "KindNets" "becomes" "[I") ∈ lw_all := lw_g (lw_at lw_m1 136 rfl) rfl
theorem q192 : (Jvm.Cond.soleField "KindNets" "becomes") ∈ lw_all := lw_g (lw_at lw_m1 137 rfl) rfl
theorem q193 : (Jvm.Cond.laysFinal "KindNets" "KindNets" "fall" "[[I") ∈ lw_all := lw_g (lw_at lw_m1 138 rfl) rfl
theorem q194 : (Jvm.Cond.soleField "KindNets" "fall") ∈ lw_all := lw_g (lw_at lw_m1 139 rfl) rfl
theorem q195 : (Jvm.Cond.lays "KindNets" "KindNets" "isKnown" "Z") ∈ lw_all := lw_g (lw_at lw_m1 140 rfl) rfl
theorem q196 : (Jvm.Cond.soleField "KindNets" "isKnown") ∈ lw_all := lw_g (lw_at lw_m1 141 rfl) rfl
theorem q197 : (Jvm.Cond.laysFinal "KindNets" "KindNets" "held" "[Z") ∈ lw_all := lw_g (lw_at lw_m1 142 rfl) rfl
theorem q198 : (Jvm.Cond.soleField "KindNets" "held") ∈ lw_all := lw_g (lw_at lw_m1 143 rfl) rfl
theorem q199 : (Jvm.Cond.laysFinal "KindNets" "KindNets" "madeFor" "[I") ∈ lw_all := lw_g (lw_at lw_m1 144 rfl) rfl
theorem q200 : (Jvm.Cond.soleField "KindNets" "madeFor") ∈ lw_all := lw_g (lw_at lw_m1 145 rfl) rfl
theorem q201 : (Jvm.Cond.lays "KindNets" "KindNets" "fresh" "I") ∈ lw_all := lw_g (lw_at lw_m1 146 rfl) rfl
theorem q202 : (Jvm.Cond.soleField "KindNets" "fresh") ∈ lw_all := lw_g (lw_at lw_m1 147 rfl) rfl
theorem q203 : (Jvm.Cond.lays "KindNets" "KindNets" "isFull" "Z") ∈ lw_all := lw_g (lw_at lw_m1 148 rfl) rfl
theorem q204 : (Jvm.Cond.soleField "KindNets" "isFull") ∈ lw_all := lw_g (lw_at lw_m1 149 rfl) rfl
theorem q205 : (Jvm.Cond.laysFinal "KindNets" "KindNets" "values" "LKindNets$Values;") ∈ lw_all := lw_g (lw_at lw_m1 150 rfl) rfl
theorem q206 : (Jvm.Cond.soleField "KindNets" "values") ∈ lw_all := lw_g (lw_at lw_m1 151 rfl) rfl
theorem q207 : (Jvm.Cond.laysFinal "KindNets" "KindNets" "must" "[I") ∈ lw_all := lw_g (lw_at lw_m1 152 rfl) rfl
theorem q208 : (Jvm.Cond.soleField "KindNets" "must") ∈ lw_all := lw_g (lw_at lw_m1 153 rfl) rfl
theorem q209 : (Jvm.Cond.laysFinal "KindNets" "KindNets" "counts" "[[J") ∈ lw_all := lw_g (lw_at lw_m1 154 rfl) rfl
theorem q210 : (Jvm.Cond.soleField "KindNets" "counts") ∈ lw_all := lw_g (lw_at lw_m1 155 rfl) rfl
theorem q211 : (Jvm.Cond.laysFinal "KindNets" "KindNets" "sums" "[J") ∈ lw_all := lw_g (lw_at lw_m1 156 rfl) rfl
theorem q212 : (Jvm.Cond.soleField "KindNets" "sums") ∈ lw_all := lw_g (lw_at lw_m1 157 rfl) rfl
theorem q213 : (Jvm.Cond.laysFinal "KindNets" "KindNets" "leasts" "[I") ∈ lw_all := lw_g (lw_at lw_m1 158 rfl) rfl
theorem q214 : (Jvm.Cond.soleField "KindNets" "leasts") ∈ lw_all := lw_g (lw_at lw_m1 159 rfl) rfl
theorem q215 : (Jvm.Cond.superclass "KindNets" "java/lang/Object") ∈ lw_all := lw_g (lw_at lw_m1 160 rfl) rfl
theorem q218 : (Jvm.Cond.instanceMethod ({ cls := "KindNets", name := "say", desc := "(I)I" } : Jvm.MethodName)) ∈ lw_all := lw_g (lw_at lw_m1 163 rfl) rfl
theorem q219 : (Jvm.Cond.selects "KindNets" ({ cls := "KindNets", name := "say", desc := "(I)I" } : Jvm.MethodName) ({ cls := "KindNets", name := "say", desc := "(I)I" } : Jvm.MethodName)) ∈ lw_all := lw_g (lw_at lw_m1 164 rfl) rfl
theorem q220 : (Jvm.Cond.code ({ cls := "KindNets", name := "say", desc := "(I)I" } : Jvm.MethodName) prog_1_method_3_code (2 : Nat) (Option.some Jvm.ClassFile.FieldType.int)) ∈ lw_all := lw_g (lw_at lw_m1 165 rfl) rfl
theorem q221 : (Jvm.Cond.constantLong "KindNets" (68 : Nat) (33 : Int64)) ∈ lw_all := lw_g (lw_at lw_m1 166 rfl) rfl
theorem q222 : (Jvm.Cond.constantLong "KindNets" (70 : Nat) (126 : Int64)) ∈ lw_all := lw_g (lw_at lw_m1 167 rfl) rfl
theorem q223 : (Jvm.Cond.methodLink "KindNets" (72 : Nat) ({ cls := "KindNets", name := "isIn", desc := "(JJJ)Z" } : Jvm.MethodName)) ∈ lw_all := lw_g (lw_at lw_m1 168 rfl) rfl
theorem q224 : (Jvm.Cond.static ({ cls := "KindNets", name := "isIn", desc := "(JJJ)Z" } : Jvm.MethodName)) ∈ lw_all := lw_g (lw_at lw_m1 169 rfl) rfl
theorem q225 : (Jvm.Cond.code ({ cls := "KindNets", name := "isIn", desc := "(JJJ)Z" } : Jvm.MethodName) prog_1_method_1_code (6 : Nat) (Option.some Jvm.ClassFile.FieldType.boolean)) ∈ lw_all := lw_g (lw_at lw_m1 170 rfl) rfl
theorem q227 : (Jvm.Cond.instanceMethod ({ cls := "KindNets", name := "wipe", desc := "()I" } : Jvm.MethodName)) ∈ lw_all := lw_g (lw_at lw_m1 172 rfl) rfl
theorem q228 : (Jvm.Cond.selects "KindNets" ({ cls := "KindNets", name := "wipe", desc := "()I" } : Jvm.MethodName) ({ cls := "KindNets", name := "wipe", desc := "()I" } : Jvm.MethodName)) ∈ lw_all := lw_g (lw_at lw_m1 173 rfl) rfl
theorem q229 : (Jvm.Cond.code ({ cls := "KindNets", name := "wipe", desc := "()I" } : Jvm.MethodName) prog_1_method_4_code (2 : Nat) (Option.some Jvm.ClassFile.FieldType.int)) ∈ lw_all := lw_g (lw_at lw_m1 174 rfl) rfl
theorem q231 : (Jvm.Cond.instanceMethod ({ cls := "KindNets", name := "fault", desc := "()I" } : Jvm.MethodName)) ∈ lw_all := lw_g (lw_at lw_m1 176 rfl) rfl
theorem q232 : (Jvm.Cond.selects "KindNets" ({ cls := "KindNets", name := "fault", desc := "()I" } : Jvm.MethodName) ({ cls := "KindNets", name := "fault", desc := "()I" } : Jvm.MethodName)) ∈ lw_all := lw_g (lw_at lw_m1 177 rfl) rfl
theorem q233 : (Jvm.Cond.code ({ cls := "KindNets", name := "fault", desc := "()I" } : Jvm.MethodName) prog_1_method_5_code (1 : Nat) (Option.some Jvm.ClassFile.FieldType.int)) ∈ lw_all := lw_g (lw_at lw_m1 178 rfl) rfl
theorem q234 : (Jvm.Cond.methodLink "KindNets" (80 : Nat) ({ cls := "KindNets$Reader", name := "fault", desc := "([CI)I" } : Jvm.MethodName)) ∈ lw_all := lw_g (lw_at lw_m1 179 rfl) rfl
theorem q278 : (Jvm.Cond.instanceMethod ({ cls := "KindNets", name := "take", desc := "()I" } : Jvm.MethodName)) ∈ lw_all := lw_g (lw_at lw_m1 223 rfl) rfl
theorem q279 : (Jvm.Cond.selects "KindNets" ({ cls := "KindNets", name := "take", desc := "()I" } : Jvm.MethodName) ({ cls := "KindNets", name := "take", desc := "()I" } : Jvm.MethodName)) ∈ lw_all := lw_g (lw_at lw_m1 224 rfl) rfl
theorem q280 : (Jvm.Cond.code ({ cls := "KindNets", name := "take", desc := "()I" } : Jvm.MethodName) prog_1_method_6_code (5 : Nat) (Option.some Jvm.ClassFile.FieldType.int)) ∈ lw_all := lw_g (lw_at lw_m1 225 rfl) rfl
theorem q281 : (Jvm.Cond.methodLink "KindNets" (84 : Nat) ({ cls := "KindNets", name := "fault", desc := "()I" } : Jvm.MethodName)) ∈ lw_all := lw_g (lw_at lw_m1 226 rfl) rfl
theorem q282 : (Jvm.Cond.methodLink "KindNets" (87 : Nat) ({ cls := "KindNets$Reader", name := "isWhole", desc := "()Z" } : Jvm.MethodName)) ∈ lw_all := lw_g (lw_at lw_m1 227 rfl) rfl
theorem q290 : (Jvm.Cond.methodLink "KindNets" (91 : Nat) ({ cls := "KindNets$Reader", name := "own", desc := "()I" } : Jvm.MethodName)) ∈ lw_all := lw_g (lw_at lw_m1 235 rfl) rfl
theorem q294 : (Jvm.Cond.methodLinkNest "KindNets" (105 : Nat) ({ cls := "KindNets$Reader", name := "isName", desc := "(I)Z" } : Jvm.MethodName) "KindNets") ∈ lw_tbl := lw_at lw_m1 239 rfl
theorem q295 : (Jvm.Cond.methodLink "KindNets" (109 : Nat) ({ cls := "KindNets$Kind", name := "open", desc := "(I)V" } : Jvm.MethodName)) ∈ lw_all := lw_g (lw_at lw_m2 0 rfl) rfl
theorem q296 : (Jvm.Cond.methodLink "KindNets" (116 : Nat) ({ cls := "KindNets", name := "nodeOf", desc := "(I)I" } : Jvm.MethodName)) ∈ lw_all := lw_g (lw_at lw_m2 1 rfl) rfl
theorem q297 : (Jvm.Cond.privateMethod ({ cls := "KindNets", name := "nodeOf", desc := "(I)I" } : Jvm.MethodName)) ∈ lw_tbl := lw_at lw_m2 2 rfl
theorem q298 : (Jvm.Cond.instanceMethod ({ cls := "KindNets", name := "nodeOf", desc := "(I)I" } : Jvm.MethodName)) ∈ lw_all := lw_g (lw_at lw_m2 3 rfl) rfl
theorem q299 : (Jvm.Cond.code ({ cls := "KindNets", name := "nodeOf", desc := "(I)I" } : Jvm.MethodName) prog_1_method_7_code (3 : Nat) (Option.some Jvm.ClassFile.FieldType.int)) ∈ lw_all := lw_g (lw_at lw_m2 4 rfl) rfl
theorem q300 : (Jvm.Cond.methodLink "KindNets" (123 : Nat) ({ cls := "KindNets$Reader", name := "rootOf", desc := "(I)I" } : Jvm.MethodName)) ∈ lw_all := lw_g (lw_at lw_m2 5 rfl) rfl
theorem q302 : (Jvm.Cond.instanceMethod ({ cls := "KindNets", name := "name", desc := "(I)I" } : Jvm.MethodName)) ∈ lw_all := lw_g (lw_at lw_m2 7 rfl) rfl
theorem q303 : (Jvm.Cond.selects "KindNets" ({ cls := "KindNets", name := "name", desc := "(I)I" } : Jvm.MethodName) ({ cls := "KindNets", name := "name", desc := "(I)I" } : Jvm.MethodName)) ∈ lw_all := lw_g (lw_at lw_m2 8 rfl) rfl
theorem q304 : (Jvm.Cond.code ({ cls := "KindNets", name := "name", desc := "(I)I" } : Jvm.MethodName) prog_1_method_8_code (2 : Nat) (Option.some Jvm.ClassFile.FieldType.int)) ∈ lw_all := lw_g (lw_at lw_m2 9 rfl) rfl
theorem q305 : (Jvm.Cond.constantLong "KindNets" (130 : Nat) (7 : Int64)) ∈ lw_all := lw_g (lw_at lw_m2 10 rfl) rfl
theorem q307 : (Jvm.Cond.instanceMethod ({ cls := "KindNets", name := "node", desc := "(II)I" } : Jvm.MethodName)) ∈ lw_all := lw_g (lw_at lw_m2 12 rfl) rfl
theorem q308 : (Jvm.Cond.selects "KindNets" ({ cls := "KindNets", name := "node", desc := "(II)I" } : Jvm.MethodName) ({ cls := "KindNets", name := "node", desc := "(II)I" } : Jvm.MethodName)) ∈ lw_all := lw_g (lw_at lw_m2 13 rfl) rfl
theorem q309 : (Jvm.Cond.code ({ cls := "KindNets", name := "node", desc := "(II)I" } : Jvm.MethodName) prog_1_method_10_code (3 : Nat) (Option.some Jvm.ClassFile.FieldType.int)) ∈ lw_all := lw_g (lw_at lw_m2 14 rfl) rfl
theorem q310 : (Jvm.Cond.methodLink "KindNets" (132 : Nat) ({ cls := "KindNets", name := "isNode", desc := "(I)Z" } : Jvm.MethodName)) ∈ lw_all := lw_g (lw_at lw_m2 15 rfl) rfl
theorem q311 : (Jvm.Cond.privateMethod ({ cls := "KindNets", name := "isNode", desc := "(I)Z" } : Jvm.MethodName)) ∈ lw_tbl := lw_at lw_m2 16 rfl
theorem q312 : (Jvm.Cond.instanceMethod ({ cls := "KindNets", name := "isNode", desc := "(I)Z" } : Jvm.MethodName)) ∈ lw_all := lw_g (lw_at lw_m2 17 rfl) rfl
theorem q313 : (Jvm.Cond.code ({ cls := "KindNets", name := "isNode", desc := "(I)Z" } : Jvm.MethodName) prog_1_method_9_code (2 : Nat) (Option.some Jvm.ClassFile.FieldType.boolean)) ∈ lw_all := lw_g (lw_at lw_m2 18 rfl) rfl
theorem q314 : (Jvm.Cond.constantLong "KindNets" (135 : Nat) (-1 : Int64)) ∈ lw_all := lw_g (lw_at lw_m2 19 rfl) rfl
theorem q315 : (Jvm.Cond.constantLong "KindNets" (137 : Nat) (8 : Int64)) ∈ lw_all := lw_g (lw_at lw_m2 20 rfl) rfl
theorem q316 : (Jvm.Cond.methodLink "KindNets" (139 : Nat) ({ cls := "KindNets$Kind", name := "many", desc := "()I" } : Jvm.MethodName)) ∈ lw_all := lw_g (lw_at lw_m2 21 rfl) rfl
theorem q325 : (Jvm.Cond.instanceMethod ({ cls := "KindNets", name := "may", desc := "(II)I" } : Jvm.MethodName)) ∈ lw_all := lw_g (lw_at lw_m2 30 rfl) rfl
theorem q326 : (Jvm.Cond.selects "KindNets" ({ cls := "KindNets", name := "may", desc := "(II)I" } : Jvm.MethodName) ({ cls := "KindNets", name := "may", desc := "(II)I" } : Jvm.MethodName)) ∈ lw_all := lw_g (lw_at lw_m2 31 rfl) rfl
theorem q327 : (Jvm.Cond.code ({ cls := "KindNets", name := "may", desc := "(II)I" } : Jvm.MethodName) prog_1_method_16_code (3 : Nat) (Option.some Jvm.ClassFile.FieldType.int)) ∈ lw_all := lw_g (lw_at lw_m2 32 rfl) rfl
theorem q328 : (Jvm.Cond.methodLink "KindNets" (166 : Nat) ({ cls := "KindNets", name := "stands", desc := "(II)Z" } : Jvm.MethodName)) ∈ lw_all := lw_g (lw_at lw_m2 33 rfl) rfl
theorem q329 : (Jvm.Cond.privateMethod ({ cls := "KindNets", name := "stands", desc := "(II)Z" } : Jvm.MethodName)) ∈ lw_tbl := lw_at lw_m2 34 rfl
theorem q330 : (Jvm.Cond.instanceMethod ({ cls := "KindNets", name := "stands", desc := "(II)Z" } : Jvm.MethodName)) ∈ lw_all := lw_g (lw_at lw_m2 35 rfl) rfl
theorem q331 : (Jvm.Cond.code ({ cls := "KindNets", name := "stands", desc := "(II)Z" } : Jvm.MethodName) prog_1_method_15_code (3 : Nat) (Option.some Jvm.ClassFile.FieldType.boolean)) ∈ lw_all := lw_g (lw_at lw_m2 36 rfl) rfl
theorem q332 : (Jvm.Cond.methodLink "KindNets" (163 : Nat) ({ cls := "KindNets", name := "findFalls", desc := "()V" } : Jvm.MethodName)) ∈ lw_all := lw_g (lw_at lw_m2 37 rfl) rfl
theorem q333 : (Jvm.Cond.privateMethod ({ cls := "KindNets", name := "findFalls", desc := "()V" } : Jvm.MethodName)) ∈ lw_tbl := lw_at lw_m2 38 rfl
theorem q334 : (Jvm.Cond.instanceMethod ({ cls := "KindNets", name := "findFalls", desc := "()V" } : Jvm.MethodName)) ∈ lw_all := lw_g (lw_at lw_m2 39 rfl) rfl
theorem q335 : (Jvm.Cond.code ({ cls := "KindNets", name := "findFalls", desc := "()V" } : Jvm.MethodName) prog_1_method_14_code (5 : Nat) (Option.none : Option Jvm.ClassFile.FieldType)) ∈ lw_all := lw_g (lw_at lw_m2 40 rfl) rfl
theorem q336 : (Jvm.Cond.methodLink "KindNets" (155 : Nat) ({ cls := "KindNets", name := "isUnlike", desc := "(LKindNets$Kind;LKindNets$Kind;)Z" } : Jvm.MethodName)) ∈ lw_all := lw_g (lw_at lw_m2 41 rfl) rfl
theorem q337 : (Jvm.Cond.privateMethod ({ cls := "KindNets", name := "isUnlike", desc := "(LKindNets$Kind;LKindNets$Kind;)Z" } : Jvm.MethodName)) ∈ lw_tbl := lw_at lw_m2 42 rfl
theorem q338 : (Jvm.Cond.instanceMethod ({ cls := "KindNets", name := "isUnlike", desc := "(LKindNets$Kind;LKindNets$Kind;)Z" } : Jvm.MethodName)) ∈ lw_all := lw_g (lw_at lw_m2 43 rfl) rfl
theorem q339 : (Jvm.Cond.code ({ cls := "KindNets", name := "isUnlike", desc := "(LKindNets$Kind;LKindNets$Kind;)Z" } : Jvm.MethodName) prog_1_method_11_code (3 : Nat) (Option.some Jvm.ClassFile.FieldType.boolean)) ∈ lw_all := lw_g (lw_at lw_m2 44 rfl) rfl
theorem q340 : (Jvm.Cond.methodLink "KindNets" (141 : Nat) ({ cls := "KindNets$Kind", name := "covers", desc := "(LKindNets$Kind;)Z" } : Jvm.MethodName)) ∈ lw_all := lw_g (lw_at lw_m2 45 rfl) rfl
theorem q344 : (Jvm.Cond.methodLink "KindNets" (159 : Nat) ({ cls := "KindNets", name := "falls", desc := "(III)Z" } : Jvm.MethodName)) ∈ lw_all := lw_g (lw_at lw_m2 49 rfl) rfl
theorem q345 : (Jvm.Cond.privateMethod ({ cls := "KindNets", name := "falls", desc := "(III)Z" } : Jvm.MethodName)) ∈ lw_tbl := lw_at lw_m2 50 rfl
theorem q346 : (Jvm.Cond.instanceMethod ({ cls := "KindNets", name := "falls", desc := "(III)Z" } : Jvm.MethodName)) ∈ lw_all := lw_g (lw_at lw_m2 51 rfl) rfl
theorem q347 : (Jvm.Cond.code ({ cls := "KindNets", name := "falls", desc := "(III)Z" } : Jvm.MethodName) prog_1_method_13_code (6 : Nat) (Option.some Jvm.ClassFile.FieldType.boolean)) ∈ lw_all := lw_g (lw_at lw_m2 52 rfl) rfl
theorem q348 : (Jvm.Cond.methodLink "KindNets" (151 : Nat) ({ cls := "KindNets", name := "stepTo", desc := "(III)I" } : Jvm.MethodName)) ∈ lw_all := lw_g (lw_at lw_m2 53 rfl) rfl
theorem q349 : (Jvm.Cond.privateMethod ({ cls := "KindNets", name := "stepTo", desc := "(III)I" } : Jvm.MethodName)) ∈ lw_tbl := lw_at lw_m2 54 rfl
theorem q350 : (Jvm.Cond.instanceMethod ({ cls := "KindNets", name := "stepTo", desc := "(III)I" } : Jvm.MethodName)) ∈ lw_all := lw_g (lw_at lw_m2 55 rfl) rfl
theorem q351 : (Jvm.Cond.code ({ cls := "KindNets", name := "stepTo", desc := "(III)I" } : Jvm.MethodName) prog_1_method_12_code (6 : Nat) (Option.some Jvm.ClassFile.FieldType.int)) ∈ lw_all := lw_g (lw_at lw_m2 56 rfl) rfl
theorem q352 : (Jvm.Cond.methodLink "KindNets" (145 : Nat) ({ cls := "KindNets$Kind", name := "isNamed", desc := "()Z" } : Jvm.MethodName)) ∈ lw_all := lw_g (lw_at lw_m2 57 rfl) rfl
theorem q353 : (Jvm.Cond.methodLink "KindNets" (148 : Nat) ({ cls := "KindNets$Kind", name := "has", desc := "(I)Z" } : Jvm.MethodName)) ∈ lw_all := lw_g (lw_at lw_m2 58 rfl) rfl
theorem q355 : (Jvm.Cond.instanceMethod ({ cls := "KindNets", name := "way", desc := "(III)I" } : Jvm.MethodName)) ∈ lw_all := lw_g (lw_at lw_m2 60 rfl) rfl
theorem q356 : (Jvm.Cond.selects "KindNets" ({ cls := "KindNets", name := "way", desc := "(III)I" } : Jvm.MethodName) ({ cls := "KindNets", name := "way", desc := "(III)I" } : Jvm.MethodName)) ∈ lw_all := lw_g (lw_at lw_m2 61 rfl) rfl
theorem q357 : (Jvm.Cond.code ({ cls := "KindNets", name := "way", desc := "(III)I" } : Jvm.MethodName) prog_1_method_18_code (6 : Nat) (Option.some Jvm.ClassFile.FieldType.int)) ∈ lw_all := lw_g (lw_at lw_m2 62 rfl) rfl
theorem q358 : (Jvm.Cond.methodLink "KindNets" (170 : Nat) ({ cls := "KindNets", name := "stepDown", desc := "(II)I" } : Jvm.MethodName)) ∈ lw_all := lw_g (lw_at lw_m2 63 rfl) rfl
theorem q359 : (Jvm.Cond.privateMethod ({ cls := "KindNets", name := "stepDown", desc := "(II)I" } : Jvm.MethodName)) ∈ lw_tbl := lw_at lw_m2 64 rfl
theorem q360 : (Jvm.Cond.instanceMethod ({ cls := "KindNets", name := "stepDown", desc := "(II)I" } : Jvm.MethodName)) ∈ lw_all := lw_g (lw_at lw_m2 65 rfl) rfl
theorem q361 : (Jvm.Cond.code ({ cls := "KindNets", name := "stepDown", desc := "(II)I" } : Jvm.MethodName) prog_1_method_17_code (5 : Nat) (Option.some Jvm.ClassFile.FieldType.int)) ∈ lw_all := lw_g (lw_at lw_m2 66 rfl) rfl
theorem q363 : (Jvm.Cond.instanceMethod ({ cls := "KindNets", name := "end", desc := "(II)I" } : Jvm.MethodName)) ∈ lw_all := lw_g (lw_at lw_m2 68 rfl) rfl
theorem q364 : (Jvm.Cond.selects "KindNets" ({ cls := "KindNets", name := "end", desc := "(II)I" } : Jvm.MethodName) ({ cls := "KindNets", name := "end", desc := "(II)I" } : Jvm.MethodName)) ∈ lw_all := lw_g (lw_at lw_m2 69 rfl) rfl
theorem q365 : (Jvm.Cond.code ({ cls := "KindNets", name := "end", desc := "(II)I" } : Jvm.MethodName) prog_1_method_19_code (4 : Nat) (Option.some Jvm.ClassFile.FieldType.int)) ∈ lw_all := lw_g (lw_at lw_m2 70 rfl) rfl
theorem q367 : (Jvm.Cond.instanceMethod ({ cls := "KindNets", name := "alike", desc := "(II)I" } : Jvm.MethodName)) ∈ lw_all := lw_g (lw_at lw_m2 72 rfl) rfl
theorem q368 : (Jvm.Cond.selects "KindNets" ({ cls := "KindNets", name := "alike", desc := "(II)I" } : Jvm.MethodName) ({ cls := "KindNets", name := "alike", desc := "(II)I" } : Jvm.MethodName)) ∈ lw_all := lw_g (lw_at lw_m2 73 rfl) rfl
theorem q369 : (Jvm.Cond.code ({ cls := "KindNets", name := "alike", desc := "(II)I" } : Jvm.MethodName) prog_1_method_21_code (3 : Nat) (Option.some Jvm.ClassFile.FieldType.int)) ∈ lw_all := lw_g (lw_at lw_m2 74 rfl) rfl
theorem q370 : (Jvm.Cond.methodLink "KindNets" (174 : Nat) ({ cls := "KindNets", name := "areAlike", desc := "(II)Z" } : Jvm.MethodName)) ∈ lw_all := lw_g (lw_at lw_m2 75 rfl) rfl
theorem q371 : (Jvm.Cond.privateMethod ({ cls := "KindNets", name := "areAlike", desc := "(II)Z" } : Jvm.MethodName)) ∈ lw_tbl := lw_at lw_m2 76 rfl
theorem q372 : (Jvm.Cond.instanceMethod ({ cls := "KindNets", name := "areAlike", desc := "(II)Z" } : Jvm.MethodName)) ∈ lw_all := lw_g (lw_at lw_m2 77 rfl) rfl
theorem q373 : (Jvm.Cond.code ({ cls := "KindNets", name := "areAlike", desc := "(II)Z" } : Jvm.MethodName) prog_1_method_20_code (3 : Nat) (Option.some Jvm.ClassFile.FieldType.boolean)) ∈ lw_all := lw_g (lw_at lw_m2 78 rfl) rfl
theorem q375 : (Jvm.Cond.instanceMethod ({ cls := "KindNets", name := "pieces", desc := "(I)I" } : Jvm.MethodName)) ∈ lw_all := lw_g (lw_at lw_m2 80 rfl) rfl
theorem q376 : (Jvm.Cond.selects "KindNets" ({ cls := "KindNets", name := "pieces", desc := "(I)I" } : Jvm.MethodName) ({ cls := "KindNets", name := "pieces", desc := "(I)I" } : Jvm.MethodName)) ∈ lw_all := lw_g (lw_at lw_m2 81 rfl) rfl
theorem q377 : (Jvm.Cond.code ({ cls := "KindNets", name := "pieces", desc := "(I)I" } : Jvm.MethodName) prog_1_method_23_code (6 : Nat) (Option.some Jvm.ClassFile.FieldType.int)) ∈ lw_all := lw_g (lw_at lw_m2 82 rfl) rfl
theorem q378 : (Jvm.Cond.methodLink "KindNets" (177 : Nat) ({ cls := "KindNets", name := "hold", desc := "(I)V" } : Jvm.MethodName)) ∈ lw_all := lw_g (lw_at lw_m2 83 rfl) rfl
theorem q379 : (Jvm.Cond.privateMethod ({ cls := "KindNets", name := "hold", desc := "(I)V" } : Jvm.MethodName)) ∈ lw_tbl := lw_at lw_m2 84 rfl
theorem q380 : (Jvm.Cond.instanceMethod ({ cls := "KindNets", name := "hold", desc := "(I)V" } : Jvm.MethodName)) ∈ lw_all := lw_g (lw_at lw_m2 85 rfl) rfl
theorem q381 : (Jvm.Cond.code ({ cls := "KindNets", name := "hold", desc := "(I)V" } : Jvm.MethodName) prog_1_method_22_code (3 : Nat) (Option.none : Option Jvm.ClassFile.FieldType)) ∈ lw_all := lw_g (lw_at lw_m2 86 rfl) rfl
theorem q383 : (Jvm.Cond.instanceMethod ({ cls := "KindNets", name := "join", desc := "(III)I" } : Jvm.MethodName)) ∈ lw_all := lw_g (lw_at lw_m2 88 rfl) rfl
theorem q384 : (Jvm.Cond.selects "KindNets" ({ cls := "KindNets", name := "join", desc := "(III)I" } : Jvm.MethodName) ({ cls := "KindNets", name := "join", desc := "(III)I" } : Jvm.MethodName)) ∈ lw_all := lw_g (lw_at lw_m2 89 rfl) rfl
theorem q385 : (Jvm.Cond.code ({ cls := "KindNets", name := "join", desc := "(III)I" } : Jvm.MethodName) prog_1_method_26_code (5 : Nat) (Option.some Jvm.ClassFile.FieldType.int)) ∈ lw_all := lw_g (lw_at lw_m2 90 rfl) rfl
theorem q386 : (Jvm.Cond.methodLink "KindNets" (190 : Nat) ({ cls := "KindNets", name := "find", desc := "(IIZ)I" } : Jvm.MethodName)) ∈ lw_all := lw_g (lw_at lw_m2 91 rfl) rfl
theorem q387 : (Jvm.Cond.privateMethod ({ cls := "KindNets", name := "find", desc := "(IIZ)I" } : Jvm.MethodName)) ∈ lw_tbl := lw_at lw_m2 92 rfl
theorem q388 : (Jvm.Cond.instanceMethod ({ cls := "KindNets", name := "find", desc := "(IIZ)I" } : Jvm.MethodName)) ∈ lw_all := lw_g (lw_at lw_m2 93 rfl) rfl
theorem q389 : (Jvm.Cond.code ({ cls := "KindNets", name := "find", desc := "(IIZ)I" } : Jvm.MethodName) prog_1_method_24_code (8 : Nat) (Option.some Jvm.ClassFile.FieldType.int)) ∈ lw_all := lw_g (lw_at lw_m2 94 rfl) rfl
theorem q390 : (Jvm.Cond.methodLink "KindNets" (186 : Nat) ({ cls := "KindNets", name := "lay", desc := "(LKindNets$Kind;IIZ)V" } : Jvm.MethodName)) ∈ lw_all := lw_g (lw_at lw_m2 95 rfl) rfl
theorem q391 : (Jvm.Cond.privateMethod ({ cls := "KindNets", name := "lay", desc := "(LKindNets$Kind;IIZ)V" } : Jvm.MethodName)) ∈ lw_tbl := lw_at lw_m2 96 rfl
theorem q392 : (Jvm.Cond.instanceMethod ({ cls := "KindNets", name := "lay", desc := "(LKindNets$Kind;IIZ)V" } : Jvm.MethodName)) ∈ lw_all := lw_g (lw_at lw_m2 97 rfl) rfl
theorem q393 : (Jvm.Cond.code ({ cls := "KindNets", name := "lay", desc := "(LKindNets$Kind;IIZ)V" } : Jvm.MethodName) prog_1_method_25_code (9 : Nat) (Option.none : Option Jvm.ClassFile.FieldType)) ∈ lw_all := lw_g (lw_at lw_m2 98 rfl) rfl
theorem q395 : (Jvm.Cond.instanceMethod ({ cls := "KindNets", name := "slip", desc := "()I" } : Jvm.MethodName)) ∈ lw_all := lw_g (lw_at lw_m2 100 rfl) rfl
theorem q396 : (Jvm.Cond.selects "KindNets" ({ cls := "KindNets", name := "slip", desc := "()I" } : Jvm.MethodName) ({ cls := "KindNets", name := "slip", desc := "()I" } : Jvm.MethodName)) ∈ lw_all := lw_g (lw_at lw_m2 101 rfl) rfl
theorem q397 : (Jvm.Cond.code ({ cls := "KindNets", name := "slip", desc := "()I" } : Jvm.MethodName) prog_1_method_27_code (1 : Nat) (Option.some Jvm.ClassFile.FieldType.int)) ∈ lw_all := lw_g (lw_at lw_m2 102 rfl) rfl
theorem q398 : (Jvm.Cond.methodLink "KindNets" (194 : Nat) ({ cls := "KindNets$Values", name := "fault", desc := "([CI)I" } : Jvm.MethodName)) ∈ lw_all := lw_g (lw_at lw_m2 103 rfl) rfl
theorem q434 : (Jvm.Cond.instanceMethod ({ cls := "KindNets", name := "fits", desc := "(I)I" } : Jvm.MethodName)) ∈ lw_all := lw_g (lw_at lw_m2 139 rfl) rfl
theorem q435 : (Jvm.Cond.selects "KindNets" ({ cls := "KindNets", name := "fits", desc := "(I)I" } : Jvm.MethodName) ({ cls := "KindNets", name := "fits", desc := "(I)I" } : Jvm.MethodName)) ∈ lw_all := lw_g (lw_at lw_m2 140 rfl) rfl
theorem q436 : (Jvm.Cond.code ({ cls := "KindNets", name := "fits", desc := "(I)I" } : Jvm.MethodName) prog_1_method_32_code (6 : Nat) (Option.some Jvm.ClassFile.FieldType.int)) ∈ lw_all := lw_g (lw_at lw_m2 141 rfl) rfl
theorem q437 : (Jvm.Cond.methodLink "KindNets" (211 : Nat) ({ cls := "KindNets", name := "slip", desc := "()I" } : Jvm.MethodName)) ∈ lw_all := lw_g (lw_at lw_m2 142 rfl) rfl
theorem q438 : (Jvm.Cond.methodLink "KindNets" (214 : Nat) ({ cls := "KindNets", name := "mustBe", desc := "(II)I" } : Jvm.MethodName)) ∈ lw_all := lw_g (lw_at lw_m2 143 rfl) rfl
theorem q439 : (Jvm.Cond.privateMethod ({ cls := "KindNets", name := "mustBe", desc := "(II)I" } : Jvm.MethodName)) ∈ lw_tbl := lw_at lw_m2 144 rfl
theorem q440 : (Jvm.Cond.instanceMethod ({ cls := "KindNets", name := "mustBe", desc := "(II)I" } : Jvm.MethodName)) ∈ lw_all := lw_g (lw_at lw_m2 145 rfl) rfl
theorem q441 : (Jvm.Cond.code ({ cls := "KindNets", name := "mustBe", desc := "(II)I" } : Jvm.MethodName) prog_1_method_29_code (5 : Nat) (Option.some Jvm.ClassFile.FieldType.int)) ∈ lw_all := lw_g (lw_at lw_m2 146 rfl) rfl
theorem q442 : (Jvm.Cond.methodLink "KindNets" (217 : Nat) ({ cls := "KindNets", name := "isOf", desc := "(LKindNets$Kind;I)Z" } : Jvm.MethodName)) ∈ lw_all := lw_g (lw_at lw_m2 147 rfl) rfl
theorem q443 : (Jvm.Cond.privateMethod ({ cls := "KindNets", name := "isOf", desc := "(LKindNets$Kind;I)Z" } : Jvm.MethodName)) ∈ lw_tbl := lw_at lw_m2 148 rfl
theorem q444 : (Jvm.Cond.instanceMethod ({ cls := "KindNets", name := "isOf", desc := "(LKindNets$Kind;I)Z" } : Jvm.MethodName)) ∈ lw_all := lw_g (lw_at lw_m2 149 rfl) rfl
theorem q445 : (Jvm.Cond.code ({ cls := "KindNets", name := "isOf", desc := "(LKindNets$Kind;I)Z" } : Jvm.MethodName) prog_1_method_28_code (4 : Nat) (Option.some Jvm.ClassFile.FieldType.boolean)) ∈ lw_all := lw_g (lw_at lw_m2 150 rfl) rfl
theorem q446 : (Jvm.Cond.methodLink "KindNets" (221 : Nat) ({ cls := "KindNets", name := "lackOf", desc := "(I)I" } : Jvm.MethodName)) ∈ lw_all := lw_g (lw_at lw_m2 151 rfl) rfl
theorem q447 : (Jvm.Cond.privateMethod ({ cls := "KindNets", name := "lackOf", desc := "(I)I" } : Jvm.MethodName)) ∈ lw_tbl := lw_at lw_m2 152 rfl
theorem q448 : (Jvm.Cond.instanceMethod ({ cls := "KindNets", name := "lackOf", desc := "(I)I" } : Jvm.MethodName)) ∈ lw_all := lw_g (lw_at lw_m2 153 rfl) rfl
theorem q449 : (Jvm.Cond.code ({ cls := "KindNets", name := "lackOf", desc := "(I)I" } : Jvm.MethodName) prog_1_method_30_code (4 : Nat) (Option.some Jvm.ClassFile.FieldType.int)) ∈ lw_all := lw_g (lw_at lw_m2 154 rfl) rfl
theorem q450 : (Jvm.Cond.methodLink "KindNets" (208 : Nat) ({ cls := "KindNets", name := "endOf", desc := "(I)I" } : Jvm.MethodName)) ∈ lw_all := lw_g (lw_at lw_m2 155 rfl) rfl
theorem q451 : (Jvm.Cond.privateMethod ({ cls := "KindNets", name := "endOf", desc := "(I)I" } : Jvm.MethodName)) ∈ lw_tbl := lw_at lw_m2 156 rfl
theorem q452 : (Jvm.Cond.instanceMethod ({ cls := "KindNets", name := "endOf", desc := "(I)I" } : Jvm.MethodName)) ∈ lw_all := lw_g (lw_at lw_m2 157 rfl) rfl
theorem q453 : (Jvm.Cond.code ({ cls := "KindNets", name := "endOf", desc := "(I)I" } : Jvm.MethodName) prog_1_method_31_code (5 : Nat) (Option.some Jvm.ClassFile.FieldType.int)) ∈ lw_all := lw_g (lw_at lw_m2 158 rfl) rfl
theorem q455 : (Jvm.Cond.instanceMethod ({ cls := "KindNets", name := "size", desc := "()I" } : Jvm.MethodName)) ∈ lw_all := lw_g (lw_at lw_m2 160 rfl) rfl
theorem q456 : (Jvm.Cond.selects "KindNets" ({ cls := "KindNets", name := "size", desc := "()I" } : Jvm.MethodName) ({ cls := "KindNets", name := "size", desc := "()I" } : Jvm.MethodName)) ∈ lw_all := lw_g (lw_at lw_m2 161 rfl) rfl
theorem q457 : (Jvm.Cond.code ({ cls := "KindNets", name := "size", desc := "()I" } : Jvm.MethodName) prog_1_method_33_code (1 : Nat) (Option.some Jvm.ClassFile.FieldType.int)) ∈ lw_all := lw_g (lw_at lw_m2 162 rfl) rfl
theorem q459 : (Jvm.Cond.instanceMethod ({ cls := "KindNets", name := "count", desc := "(II)I" } : Jvm.MethodName)) ∈ lw_all := lw_g (lw_at lw_m2 164 rfl) rfl
theorem q460 : (Jvm.Cond.selects "KindNets" ({ cls := "KindNets", name := "count", desc := "(II)I" } : Jvm.MethodName) ({ cls := "KindNets", name := "count", desc := "(II)I" } : Jvm.MethodName)) ∈ lw_all := lw_g (lw_at lw_m2 165 rfl) rfl
theorem q461 : (Jvm.Cond.code ({ cls := "KindNets", name := "count", desc := "(II)I" } : Jvm.MethodName) prog_1_method_38_code (5 : Nat) (Option.some Jvm.ClassFile.FieldType.int)) ∈ lw_all := lw_g (lw_at lw_m2 166 rfl) rfl
theorem q462 : (Jvm.Cond.constantLong "KindNets" (249 : Nat) (12 : Int64)) ∈ lw_all := lw_g (lw_at lw_m2 167 rfl) rfl
theorem q463 : (Jvm.Cond.methodLink "KindNets" (251 : Nat) ({ cls := "KindNets", name := "countOf", desc := "(LKindNets$Kind;I)J" } : Jvm.MethodName)) ∈ lw_all := lw_g (lw_at lw_m2 168 rfl) rfl
theorem q464 : (Jvm.Cond.privateMethod ({ cls := "KindNets", name := "countOf", desc := "(LKindNets$Kind;I)J" } : Jvm.MethodName)) ∈ lw_tbl := lw_at lw_m2 169 rfl
theorem q465 : (Jvm.Cond.instanceMethod ({ cls := "KindNets", name := "countOf", desc := "(LKindNets$Kind;I)J" } : Jvm.MethodName)) ∈ lw_all := lw_g (lw_at lw_m2 170 rfl) rfl
theorem q466 : (Jvm.Cond.code ({ cls := "KindNets", name := "countOf", desc := "(LKindNets$Kind;I)J" } : Jvm.MethodName) prog_1_method_37_code (6 : Nat) (Option.some Jvm.ClassFile.FieldType.long)) ∈ lw_all := lw_g (lw_at lw_m2 171 rfl) rfl
theorem q467 : (Jvm.Cond.constantLong "KindNets" (235 : Nat) (10 : Int64)) ∈ lw_all := lw_g (lw_at lw_m2 172 rfl) rfl
theorem q468 : (Jvm.Cond.constantLong "KindNets" (237 : Nat) (2 : Int64)) ∈ lw_all := lw_g (lw_at lw_m2 173 rfl) rfl
theorem q469 : (Jvm.Cond.constantLong "KindNets" (239 : Nat) (26 : Int64)) ∈ lw_all := lw_g (lw_at lw_m2 174 rfl) rfl
theorem q470 : (Jvm.Cond.methodLink "KindNets" (241 : Nat) ({ cls := "KindNets", name := "recordsOf", desc := "(LKindNets$Kind;I)J" } : Jvm.MethodName)) ∈ lw_all := lw_g (lw_at lw_m2 175 rfl) rfl
theorem q471 : (Jvm.Cond.privateMethod ({ cls := "KindNets", name := "recordsOf", desc := "(LKindNets$Kind;I)J" } : Jvm.MethodName)) ∈ lw_tbl := lw_at lw_m2 176 rfl
theorem q472 : (Jvm.Cond.instanceMethod ({ cls := "KindNets", name := "recordsOf", desc := "(LKindNets$Kind;I)J" } : Jvm.MethodName)) ∈ lw_all := lw_g (lw_at lw_m2 177 rfl) rfl
theorem q473 : (Jvm.Cond.code ({ cls := "KindNets", name := "recordsOf", desc := "(LKindNets$Kind;I)J" } : Jvm.MethodName) prog_1_method_36_code (8 : Nat) (Option.some Jvm.ClassFile.FieldType.long)) ∈ lw_all := lw_g (lw_at lw_m2 178 rfl) rfl
theorem q474 : (Jvm.Cond.methodLink "KindNets" (232 : Nat) ({ cls := "KindNets", name := "held", desc := "(J)J" } : Jvm.MethodName)) ∈ lw_all := lw_g (lw_at lw_m2 179 rfl) rfl
theorem q475 : (Jvm.Cond.static ({ cls := "KindNets", name := "held", desc := "(J)J" } : Jvm.MethodName)) ∈ lw_all := lw_g (lw_at lw_m2 180 rfl) rfl
theorem q476 : (Jvm.Cond.code ({ cls := "KindNets", name := "held", desc := "(J)J" } : Jvm.MethodName) prog_1_method_34_code (2 : Nat) (Option.some Jvm.ClassFile.FieldType.long)) ∈ lw_all := lw_g (lw_at lw_m2 181 rfl) rfl
theorem q477 : (Jvm.Cond.constantLong "KindNets" (224 : Nat) (1000000000 : Int64)) ∈ lw_all := lw_g (lw_at lw_m2 182 rfl) rfl
theorem q478 : (Jvm.Cond.methodLink "KindNets" (226 : Nat) ({ cls := "java/lang/Math", name := "min", desc := "(JJ)J" } : Jvm.MethodName)) ∈ lw_all := lw_g (lw_at lw_m2 183 rfl) rfl
theorem q481 : (Jvm.Cond.methodLink "KindNets" (245 : Nat) ({ cls := "KindNets", name := "listsOf", desc := "(II)J" } : Jvm.MethodName)) ∈ lw_all := lw_g (lw_at lw_m2 186 rfl) rfl
theorem q482 : (Jvm.Cond.privateMethod ({ cls := "KindNets", name := "listsOf", desc := "(II)J" } : Jvm.MethodName)) ∈ lw_tbl := lw_at lw_m2 187 rfl
theorem q483 : (Jvm.Cond.instanceMethod ({ cls := "KindNets", name := "listsOf", desc := "(II)J" } : Jvm.MethodName)) ∈ lw_all := lw_g (lw_at lw_m2 188 rfl) rfl
theorem q484 : (Jvm.Cond.code ({ cls := "KindNets", name := "listsOf", desc := "(II)J" } : Jvm.MethodName) prog_1_method_35_code (7 : Nat) (Option.some Jvm.ClassFile.FieldType.long)) ∈ lw_all := lw_g (lw_at lw_m2 189 rfl) rfl
theorem q486 : (Jvm.Cond.instanceMethod ({ cls := "KindNets", name := "least", desc := "(I)I" } : Jvm.MethodName)) ∈ lw_all := lw_g (lw_at lw_m2 191 rfl) rfl
theorem q487 : (Jvm.Cond.selects "KindNets" ({ cls := "KindNets", name := "least", desc := "(I)I" } : Jvm.MethodName) ({ cls := "KindNets", name := "least", desc := "(I)I" } : Jvm.MethodName)) ∈ lw_all := lw_g (lw_at lw_m2 192 rfl) rfl
theorem q488 : (Jvm.Cond.code ({ cls := "KindNets", name := "least", desc := "(I)I" } : Jvm.MethodName) prog_1_method_41_code (2 : Nat) (Option.some Jvm.ClassFile.FieldType.int)) ∈ lw_all := lw_g (lw_at lw_m2 193 rfl) rfl
theorem q489 : (Jvm.Cond.methodLink "KindNets" (260 : Nat) ({ cls := "KindNets", name := "findLeasts", desc := "()V" } : Jvm.MethodName)) ∈ lw_all := lw_g (lw_at lw_m2 194 rfl) rfl
theorem q490 : (Jvm.Cond.privateMethod ({ cls := "KindNets", name := "findLeasts", desc := "()V" } : Jvm.MethodName)) ∈ lw_tbl := lw_at lw_m2 195 rfl
theorem q491 : (Jvm.Cond.instanceMethod ({ cls := "KindNets", name := "findLeasts", desc := "()V" } : Jvm.MethodName)) ∈ lw_all := lw_g (lw_at lw_m2 196 rfl) rfl
theorem q492 : (Jvm.Cond.code ({ cls := "KindNets", name := "findLeasts", desc := "()V" } : Jvm.MethodName) prog_1_method_40_code (4 : Nat) (Option.none : Option Jvm.ClassFile.FieldType)) ∈ lw_all := lw_g (lw_at lw_m2 197 rfl) rfl
theorem q493 : (Jvm.Cond.methodLink "KindNets" (256 : Nat) ({ cls := "KindNets", name := "leastOf", desc := "(LKindNets$Kind;)I" } : Jvm.MethodName)) ∈ lw_all := lw_g (lw_at lw_m2 198 rfl) rfl
theorem q494 : (Jvm.Cond.privateMethod ({ cls := "KindNets", name := "leastOf", desc := "(LKindNets$Kind;)I" } : Jvm.MethodName)) ∈ lw_tbl := lw_at lw_m2 199 rfl
theorem q495 : (Jvm.Cond.instanceMethod ({ cls := "KindNets", name := "leastOf", desc := "(LKindNets$Kind;)I" } : Jvm.MethodName)) ∈ lw_all := lw_g (lw_at lw_m2 200 rfl) rfl
theorem q496 : (Jvm.Cond.code ({ cls := "KindNets", name := "leastOf", desc := "(LKindNets$Kind;)I" } : Jvm.MethodName) prog_1_method_39_code (5 : Nat) (Option.some Jvm.ClassFile.FieldType.int)) ∈ lw_all := lw_g (lw_at lw_m2 201 rfl) rfl
theorem q497 : (Jvm.Cond.methodLink "KindNets" (254 : Nat) ({ cls := "java/lang/Math", name := "min", desc := "(II)I" } : Jvm.MethodName)) ∈ lw_all := lw_g (lw_at lw_m2 202 rfl) rfl
theorem q501 : (Jvm.Cond.instanceMethod ({ cls := "KindNets", name := "told", desc := "(I)I" } : Jvm.MethodName)) ∈ lw_all := lw_g (lw_at lw_m2 206 rfl) rfl
theorem q502 : (Jvm.Cond.selects "KindNets" ({ cls := "KindNets", name := "told", desc := "(I)I" } : Jvm.MethodName) ({ cls := "KindNets", name := "told", desc := "(I)I" } : Jvm.MethodName)) ∈ lw_all := lw_g (lw_at lw_m2 207 rfl) rfl
theorem q503 : (Jvm.Cond.code ({ cls := "KindNets", name := "told", desc := "(I)I" } : Jvm.MethodName) prog_1_method_42_code (6 : Nat) (Option.some Jvm.ClassFile.FieldType.int)) ∈ lw_all := lw_g (lw_at lw_m2 208 rfl) rfl
theorem in_X0 : ∀ w ∈ wsX00, w ∈ lw_all := lw_in wsX00 [179, 181, 183, 185, 187, 189, 191, 193, 195, 197, 199, 201, 203, 205, 207, 209, 211, 213] (by decide +kernel) (by decide +kernel)
