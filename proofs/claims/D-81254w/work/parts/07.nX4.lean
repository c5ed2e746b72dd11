/-! KindNetsModel -/
set_option maxRecDepth 100000
def RX4 : String := "KindNetsModel"
def TX4 : u_T := fun k => match k with
  | 0 => ("KindNetsModel", "signs", "I", false)
  | 1 => ("KindNetsModel", "pad", "[I", true)
  | 2 => ("KindNetsModel", "nodes", "I", false)
  | 3 => ("KindNetsModel", "sign", "[I", true)
  | 4 => ("KindNetsModel", "part", "[I", true)
  | 5 => ("KindNetsModel", "named", "[I", true)
  | 6 => ("KindNetsModel", "read", "I", false)
  | 7 => ("KindNetsModel", "readSign", "[I", true)
  | 8 => ("KindNetsModel", "readPart", "[I", true)
  | 9 => ("KindNetsModel", "readName", "[I", true)
  | 10 => ("KindNetsModel", "deep", "I", false)
  | 11 => ("KindNetsModel", "open", "[I", true)
  | 12 => ("KindNetsModel", "need", "[I", true)
  | 13 => ("KindNetsModel", "last", "[I", true)
  | 14 => ("KindNetsModel", "owner", "I", false)
  | 15 => ("KindNetsModel", "isLaid", "Z", false)
  | 16 => ("KindNetsModel", "may", "[Z", true)
  | 17 => ("KindNetsModel", "down", "[I", true)
  | 18 => ("KindNetsModel", "endPair", "I", false)
  | 19 => ("KindNetsModel", "held", "[Z", true)
  | 20 => ("KindNetsModel", "made", "[I", true)
  | 21 => ("KindNetsModel", "waits", "I", false)
  | 22 => ("KindNetsModel", "waitFor", "[I", true)
  | 23 => ("KindNetsModel", "waitAt", "[I", true)
  | 24 => ("KindNetsModel", "values", "I", false)
  | 25 => ("KindNetsModel", "pile", "[I", true)
  | 26 => ("KindNetsModel", "pileLast", "[I", true)
  | 27 => ("KindNetsModel", "piled", "I", false)
  | 28 => ("KindNetsModel", "must", "[I", true)
  | 29 => ("KindNetsModel", "letters", "[I", true)
  | 30 => ("KindNetsModel", "count", "[J", true)
  | 31 => ("KindNetsModel", "row", "[J", true)
  | 32 => ("KindNetsModel", "other", "[J", true)
  | _ => ("KindNetsModel", "leastOf", "[I", true)
def tyX4 : Nat → FieldType := fun k => match k with
  | 0 => .int
  | 1 => .array .int
  | 2 => .int
  | 3 => .array .int
  | 4 => .array .int
  | 5 => .array .int
  | 6 => .int
  | 7 => .array .int
  | 8 => .array .int
  | 9 => .array .int
  | 10 => .int
  | 11 => .array .int
  | 12 => .array .int
  | 13 => .array .int
  | 14 => .int
  | 15 => .boolean
  | 16 => .array .boolean
  | 17 => .array .int
  | 18 => .int
  | 19 => .array .boolean
  | 20 => .array .int
  | 21 => .int
  | 22 => .array .int
  | 23 => .array .int
  | 24 => .int
  | 25 => .array .int
  | 26 => .array .int
  | 27 => .int
  | 28 => .array .int
  | 29 => .array .int
  | 30 => .array .long
  | 31 => .array .long
  | 32 => .array .long
  | _ => .array .int
abbrev wsX40 : List Cond := u_ws RX4 TX4 34
set_option maxRecDepth 100000 in
theorem nmX4 : ∀ a, a < 34 → ∀ b, b < 34 → a ≠ b → (TX4 a).2.1 ≠ (TX4 b).2.1 := by decide +kernel
set_option maxRecDepth 100000 in
theorem tyX4_ok : ∀ k, k < 34 → parseFieldDescriptor (TX4 k).2.2.1 = some (tyX4 k) := by decide +kernel
abbrev cX4_init : ByteArray := prog_6_method_1_code
def yX4_init : MethodName := ⟨RX4, "<init>", "()V"⟩
def dkwX4_init_9 : List UInt8 := [42, 180, 0, 19, 27, 16, 250, 79, 132, 1, 1, 167, 255, 239, 177]
abbrev dktX4_init_9 : List UInt8 := dkwX4_init_9 ++ []
def dkwX4_init_8 : List UInt8 := [42, 16, 13, 188, 11, 181, 0, 78, 42, 16, 60, 188, 10, 181, 0, 81, 3, 60, 27, 16, 8, 162, 0, 17]
abbrev dktX4_init_8 : List UInt8 := dkwX4_init_8 ++ dktX4_init_9
def dkwX4_init_7 : List UInt8 := [16, 101, 188, 10, 181, 0, 68, 42, 17, 3, 12, 188, 11, 181, 0, 71, 42, 16, 13, 188, 11, 181, 0, 75]
abbrev dktX4_init_7 : List UInt8 := dkwX4_init_7 ++ dktX4_init_8
def dkwX4_init_6 : List UInt8 := [16, 101, 188, 10, 181, 0, 59, 42, 16, 101, 188, 10, 181, 0, 62, 42, 16, 101, 188, 10, 181, 0, 65, 42]
abbrev dktX4_init_6 : List UInt8 := dkwX4_init_6 ++ dktX4_init_7
def dkwX4_init_5 : List UInt8 := [188, 10, 181, 0, 50, 42, 17, 2, 88, 188, 10, 181, 0, 53, 42, 17, 2, 88, 188, 10, 181, 0, 56, 42]
abbrev dktX4_init_5 : List UInt8 := dkwX4_init_5 ++ dktX4_init_6
def dkwX4_init_4 : List UInt8 := [181, 0, 40, 42, 17, 14, 16, 188, 10, 181, 0, 44, 42, 16, 60, 188, 4, 181, 0, 47, 42, 17, 28, 32]
abbrev dktX4_init_4 : List UInt8 := dkwX4_init_4 ++ dktX4_init_5
def dkwX4_init_3 : List UInt8 := [42, 16, 16, 188, 10, 181, 0, 34, 42, 16, 16, 188, 10, 181, 0, 37, 42, 17, 14, 16, 188, 4]
abbrev dktX4_init_3 : List UInt8 := dkwX4_init_3 ++ dktX4_init_4
def dkwX4_init_2 : List UInt8 := [17, 3, 32, 188, 10, 181, 0, 25, 42, 16, 8, 188, 10, 181, 0, 28, 42, 16, 16, 188, 10, 181, 0, 31]
abbrev dktX4_init_2 : List UInt8 := dkwX4_init_2 ++ dktX4_init_3
def dkwX4_init_1 : List UInt8 := [188, 10, 181, 0, 16, 42, 16, 8, 188, 10, 181, 0, 19, 42, 16, 100, 188, 10, 181, 0, 22, 42]
abbrev dktX4_init_1 : List UInt8 := dkwX4_init_1 ++ dktX4_init_2
def dkwX4_init_0 : List UInt8 := [42, 183, 0, 1, 42, 16, 100, 188, 10, 181, 0, 7, 42, 16, 60, 188, 10, 181, 0, 13, 42, 17, 1, 224]
abbrev dktX4_init_0 : List UInt8 := dkwX4_init_0 ++ dktX4_init_1
theorem dksX4_init_0 : cX4_init.data.toList.drop 0 = dktX4_init_0 := by decide +kernel
theorem dksX4_init_1 : cX4_init.data.toList.drop 24 = dktX4_init_1 := dk_seg dksX4_init_0 24 rfl rfl
theorem dksX4_init_2 : cX4_init.data.toList.drop 46 = dktX4_init_2 := dk_seg dksX4_init_1 22 rfl rfl
theorem dksX4_init_3 : cX4_init.data.toList.drop 70 = dktX4_init_3 := dk_seg dksX4_init_2 24 rfl rfl
theorem dksX4_init_4 : cX4_init.data.toList.drop 92 = dktX4_init_4 := dk_seg dksX4_init_3 22 rfl rfl
theorem dksX4_init_5 : cX4_init.data.toList.drop 116 = dktX4_init_5 := dk_seg dksX4_init_4 24 rfl rfl
theorem dksX4_init_6 : cX4_init.data.toList.drop 140 = dktX4_init_6 := dk_seg dksX4_init_5 24 rfl rfl
theorem dksX4_init_7 : cX4_init.data.toList.drop 164 = dktX4_init_7 := dk_seg dksX4_init_6 24 rfl rfl
theorem dksX4_init_8 : cX4_init.data.toList.drop 188 = dktX4_init_8 := dk_seg dksX4_init_7 24 rfl rfl
theorem dksX4_init_9 : cX4_init.data.toList.drop 212 = dktX4_init_9 := dk_seg dksX4_init_8 24 rfl rfl
theorem dX4_init_0 : decode cX4_init 0 = .ok (.aload_n 0, 1) := dk_42 (dk_at dksX4_init_0 0 rfl rfl)
theorem dX4_init_1 : decode cX4_init 1 = .ok (.invokespecial 1, 3) := dk_183 0 1 (dk_at dksX4_init_0 1 rfl rfl)
theorem dX4_init_4 : decode cX4_init 4 = .ok (.aload_n 0, 1) := dk_42 (dk_at dksX4_init_0 4 rfl rfl)
theorem dX4_init_5 : decode cX4_init 5 = .ok (.bipush 100, 2) := dk_16 100 (dk_at dksX4_init_0 5 rfl rfl)
theorem dX4_init_7 : decode cX4_init 7 = .ok (.newarray .int, 2) := dk_188_10 (dk_at dksX4_init_0 7 rfl rfl)
theorem dX4_init_9 : decode cX4_init 9 = .ok (.putfield 7, 3) := dk_181 0 7 (dk_at dksX4_init_0 9 rfl rfl)
theorem dX4_init_12 : decode cX4_init 12 = .ok (.aload_n 0, 1) := dk_42 (dk_at dksX4_init_0 12 rfl rfl)
theorem dX4_init_13 : decode cX4_init 13 = .ok (.bipush 60, 2) := dk_16 60 (dk_at dksX4_init_0 13 rfl rfl)
theorem dX4_init_15 : decode cX4_init 15 = .ok (.newarray .int, 2) := dk_188_10 (dk_at dksX4_init_0 15 rfl rfl)
theorem dX4_init_17 : decode cX4_init 17 = .ok (.putfield 13, 3) := dk_181 0 13 (dk_at dksX4_init_0 17 rfl rfl)
theorem dX4_init_20 : decode cX4_init 20 = .ok (.aload_n 0, 1) := dk_42 (dk_at dksX4_init_0 20 rfl rfl)
theorem dX4_init_21 : decode cX4_init 21 = .ok (.sipush 480, 3) := dk_17 1 224 (dk_at dksX4_init_0 21 rfl rfl)
theorem dX4_init_24 : decode cX4_init 24 = .ok (.newarray .int, 2) := dk_188_10 (dk_at dksX4_init_1 0 rfl rfl)
theorem dX4_init_26 : decode cX4_init 26 = .ok (.putfield 16, 3) := dk_181 0 16 (dk_at dksX4_init_1 2 rfl rfl)
theorem dX4_init_29 : decode cX4_init 29 = .ok (.aload_n 0, 1) := dk_42 (dk_at dksX4_init_1 5 rfl rfl)
theorem dX4_init_30 : decode cX4_init 30 = .ok (.bipush 8, 2) := dk_16 8 (dk_at dksX4_init_1 6 rfl rfl)
theorem dX4_init_32 : decode cX4_init 32 = .ok (.newarray .int, 2) := dk_188_10 (dk_at dksX4_init_1 8 rfl rfl)
theorem dX4_init_34 : decode cX4_init 34 = .ok (.putfield 19, 3) := dk_181 0 19 (dk_at dksX4_init_1 10 rfl rfl)
theorem dX4_init_37 : decode cX4_init 37 = .ok (.aload_n 0, 1) := dk_42 (dk_at dksX4_init_1 13 rfl rfl)
theorem dX4_init_38 : decode cX4_init 38 = .ok (.bipush 100, 2) := dk_16 100 (dk_at dksX4_init_1 14 rfl rfl)
theorem dX4_init_40 : decode cX4_init 40 = .ok (.newarray .int, 2) := dk_188_10 (dk_at dksX4_init_1 16 rfl rfl)
theorem dX4_init_42 : decode cX4_init 42 = .ok (.putfield 22, 3) := dk_181 0 22 (dk_at dksX4_init_1 18 rfl rfl)
theorem dX4_init_45 : decode cX4_init 45 = .ok (.aload_n 0, 1) := dk_42 (dk_at dksX4_init_1 21 rfl rfl)
theorem dX4_init_46 : decode cX4_init 46 = .ok (.sipush 800, 3) := dk_17 3 32 (dk_at dksX4_init_2 0 rfl rfl)
theorem dX4_init_49 : decode cX4_init 49 = .ok (.newarray .int, 2) := dk_188_10 (dk_at dksX4_init_2 3 rfl rfl)
theorem dX4_init_51 : decode cX4_init 51 = .ok (.putfield 25, 3) := dk_181 0 25 (dk_at dksX4_init_2 5 rfl rfl)
theorem dX4_init_54 : decode cX4_init 54 = .ok (.aload_n 0, 1) := dk_42 (dk_at dksX4_init_2 8 rfl rfl)
theorem dX4_init_55 : decode cX4_init 55 = .ok (.bipush 8, 2) := dk_16 8 (dk_at dksX4_init_2 9 rfl rfl)
theorem dX4_init_57 : decode cX4_init 57 = .ok (.newarray .int, 2) := dk_188_10 (dk_at dksX4_init_2 11 rfl rfl)
theorem dX4_init_59 : decode cX4_init 59 = .ok (.putfield 28, 3) := dk_181 0 28 (dk_at dksX4_init_2 13 rfl rfl)
theorem dX4_init_62 : decode cX4_init 62 = .ok (.aload_n 0, 1) := dk_42 (dk_at dksX4_init_2 16 rfl rfl)
theorem dX4_init_63 : decode cX4_init 63 = .ok (.bipush 16, 2) := dk_16 16 (dk_at dksX4_init_2 17 rfl rfl)
theorem dX4_init_65 : decode cX4_init 65 = .ok (.newarray .int, 2) := dk_188_10 (dk_at dksX4_init_2 19 rfl rfl)
theorem dX4_init_67 : decode cX4_init 67 = .ok (.putfield 31, 3) := dk_181 0 31 (dk_at dksX4_init_2 21 rfl rfl)
theorem dX4_init_70 : decode cX4_init 70 = .ok (.aload_n 0, 1) := dk_42 (dk_at dksX4_init_3 0 rfl rfl)
theorem dX4_init_71 : decode cX4_init 71 = .ok (.bipush 16, 2) := dk_16 16 (dk_at dksX4_init_3 1 rfl rfl)
theorem dX4_init_73 : decode cX4_init 73 = .ok (.newarray .int, 2) := dk_188_10 (dk_at dksX4_init_3 3 rfl rfl)
theorem dX4_init_75 : decode cX4_init 75 = .ok (.putfield 34, 3) := dk_181 0 34 (dk_at dksX4_init_3 5 rfl rfl)
theorem dX4_init_78 : decode cX4_init 78 = .ok (.aload_n 0, 1) := dk_42 (dk_at dksX4_init_3 8 rfl rfl)
theorem dX4_init_79 : decode cX4_init 79 = .ok (.bipush 16, 2) := dk_16 16 (dk_at dksX4_init_3 9 rfl rfl)
theorem dX4_init_81 : decode cX4_init 81 = .ok (.newarray .int, 2) := dk_188_10 (dk_at dksX4_init_3 11 rfl rfl)
theorem dX4_init_83 : decode cX4_init 83 = .ok (.putfield 37, 3) := dk_181 0 37 (dk_at dksX4_init_3 13 rfl rfl)
theorem dX4_init_86 : decode cX4_init 86 = .ok (.aload_n 0, 1) := dk_42 (dk_at dksX4_init_3 16 rfl rfl)
theorem dX4_init_87 : decode cX4_init 87 = .ok (.sipush 3600, 3) := dk_17 14 16 (dk_at dksX4_init_3 17 rfl rfl)
theorem dX4_init_90 : decode cX4_init 90 = .ok (.newarray .boolean, 2) := dk_188_4 (dk_at dksX4_init_3 20 rfl rfl)
theorem dX4_init_92 : decode cX4_init 92 = .ok (.putfield 40, 3) := dk_181 0 40 (dk_at dksX4_init_4 0 rfl rfl)
theorem dX4_init_95 : decode cX4_init 95 = .ok (.aload_n 0, 1) := dk_42 (dk_at dksX4_init_4 3 rfl rfl)
theorem dX4_init_96 : decode cX4_init 96 = .ok (.sipush 3600, 3) := dk_17 14 16 (dk_at dksX4_init_4 4 rfl rfl)
theorem dX4_init_99 : decode cX4_init 99 = .ok (.newarray .int, 2) := dk_188_10 (dk_at dksX4_init_4 7 rfl rfl)
theorem dX4_init_101 : decode cX4_init 101 = .ok (.putfield 44, 3) := dk_181 0 44 (dk_at dksX4_init_4 9 rfl rfl)
theorem dX4_init_104 : decode cX4_init 104 = .ok (.aload_n 0, 1) := dk_42 (dk_at dksX4_init_4 12 rfl rfl)
theorem dX4_init_105 : decode cX4_init 105 = .ok (.bipush 60, 2) := dk_16 60 (dk_at dksX4_init_4 13 rfl rfl)
theorem dX4_init_107 : decode cX4_init 107 = .ok (.newarray .boolean, 2) := dk_188_4 (dk_at dksX4_init_4 15 rfl rfl)
theorem dX4_init_109 : decode cX4_init 109 = .ok (.putfield 47, 3) := dk_181 0 47 (dk_at dksX4_init_4 17 rfl rfl)
theorem dX4_init_112 : decode cX4_init 112 = .ok (.aload_n 0, 1) := dk_42 (dk_at dksX4_init_4 20 rfl rfl)
theorem dX4_init_113 : decode cX4_init 113 = .ok (.sipush 7200, 3) := dk_17 28 32 (dk_at dksX4_init_4 21 rfl rfl)
theorem dX4_init_116 : decode cX4_init 116 = .ok (.newarray .int, 2) := dk_188_10 (dk_at dksX4_init_5 0 rfl rfl)
theorem dX4_init_118 : decode cX4_init 118 = .ok (.putfield 50, 3) := dk_181 0 50 (dk_at dksX4_init_5 2 rfl rfl)
theorem dX4_init_121 : decode cX4_init 121 = .ok (.aload_n 0, 1) := dk_42 (dk_at dksX4_init_5 5 rfl rfl)
theorem dX4_init_122 : decode cX4_init 122 = .ok (.sipush 600, 3) := dk_17 2 88 (dk_at dksX4_init_5 6 rfl rfl)
theorem dX4_init_125 : decode cX4_init 125 = .ok (.newarray .int, 2) := dk_188_10 (dk_at dksX4_init_5 9 rfl rfl)
theorem dX4_init_127 : decode cX4_init 127 = .ok (.putfield 53, 3) := dk_181 0 53 (dk_at dksX4_init_5 11 rfl rfl)
theorem dX4_init_130 : decode cX4_init 130 = .ok (.aload_n 0, 1) := dk_42 (dk_at dksX4_init_5 14 rfl rfl)
theorem dX4_init_131 : decode cX4_init 131 = .ok (.sipush 600, 3) := dk_17 2 88 (dk_at dksX4_init_5 15 rfl rfl)
theorem dX4_init_134 : decode cX4_init 134 = .ok (.newarray .int, 2) := dk_188_10 (dk_at dksX4_init_5 18 rfl rfl)
theorem dX4_init_136 : decode cX4_init 136 = .ok (.putfield 56, 3) := dk_181 0 56 (dk_at dksX4_init_5 20 rfl rfl)
theorem dX4_init_139 : decode cX4_init 139 = .ok (.aload_n 0, 1) := dk_42 (dk_at dksX4_init_5 23 rfl rfl)
theorem dX4_init_140 : decode cX4_init 140 = .ok (.bipush 101, 2) := dk_16 101 (dk_at dksX4_init_6 0 rfl rfl)
theorem dX4_init_142 : decode cX4_init 142 = .ok (.newarray .int, 2) := dk_188_10 (dk_at dksX4_init_6 2 rfl rfl)
theorem dX4_init_144 : decode cX4_init 144 = .ok (.putfield 59, 3) := dk_181 0 59 (dk_at dksX4_init_6 4 rfl rfl)
theorem dX4_init_147 : decode cX4_init 147 = .ok (.aload_n 0, 1) := dk_42 (dk_at dksX4_init_6 7 rfl rfl)
theorem dX4_init_148 : decode cX4_init 148 = .ok (.bipush 101, 2) := dk_16 101 (dk_at dksX4_init_6 8 rfl rfl)
theorem dX4_init_150 : decode cX4_init 150 = .ok (.newarray .int, 2) := dk_188_10 (dk_at dksX4_init_6 10 rfl rfl)
theorem dX4_init_152 : decode cX4_init 152 = .ok (.putfield 62, 3) := dk_181 0 62 (dk_at dksX4_init_6 12 rfl rfl)
theorem dX4_init_155 : decode cX4_init 155 = .ok (.aload_n 0, 1) := dk_42 (dk_at dksX4_init_6 15 rfl rfl)
theorem dX4_init_156 : decode cX4_init 156 = .ok (.bipush 101, 2) := dk_16 101 (dk_at dksX4_init_6 16 rfl rfl)
theorem dX4_init_158 : decode cX4_init 158 = .ok (.newarray .int, 2) := dk_188_10 (dk_at dksX4_init_6 18 rfl rfl)
theorem dX4_init_160 : decode cX4_init 160 = .ok (.putfield 65, 3) := dk_181 0 65 (dk_at dksX4_init_6 20 rfl rfl)
theorem dX4_init_163 : decode cX4_init 163 = .ok (.aload_n 0, 1) := dk_42 (dk_at dksX4_init_6 23 rfl rfl)
theorem dX4_init_164 : decode cX4_init 164 = .ok (.bipush 101, 2) := dk_16 101 (dk_at dksX4_init_7 0 rfl rfl)
theorem dX4_init_166 : decode cX4_init 166 = .ok (.newarray .int, 2) := dk_188_10 (dk_at dksX4_init_7 2 rfl rfl)
theorem dX4_init_168 : decode cX4_init 168 = .ok (.putfield 68, 3) := dk_181 0 68 (dk_at dksX4_init_7 4 rfl rfl)
theorem dX4_init_171 : decode cX4_init 171 = .ok (.aload_n 0, 1) := dk_42 (dk_at dksX4_init_7 7 rfl rfl)
theorem dX4_init_172 : decode cX4_init 172 = .ok (.sipush 780, 3) := dk_17 3 12 (dk_at dksX4_init_7 8 rfl rfl)
theorem dX4_init_175 : decode cX4_init 175 = .ok (.newarray .long, 2) := dk_188_11 (dk_at dksX4_init_7 11 rfl rfl)
theorem dX4_init_177 : decode cX4_init 177 = .ok (.putfield 71, 3) := dk_181 0 71 (dk_at dksX4_init_7 13 rfl rfl)
theorem dX4_init_180 : decode cX4_init 180 = .ok (.aload_n 0, 1) := dk_42 (dk_at dksX4_init_7 16 rfl rfl)
theorem dX4_init_181 : decode cX4_init 181 = .ok (.bipush 13, 2) := dk_16 13 (dk_at dksX4_init_7 17 rfl rfl)
theorem dX4_init_183 : decode cX4_init 183 = .ok (.newarray .long, 2) := dk_188_11 (dk_at dksX4_init_7 19 rfl rfl)
theorem dX4_init_185 : decode cX4_init 185 = .ok (.putfield 75, 3) := dk_181 0 75 (dk_at dksX4_init_7 21 rfl rfl)
theorem dX4_init_188 : decode cX4_init 188 = .ok (.aload_n 0, 1) := dk_42 (dk_at dksX4_init_8 0 rfl rfl)
theorem dX4_init_189 : decode cX4_init 189 = .ok (.bipush 13, 2) := dk_16 13 (dk_at dksX4_init_8 1 rfl rfl)
theorem dX4_init_191 : decode cX4_init 191 = .ok (.newarray .long, 2) := dk_188_11 (dk_at dksX4_init_8 3 rfl rfl)
theorem dX4_init_193 : decode cX4_init 193 = .ok (.putfield 78, 3) := dk_181 0 78 (dk_at dksX4_init_8 5 rfl rfl)
theorem dX4_init_196 : decode cX4_init 196 = .ok (.aload_n 0, 1) := dk_42 (dk_at dksX4_init_8 8 rfl rfl)
theorem dX4_init_197 : decode cX4_init 197 = .ok (.bipush 60, 2) := dk_16 60 (dk_at dksX4_init_8 9 rfl rfl)
theorem dX4_init_199 : decode cX4_init 199 = .ok (.newarray .int, 2) := dk_188_10 (dk_at dksX4_init_8 11 rfl rfl)
theorem dX4_init_201 : decode cX4_init 201 = .ok (.putfield 81, 3) := dk_181 0 81 (dk_at dksX4_init_8 13 rfl rfl)
theorem dX4_init_204 : decode cX4_init 204 = .ok (.iconst 0, 1) := dk_3 (dk_at dksX4_init_8 16 rfl rfl)
theorem dX4_init_205 : decode cX4_init 205 = .ok (.istore_n 1, 1) := dk_60 (dk_at dksX4_init_8 17 rfl rfl)
theorem dX4_init_206 : decode cX4_init 206 = .ok (.iload_n 1, 1) := dk_27 (dk_at dksX4_init_8 18 rfl rfl)
theorem dX4_init_207 : decode cX4_init 207 = .ok (.bipush 8, 2) := dk_16 8 (dk_at dksX4_init_8 19 rfl rfl)
theorem dX4_init_209 : decode cX4_init 209 = .ok (.if_icmp .ge 17, 3) := dk_162 0 17 (dk_at dksX4_init_8 21 rfl rfl)
theorem dX4_init_212 : decode cX4_init 212 = .ok (.aload_n 0, 1) := dk_42 (dk_at dksX4_init_9 0 rfl rfl)
theorem dX4_init_213 : decode cX4_init 213 = .ok (.getfield 19, 3) := dk_180 0 19 (dk_at dksX4_init_9 1 rfl rfl)
theorem dX4_init_216 : decode cX4_init 216 = .ok (.iload_n 1, 1) := dk_27 (dk_at dksX4_init_9 4 rfl rfl)
theorem dX4_init_217 : decode cX4_init 217 = .ok (.bipush (-6), 2) := dk_16 250 (dk_at dksX4_init_9 5 rfl rfl)
theorem dX4_init_219 : decode cX4_init 219 = .ok (.iastore, 1) := dk_79 (dk_at dksX4_init_9 7 rfl rfl)
theorem dX4_init_220 : decode cX4_init 220 = .ok (.iinc 1 1, 3) := dk_132 1 1 (dk_at dksX4_init_9 8 rfl rfl)
theorem dX4_init_223 : decode cX4_init 223 = .ok (.goto (-17), 3) := dk_167 255 239 (dk_at dksX4_init_9 11 rfl rfl)
theorem dX4_init_226 : decode cX4_init 226 = .ok (.return_, 1) := dk_177 (dk_at dksX4_init_9 14 rfl rfl)
abbrev cX4_say : ByteArray := prog_6_method_3_code
def yX4_say : MethodName := ⟨RX4, "say", "(I)I"⟩
def dkwX4_say_2 : List UInt8 := [180, 0, 88, 172]
abbrev dktX4_say_2 : List UInt8 := dkwX4_say_2 ++ []
def dkwX4_say_1 : List UInt8 := [16, 252, 172, 42, 180, 0, 7, 42, 180, 0, 88, 27, 79, 42, 89, 180, 0, 88, 4, 96, 181, 0, 88, 42]
abbrev dktX4_say_1 : List UInt8 := dkwX4_say_1 ++ dktX4_say_2
def dkwX4_say_0 : List UInt8 := [27, 16, 33, 16, 126, 184, 0, 84, 154, 0, 6, 16, 254, 172, 42, 180, 0, 88, 16, 100, 160, 0, 6]
abbrev dktX4_say_0 : List UInt8 := dkwX4_say_0 ++ dktX4_say_1
theorem dksX4_say_0 : cX4_say.data.toList.drop 0 = dktX4_say_0 := by decide +kernel
theorem dksX4_say_1 : cX4_say.data.toList.drop 23 = dktX4_say_1 := dk_seg dksX4_say_0 23 rfl rfl
theorem dksX4_say_2 : cX4_say.data.toList.drop 47 = dktX4_say_2 := dk_seg dksX4_say_1 24 rfl rfl
theorem dX4_say_0 : decode cX4_say 0 = .ok (.iload_n 1, 1) := dk_27 (dk_at dksX4_say_0 0 rfl rfl)
theorem dX4_say_1 : decode cX4_say 1 = .ok (.bipush 33, 2) := dk_16 33 (dk_at dksX4_say_0 1 rfl rfl)
theorem dX4_say_3 : decode cX4_say 3 = .ok (.bipush 126, 2) := dk_16 126 (dk_at dksX4_say_0 3 rfl rfl)
theorem dX4_say_5 : decode cX4_say 5 = .ok (.invokestatic 84, 3) := dk_184 0 84 (dk_at dksX4_say_0 5 rfl rfl)
theorem dX4_say_8 : decode cX4_say 8 = .ok (.ifCond .ne 6, 3) := dk_154 0 6 (dk_at dksX4_say_0 8 rfl rfl)
theorem dX4_say_11 : decode cX4_say 11 = .ok (.bipush (-2), 2) := dk_16 254 (dk_at dksX4_say_0 11 rfl rfl)
theorem dX4_say_13 : decode cX4_say 13 = .ok (.ireturn, 1) := dk_172 (dk_at dksX4_say_0 13 rfl rfl)
theorem dX4_say_14 : decode cX4_say 14 = .ok (.aload_n 0, 1) := dk_42 (dk_at dksX4_say_0 14 rfl rfl)
theorem dX4_say_15 : decode cX4_say 15 = .ok (.getfield 88, 3) := dk_180 0 88 (dk_at dksX4_say_0 15 rfl rfl)
theorem dX4_say_18 : decode cX4_say 18 = .ok (.bipush 100, 2) := dk_16 100 (dk_at dksX4_say_0 18 rfl rfl)
theorem dX4_say_20 : decode cX4_say 20 = .ok (.if_icmp .ne 6, 3) := dk_160 0 6 (dk_at dksX4_say_0 20 rfl rfl)
theorem dX4_say_23 : decode cX4_say 23 = .ok (.bipush (-4), 2) := dk_16 252 (dk_at dksX4_say_1 0 rfl rfl)
theorem dX4_say_25 : decode cX4_say 25 = .ok (.ireturn, 1) := dk_172 (dk_at dksX4_say_1 2 rfl rfl)
theorem dX4_say_26 : decode cX4_say 26 = .ok (.aload_n 0, 1) := dk_42 (dk_at dksX4_say_1 3 rfl rfl)
theorem dX4_say_27 : decode cX4_say 27 = .ok (.getfield 7, 3) := dk_180 0 7 (dk_at dksX4_say_1 4 rfl rfl)
theorem dX4_say_30 : decode cX4_say 30 = .ok (.aload_n 0, 1) := dk_42 (dk_at dksX4_say_1 7 rfl rfl)
theorem dX4_say_31 : decode cX4_say 31 = .ok (.getfield 88, 3) := dk_180 0 88 (dk_at dksX4_say_1 8 rfl rfl)
theorem dX4_say_34 : decode cX4_say 34 = .ok (.iload_n 1, 1) := dk_27 (dk_at dksX4_say_1 11 rfl rfl)
theorem dX4_say_35 : decode cX4_say 35 = .ok (.iastore, 1) := dk_79 (dk_at dksX4_say_1 12 rfl rfl)
theorem dX4_say_36 : decode cX4_say 36 = .ok (.aload_n 0, 1) := dk_42 (dk_at dksX4_say_1 13 rfl rfl)
theorem dX4_say_37 : decode cX4_say 37 = .ok (.dup, 1) := dk_89 (dk_at dksX4_say_1 14 rfl rfl)
theorem dX4_say_38 : decode cX4_say 38 = .ok (.getfield 88, 3) := dk_180 0 88 (dk_at dksX4_say_1 15 rfl rfl)
theorem dX4_say_41 : decode cX4_say 41 = .ok (.iconst 1, 1) := dk_4 (dk_at dksX4_say_1 18 rfl rfl)
theorem dX4_say_42 : decode cX4_say 42 = .ok (.iadd, 1) := dk_96 (dk_at dksX4_say_1 19 rfl rfl)
theorem dX4_say_43 : decode cX4_say 43 = .ok (.putfield 88, 3) := dk_181 0 88 (dk_at dksX4_say_1 20 rfl rfl)
theorem dX4_say_46 : decode cX4_say 46 = .ok (.aload_n 0, 1) := dk_42 (dk_at dksX4_say_1 23 rfl rfl)
theorem dX4_say_47 : decode cX4_say 47 = .ok (.getfield 88, 3) := dk_180 0 88 (dk_at dksX4_say_2 0 rfl rfl)
theorem dX4_say_50 : decode cX4_say 50 = .ok (.ireturn, 1) := dk_172 (dk_at dksX4_say_2 3 rfl rfl)
abbrev cX4_in : ByteArray := prog_6_method_2_code
def yX4_in : MethodName := ⟨RX4, "in", "(III)Z"⟩
def dkwX4_in_0 : List UInt8 := [26, 27, 161, 0, 12, 26, 28, 163, 0, 7, 4, 167, 0, 4, 3, 172]
abbrev dktX4_in_0 : List UInt8 := dkwX4_in_0 ++ []
theorem dksX4_in_0 : cX4_in.data.toList.drop 0 = dktX4_in_0 := by decide +kernel
theorem dX4_in_0 : decode cX4_in 0 = .ok (.iload_n 0, 1) := dk_26 (dk_at dksX4_in_0 0 rfl rfl)
theorem dX4_in_1 : decode cX4_in 1 = .ok (.iload_n 1, 1) := dk_27 (dk_at dksX4_in_0 1 rfl rfl)
theorem dX4_in_2 : decode cX4_in 2 = .ok (.if_icmp .lt 12, 3) := dk_161 0 12 (dk_at dksX4_in_0 2 rfl rfl)
theorem dX4_in_5 : decode cX4_in 5 = .ok (.iload_n 0, 1) := dk_26 (dk_at dksX4_in_0 5 rfl rfl)
theorem dX4_in_6 : decode cX4_in 6 = .ok (.iload_n 2, 1) := dk_28 (dk_at dksX4_in_0 6 rfl rfl)
theorem dX4_in_7 : decode cX4_in 7 = .ok (.if_icmp .gt 7, 3) := dk_163 0 7 (dk_at dksX4_in_0 7 rfl rfl)
theorem dX4_in_10 : decode cX4_in 10 = .ok (.iconst 1, 1) := dk_4 (dk_at dksX4_in_0 10 rfl rfl)
theorem dX4_in_11 : decode cX4_in 11 = .ok (.goto 4, 3) := dk_167 0 4 (dk_at dksX4_in_0 11 rfl rfl)
theorem dX4_in_14 : decode cX4_in 14 = .ok (.iconst 0, 1) := dk_3 (dk_at dksX4_in_0 14 rfl rfl)
theorem dX4_in_15 : decode cX4_in 15 = .ok (.ireturn, 1) := dk_172 (dk_at dksX4_in_0 15 rfl rfl)
abbrev cX4_wipe : ByteArray := prog_6_method_4_code
def yX4_wipe : MethodName := ⟨RX4, "wipe", "()I"⟩
def dkwX4_wipe_0 : List UInt8 := [42, 180, 0, 88, 60, 42, 3, 181, 0, 88, 27, 172]
abbrev dktX4_wipe_0 : List UInt8 := dkwX4_wipe_0 ++ []
theorem dksX4_wipe_0 : cX4_wipe.data.toList.drop 0 = dktX4_wipe_0 := by decide +kernel
theorem dX4_wipe_0 : decode cX4_wipe 0 = .ok (.aload_n 0, 1) := dk_42 (dk_at dksX4_wipe_0 0 rfl rfl)
theorem dX4_wipe_1 : decode cX4_wipe 1 = .ok (.getfield 88, 3) := dk_180 0 88 (dk_at dksX4_wipe_0 1 rfl rfl)
theorem dX4_wipe_4 : decode cX4_wipe 4 = .ok (.istore_n 1, 1) := dk_60 (dk_at dksX4_wipe_0 4 rfl rfl)
theorem dX4_wipe_5 : decode cX4_wipe 5 = .ok (.aload_n 0, 1) := dk_42 (dk_at dksX4_wipe_0 5 rfl rfl)
theorem dX4_wipe_6 : decode cX4_wipe 6 = .ok (.iconst 0, 1) := dk_3 (dk_at dksX4_wipe_0 6 rfl rfl)
theorem dX4_wipe_7 : decode cX4_wipe 7 = .ok (.putfield 88, 3) := dk_181 0 88 (dk_at dksX4_wipe_0 7 rfl rfl)
theorem dX4_wipe_10 : decode cX4_wipe 10 = .ok (.iload_n 1, 1) := dk_27 (dk_at dksX4_wipe_0 10 rfl rfl)
theorem dX4_wipe_11 : decode cX4_wipe 11 = .ok (.ireturn, 1) := dk_172 (dk_at dksX4_wipe_0 11 rfl rfl)
abbrev cX4_fault : ByteArray := prog_6_method_8_code
def yX4_fault : MethodName := ⟨RX4, "fault", "()I"⟩
theorem dX4_fault_0 : decode cX4_fault 0 = .ok (.aload_n 0, 1) := by decide +kernel
theorem dX4_fault_1 : decode cX4_fault 1 = .ok (.invokevirtual 109, 3) := by decide +kernel
theorem dX4_fault_4 : decode cX4_fault 4 = .ok (.ireturn, 1) := by decide +kernel
abbrev cX4_faultOf : ByteArray := prog_6_method_7_code
def yX4_faultOf : MethodName := ⟨RX4, "faultOf", "()I"⟩
def dkwX4_faultOf_25 : List UInt8 := [167, 0, 7, 42, 180, 0, 88, 172]
abbrev dktX4_faultOf_25 : List UInt8 := dkwX4_faultOf_25 ++ []
def dkwX4_faultOf_24 : List UInt8 := [167, 0, 4, 5, 54, 4, 21, 4, 60, 132, 2, 1, 167, 253, 234, 27, 7, 160, 0, 8, 16, 250]
abbrev dktX4_faultOf_24 : List UInt8 := dkwX4_faultOf_24 ++ dktX4_faultOf_25
def dkwX4_faultOf_23 : List UInt8 := [182, 0, 105, 54, 5, 21, 5, 5, 160, 0, 7, 7, 167, 0, 14, 21, 5, 4, 160, 0, 7, 6]
abbrev dktX4_faultOf_23 : List UInt8 := dkwX4_faultOf_23 ++ dktX4_faultOf_24
def dkwX4_faultOf_22 : List UInt8 := [3, 167, 0, 5, 16, 250, 54, 4, 21, 4, 156, 0, 5, 28, 172, 21, 4, 8, 160, 0, 32, 42]
abbrev dktX4_faultOf_22 : List UInt8 := dkwX4_faultOf_22 ++ dktX4_faultOf_23
def dkwX4_faultOf_21 : List UInt8 := [180, 0, 34, 21, 5, 3, 79, 8, 54, 4, 167, 0, 22, 27, 7, 160, 0, 17, 29, 16, 59, 160, 0, 7]
abbrev dktX4_faultOf_21 : List UInt8 := dkwX4_faultOf_21 ++ dktX4_faultOf_22
def dkwX4_faultOf_20 : List UInt8 := [54, 4, 167, 0, 30, 29, 21, 6, 153, 0, 8, 16, 125, 167, 0, 5, 16, 93, 160, 0, 14, 42]
abbrev dktX4_faultOf_20 : List UInt8 := dkwX4_faultOf_20 ++ dktX4_faultOf_21
def dkwX4_faultOf_19 : List UInt8 := [164, 0, 29, 42, 180, 0, 92, 16, 12, 163, 0, 20, 42, 180, 0, 37, 21, 5, 29, 16, 97, 100, 79, 5]
abbrev dktX4_faultOf_19 : List UInt8 := dkwX4_faultOf_19 ++ dktX4_faultOf_20
def dkwX4_faultOf_18 : List UInt8 := [29, 16, 97, 16, 104, 184, 0, 84, 153, 0, 43, 29, 16, 97, 100, 42, 180, 0, 37, 21, 5, 46]
abbrev dktX4_faultOf_18 : List UInt8 := dkwX4_faultOf_18 ++ dktX4_faultOf_19
def dkwX4_faultOf_17 : List UInt8 := [42, 180, 0, 22, 42, 180, 0, 31, 21, 5, 46, 46, 16, 123, 160, 0, 7, 4, 167, 0, 4, 3, 54, 6]
abbrev dktX4_faultOf_17 : List UInt8 := dkwX4_faultOf_17 ++ dktX4_faultOf_18
def dkwX4_faultOf_16 : List UInt8 := [180, 0, 92, 4, 96, 181, 0, 92, 167, 0, 140, 27, 6, 160, 0, 116, 42, 180, 0, 92, 4, 100, 54, 5]
abbrev dktX4_faultOf_16 : List UInt8 := dkwX4_faultOf_16 ++ dktX4_faultOf_17
def dkwX4_faultOf_15 : List UInt8 := [29, 16, 42, 160, 0, 7, 4, 167, 0, 4, 5, 79, 42, 180, 0, 37, 42, 180, 0, 92, 2, 79, 42, 89]
abbrev dktX4_faultOf_15 : List UInt8 := dkwX4_faultOf_15 ++ dktX4_faultOf_16
def dkwX4_faultOf_14 : List UInt8 := [180, 0, 92, 21, 8, 79, 42, 180, 0, 34, 42, 180, 0, 92, 21, 5, 153, 0, 8, 16, 100, 167, 0, 14]
abbrev dktX4_faultOf_14 : List UInt8 := dkwX4_faultOf_14 ++ dktX4_faultOf_15
def dkwX4_faultOf_13 : List UInt8 := [181, 0, 98, 42, 21, 8, 182, 0, 101, 8, 54, 4, 21, 6, 154, 0, 64, 42, 180, 0, 31, 42]
abbrev dktX4_faultOf_13 : List UInt8 := dkwX4_faultOf_13 ++ dktX4_faultOf_14
def dkwX4_faultOf_12 : List UInt8 := [21, 8, 104, 21, 9, 96, 16, 250, 79, 132, 9, 1, 167, 255, 231, 42, 89, 180, 0, 98, 4, 96]
abbrev dktX4_faultOf_12 : List UInt8 := dkwX4_faultOf_12 ++ dktX4_faultOf_13
def dkwX4_faultOf_11 : List UInt8 := [42, 180, 0, 22, 21, 8, 29, 79, 3, 54, 9, 21, 9, 16, 8, 162, 0, 24, 42, 180, 0, 25, 16, 8]
abbrev dktX4_faultOf_11 : List UInt8 := dkwX4_faultOf_11 ++ dktX4_faultOf_12
def dkwX4_faultOf_10 : List UInt8 := [167, 0, 148, 21, 5, 154, 0, 13, 21, 6, 154, 0, 8, 21, 7, 153, 0, 133, 42, 180, 0, 98, 54, 8]
abbrev dktX4_faultOf_10 : List UInt8 := dkwX4_faultOf_10 ++ dktX4_faultOf_11
def dkwX4_faultOf_9 : List UInt8 := [16, 72, 184, 0, 84, 153, 0, 20, 42, 16, 100, 29, 96, 16, 65, 100, 182, 0, 101, 8, 54, 4]
abbrev dktX4_faultOf_9 : List UInt8 := dkwX4_faultOf_9 ++ dktX4_faultOf_10
def dkwX4_faultOf_8 : List UInt8 := [16, 62, 160, 0, 16, 42, 180, 0, 92, 16, 12, 162, 0, 7, 4, 167, 0, 4, 3, 54, 7, 29, 16, 65]
abbrev dktX4_faultOf_8 : List UInt8 := dkwX4_faultOf_8 ++ dktX4_faultOf_9
def dkwX4_faultOf_7 : List UInt8 := [159, 0, 9, 29, 16, 33, 160, 0, 7, 4, 167, 0, 4, 3, 54, 6, 29, 16, 42, 159, 0, 9, 29]
abbrev dktX4_faultOf_7 : List UInt8 := dkwX4_faultOf_7 ++ dktX4_faultOf_8
def dkwX4_faultOf_6 : List UInt8 := [3, 54, 5, 29, 16, 110, 159, 0, 27, 29, 16, 116, 159, 0, 21, 29, 16, 115, 159, 0, 15, 29, 16, 46]
abbrev dktX4_faultOf_6 : List UInt8 := dkwX4_faultOf_6 ++ dktX4_faultOf_7
def dkwX4_faultOf_5 : List UInt8 := [167, 1, 149, 27, 5, 160, 1, 7, 29, 16, 123, 159, 0, 9, 29, 16, 91, 160, 0, 7, 4, 167, 0, 4]
abbrev dktX4_faultOf_5 : List UInt8 := dkwX4_faultOf_5 ++ dktX4_faultOf_6
def dkwX4_faultOf_4 : List UInt8 := [167, 1, 171, 27, 4, 160, 0, 20, 29, 16, 61, 160, 0, 7, 5, 167, 0, 5, 16, 250, 54, 4]
abbrev dktX4_faultOf_4 : List UInt8 := dkwX4_faultOf_4 ++ dktX4_faultOf_5
def dkwX4_faultOf_3 : List UInt8 := [180, 0, 28, 29, 16, 65, 100, 46, 16, 250, 160, 1, 185, 42, 29, 16, 65, 100, 181, 0, 95, 4, 54, 4]
abbrev dktX4_faultOf_3 : List UInt8 := dkwX4_faultOf_3 ++ dktX4_faultOf_4
def dkwX4_faultOf_2 : List UInt8 := [28, 46, 62, 16, 250, 54, 4, 27, 154, 0, 42, 29, 16, 65, 16, 72, 184, 0, 84, 153, 1, 199, 42]
abbrev dktX4_faultOf_2 : List UInt8 := dkwX4_faultOf_2 ++ dktX4_faultOf_3
def dkwX4_faultOf_1 : List UInt8 := [28, 16, 250, 79, 132, 2, 1, 167, 255, 239, 3, 61, 28, 42, 180, 0, 88, 162, 2, 20, 42, 180, 0, 7]
abbrev dktX4_faultOf_1 : List UInt8 := dkwX4_faultOf_1 ++ dktX4_faultOf_2
def dkwX4_faultOf_0 : List UInt8 := [3, 60, 42, 3, 181, 0, 98, 42, 3, 181, 0, 92, 3, 61, 28, 16, 8, 162, 0, 17, 42, 180, 0, 28]
abbrev dktX4_faultOf_0 : List UInt8 := dkwX4_faultOf_0 ++ dktX4_faultOf_1
theorem dksX4_faultOf_0 : cX4_faultOf.data.toList.drop 0 = dktX4_faultOf_0 := by decide +kernel
theorem dksX4_faultOf_1 : cX4_faultOf.data.toList.drop 24 = dktX4_faultOf_1 := dk_seg dksX4_faultOf_0 24 rfl rfl
theorem dksX4_faultOf_2 : cX4_faultOf.data.toList.drop 48 = dktX4_faultOf_2 := dk_seg dksX4_faultOf_1 24 rfl rfl
theorem dksX4_faultOf_3 : cX4_faultOf.data.toList.drop 71 = dktX4_faultOf_3 := dk_seg dksX4_faultOf_2 23 rfl rfl
theorem dksX4_faultOf_4 : cX4_faultOf.data.toList.drop 95 = dktX4_faultOf_4 := dk_seg dksX4_faultOf_3 24 rfl rfl
theorem dksX4_faultOf_5 : cX4_faultOf.data.toList.drop 117 = dktX4_faultOf_5 := dk_seg dksX4_faultOf_4 22 rfl rfl
theorem dksX4_faultOf_6 : cX4_faultOf.data.toList.drop 141 = dktX4_faultOf_6 := dk_seg dksX4_faultOf_5 24 rfl rfl
theorem dksX4_faultOf_7 : cX4_faultOf.data.toList.drop 165 = dktX4_faultOf_7 := dk_seg dksX4_faultOf_6 24 rfl rfl
theorem dksX4_faultOf_8 : cX4_faultOf.data.toList.drop 188 = dktX4_faultOf_8 := dk_seg dksX4_faultOf_7 23 rfl rfl
theorem dksX4_faultOf_9 : cX4_faultOf.data.toList.drop 212 = dktX4_faultOf_9 := dk_seg dksX4_faultOf_8 24 rfl rfl
theorem dksX4_faultOf_10 : cX4_faultOf.data.toList.drop 234 = dktX4_faultOf_10 := dk_seg dksX4_faultOf_9 22 rfl rfl
theorem dksX4_faultOf_11 : cX4_faultOf.data.toList.drop 258 = dktX4_faultOf_11 := dk_seg dksX4_faultOf_10 24 rfl rfl
theorem dksX4_faultOf_12 : cX4_faultOf.data.toList.drop 282 = dktX4_faultOf_12 := dk_seg dksX4_faultOf_11 24 rfl rfl
theorem dksX4_faultOf_13 : cX4_faultOf.data.toList.drop 304 = dktX4_faultOf_13 := dk_seg dksX4_faultOf_12 22 rfl rfl
theorem dksX4_faultOf_14 : cX4_faultOf.data.toList.drop 326 = dktX4_faultOf_14 := dk_seg dksX4_faultOf_13 22 rfl rfl
theorem dksX4_faultOf_15 : cX4_faultOf.data.toList.drop 350 = dktX4_faultOf_15 := dk_seg dksX4_faultOf_14 24 rfl rfl
theorem dksX4_faultOf_16 : cX4_faultOf.data.toList.drop 374 = dktX4_faultOf_16 := dk_seg dksX4_faultOf_15 24 rfl rfl
theorem dksX4_faultOf_17 : cX4_faultOf.data.toList.drop 398 = dktX4_faultOf_17 := dk_seg dksX4_faultOf_16 24 rfl rfl
theorem dksX4_faultOf_18 : cX4_faultOf.data.toList.drop 422 = dktX4_faultOf_18 := dk_seg dksX4_faultOf_17 24 rfl rfl
theorem dksX4_faultOf_19 : cX4_faultOf.data.toList.drop 444 = dktX4_faultOf_19 := dk_seg dksX4_faultOf_18 22 rfl rfl
theorem dksX4_faultOf_20 : cX4_faultOf.data.toList.drop 468 = dktX4_faultOf_20 := dk_seg dksX4_faultOf_19 24 rfl rfl
theorem dksX4_faultOf_21 : cX4_faultOf.data.toList.drop 490 = dktX4_faultOf_21 := dk_seg dksX4_faultOf_20 22 rfl rfl
theorem dksX4_faultOf_22 : cX4_faultOf.data.toList.drop 514 = dktX4_faultOf_22 := dk_seg dksX4_faultOf_21 24 rfl rfl
theorem dksX4_faultOf_23 : cX4_faultOf.data.toList.drop 536 = dktX4_faultOf_23 := dk_seg dksX4_faultOf_22 22 rfl rfl
theorem dksX4_faultOf_24 : cX4_faultOf.data.toList.drop 558 = dktX4_faultOf_24 := dk_seg dksX4_faultOf_23 22 rfl rfl
theorem dksX4_faultOf_25 : cX4_faultOf.data.toList.drop 580 = dktX4_faultOf_25 := dk_seg dksX4_faultOf_24 22 rfl rfl
theorem dX4_faultOf_0 : decode cX4_faultOf 0 = .ok (.iconst 0, 1) := dk_3 (dk_at dksX4_faultOf_0 0 rfl rfl)
theorem dX4_faultOf_1 : decode cX4_faultOf 1 = .ok (.istore_n 1, 1) := dk_60 (dk_at dksX4_faultOf_0 1 rfl rfl)
theorem dX4_faultOf_2 : decode cX4_faultOf 2 = .ok (.aload_n 0, 1) := dk_42 (dk_at dksX4_faultOf_0 2 rfl rfl)
theorem dX4_faultOf_3 : decode cX4_faultOf 3 = .ok (.iconst 0, 1) := dk_3 (dk_at dksX4_faultOf_0 3 rfl rfl)
theorem dX4_faultOf_4 : decode cX4_faultOf 4 = .ok (.putfield 98, 3) := dk_181 0 98 (dk_at dksX4_faultOf_0 4 rfl rfl)
theorem dX4_faultOf_7 : decode cX4_faultOf 7 = .ok (.aload_n 0, 1) := dk_42 (dk_at dksX4_faultOf_0 7 rfl rfl)
theorem dX4_faultOf_8 : decode cX4_faultOf 8 = .ok (.iconst 0, 1) := dk_3 (dk_at dksX4_faultOf_0 8 rfl rfl)
theorem dX4_faultOf_9 : decode cX4_faultOf 9 = .ok (.putfield 92, 3) := dk_181 0 92 (dk_at dksX4_faultOf_0 9 rfl rfl)
theorem dX4_faultOf_12 : decode cX4_faultOf 12 = .ok (.iconst 0, 1) := dk_3 (dk_at dksX4_faultOf_0 12 rfl rfl)
theorem dX4_faultOf_13 : decode cX4_faultOf 13 = .ok (.istore_n 2, 1) := dk_61 (dk_at dksX4_faultOf_0 13 rfl rfl)
theorem dX4_faultOf_14 : decode cX4_faultOf 14 = .ok (.iload_n 2, 1) := dk_28 (dk_at dksX4_faultOf_0 14 rfl rfl)
theorem dX4_faultOf_15 : decode cX4_faultOf 15 = .ok (.bipush 8, 2) := dk_16 8 (dk_at dksX4_faultOf_0 15 rfl rfl)
theorem dX4_faultOf_17 : decode cX4_faultOf 17 = .ok (.if_icmp .ge 17, 3) := dk_162 0 17 (dk_at dksX4_faultOf_0 17 rfl rfl)
theorem dX4_faultOf_20 : decode cX4_faultOf 20 = .ok (.aload_n 0, 1) := dk_42 (dk_at dksX4_faultOf_0 20 rfl rfl)
theorem dX4_faultOf_21 : decode cX4_faultOf 21 = .ok (.getfield 28, 3) := dk_180 0 28 (dk_at dksX4_faultOf_0 21 rfl rfl)
theorem dX4_faultOf_24 : decode cX4_faultOf 24 = .ok (.iload_n 2, 1) := dk_28 (dk_at dksX4_faultOf_1 0 rfl rfl)
theorem dX4_faultOf_25 : decode cX4_faultOf 25 = .ok (.bipush (-6), 2) := dk_16 250 (dk_at dksX4_faultOf_1 1 rfl rfl)
theorem dX4_faultOf_27 : decode cX4_faultOf 27 = .ok (.iastore, 1) := dk_79 (dk_at dksX4_faultOf_1 3 rfl rfl)
theorem dX4_faultOf_28 : decode cX4_faultOf 28 = .ok (.iinc 2 1, 3) := dk_132 2 1 (dk_at dksX4_faultOf_1 4 rfl rfl)
theorem dX4_faultOf_31 : decode cX4_faultOf 31 = .ok (.goto (-17), 3) := dk_167 255 239 (dk_at dksX4_faultOf_1 7 rfl rfl)
theorem dX4_faultOf_34 : decode cX4_faultOf 34 = .ok (.iconst 0, 1) := dk_3 (dk_at dksX4_faultOf_1 10 rfl rfl)
theorem dX4_faultOf_35 : decode cX4_faultOf 35 = .ok (.istore_n 2, 1) := dk_61 (dk_at dksX4_faultOf_1 11 rfl rfl)
theorem dX4_faultOf_36 : decode cX4_faultOf 36 = .ok (.iload_n 2, 1) := dk_28 (dk_at dksX4_faultOf_1 12 rfl rfl)
theorem dX4_faultOf_37 : decode cX4_faultOf 37 = .ok (.aload_n 0, 1) := dk_42 (dk_at dksX4_faultOf_1 13 rfl rfl)
theorem dX4_faultOf_38 : decode cX4_faultOf 38 = .ok (.getfield 88, 3) := dk_180 0 88 (dk_at dksX4_faultOf_1 14 rfl rfl)
theorem dX4_faultOf_41 : decode cX4_faultOf 41 = .ok (.if_icmp .ge 532, 3) := dk_162 2 20 (dk_at dksX4_faultOf_1 17 rfl rfl)
theorem dX4_faultOf_44 : decode cX4_faultOf 44 = .ok (.aload_n 0, 1) := dk_42 (dk_at dksX4_faultOf_1 20 rfl rfl)
theorem dX4_faultOf_45 : decode cX4_faultOf 45 = .ok (.getfield 7, 3) := dk_180 0 7 (dk_at dksX4_faultOf_1 21 rfl rfl)
theorem dX4_faultOf_48 : decode cX4_faultOf 48 = .ok (.iload_n 2, 1) := dk_28 (dk_at dksX4_faultOf_2 0 rfl rfl)
theorem dX4_faultOf_49 : decode cX4_faultOf 49 = .ok (.iaload, 1) := dk_46 (dk_at dksX4_faultOf_2 1 rfl rfl)
theorem dX4_faultOf_50 : decode cX4_faultOf 50 = .ok (.istore_n 3, 1) := dk_62 (dk_at dksX4_faultOf_2 2 rfl rfl)
theorem dX4_faultOf_51 : decode cX4_faultOf 51 = .ok (.bipush (-6), 2) := dk_16 250 (dk_at dksX4_faultOf_2 3 rfl rfl)
theorem dX4_faultOf_53 : decode cX4_faultOf 53 = .ok (.istore 4, 2) := dk_54 4 (dk_at dksX4_faultOf_2 5 rfl rfl)
theorem dX4_faultOf_55 : decode cX4_faultOf 55 = .ok (.iload_n 1, 1) := dk_27 (dk_at dksX4_faultOf_2 7 rfl rfl)
theorem dX4_faultOf_56 : decode cX4_faultOf 56 = .ok (.ifCond .ne 42, 3) := dk_154 0 42 (dk_at dksX4_faultOf_2 8 rfl rfl)
theorem dX4_faultOf_59 : decode cX4_faultOf 59 = .ok (.iload_n 3, 1) := dk_29 (dk_at dksX4_faultOf_2 11 rfl rfl)
theorem dX4_faultOf_60 : decode cX4_faultOf 60 = .ok (.bipush 65, 2) := dk_16 65 (dk_at dksX4_faultOf_2 12 rfl rfl)
theorem dX4_faultOf_62 : decode cX4_faultOf 62 = .ok (.bipush 72, 2) := dk_16 72 (dk_at dksX4_faultOf_2 14 rfl rfl)
theorem dX4_faultOf_64 : decode cX4_faultOf 64 = .ok (.invokestatic 84, 3) := dk_184 0 84 (dk_at dksX4_faultOf_2 16 rfl rfl)
theorem dX4_faultOf_67 : decode cX4_faultOf 67 = .ok (.ifCond .eq 455, 3) := dk_153 1 199 (dk_at dksX4_faultOf_2 19 rfl rfl)
theorem dX4_faultOf_70 : decode cX4_faultOf 70 = .ok (.aload_n 0, 1) := dk_42 (dk_at dksX4_faultOf_2 22 rfl rfl)
theorem dX4_faultOf_71 : decode cX4_faultOf 71 = .ok (.getfield 28, 3) := dk_180 0 28 (dk_at dksX4_faultOf_3 0 rfl rfl)
theorem dX4_faultOf_74 : decode cX4_faultOf 74 = .ok (.iload_n 3, 1) := dk_29 (dk_at dksX4_faultOf_3 3 rfl rfl)
theorem dX4_faultOf_75 : decode cX4_faultOf 75 = .ok (.bipush 65, 2) := dk_16 65 (dk_at dksX4_faultOf_3 4 rfl rfl)
theorem dX4_faultOf_77 : decode cX4_faultOf 77 = .ok (.isub, 1) := dk_100 (dk_at dksX4_faultOf_3 6 rfl rfl)
theorem dX4_faultOf_78 : decode cX4_faultOf 78 = .ok (.iaload, 1) := dk_46 (dk_at dksX4_faultOf_3 7 rfl rfl)
theorem dX4_faultOf_79 : decode cX4_faultOf 79 = .ok (.bipush (-6), 2) := dk_16 250 (dk_at dksX4_faultOf_3 8 rfl rfl)
theorem dX4_faultOf_81 : decode cX4_faultOf 81 = .ok (.if_icmp .ne 441, 3) := dk_160 1 185 (dk_at dksX4_faultOf_3 10 rfl rfl)
theorem dX4_faultOf_84 : decode cX4_faultOf 84 = .ok (.aload_n 0, 1) := dk_42 (dk_at dksX4_faultOf_3 13 rfl rfl)
theorem dX4_faultOf_85 : decode cX4_faultOf 85 = .ok (.iload_n 3, 1) := dk_29 (dk_at dksX4_faultOf_3 14 rfl rfl)
theorem dX4_faultOf_86 : decode cX4_faultOf 86 = .ok (.bipush 65, 2) := dk_16 65 (dk_at dksX4_faultOf_3 15 rfl rfl)
theorem dX4_faultOf_88 : decode cX4_faultOf 88 = .ok (.isub, 1) := dk_100 (dk_at dksX4_faultOf_3 17 rfl rfl)
theorem dX4_faultOf_89 : decode cX4_faultOf 89 = .ok (.putfield 95, 3) := dk_181 0 95 (dk_at dksX4_faultOf_3 18 rfl rfl)
theorem dX4_faultOf_92 : decode cX4_faultOf 92 = .ok (.iconst 1, 1) := dk_4 (dk_at dksX4_faultOf_3 21 rfl rfl)
theorem dX4_faultOf_93 : decode cX4_faultOf 93 = .ok (.istore 4, 2) := dk_54 4 (dk_at dksX4_faultOf_3 22 rfl rfl)
theorem dX4_faultOf_95 : decode cX4_faultOf 95 = .ok (.goto 427, 3) := dk_167 1 171 (dk_at dksX4_faultOf_4 0 rfl rfl)
theorem dX4_faultOf_98 : decode cX4_faultOf 98 = .ok (.iload_n 1, 1) := dk_27 (dk_at dksX4_faultOf_4 3 rfl rfl)
theorem dX4_faultOf_99 : decode cX4_faultOf 99 = .ok (.iconst 1, 1) := dk_4 (dk_at dksX4_faultOf_4 4 rfl rfl)
theorem dX4_faultOf_100 : decode cX4_faultOf 100 = .ok (.if_icmp .ne 20, 3) := dk_160 0 20 (dk_at dksX4_faultOf_4 5 rfl rfl)
theorem dX4_faultOf_103 : decode cX4_faultOf 103 = .ok (.iload_n 3, 1) := dk_29 (dk_at dksX4_faultOf_4 8 rfl rfl)
theorem dX4_faultOf_104 : decode cX4_faultOf 104 = .ok (.bipush 61, 2) := dk_16 61 (dk_at dksX4_faultOf_4 9 rfl rfl)
theorem dX4_faultOf_106 : decode cX4_faultOf 106 = .ok (.if_icmp .ne 7, 3) := dk_160 0 7 (dk_at dksX4_faultOf_4 11 rfl rfl)
theorem dX4_faultOf_109 : decode cX4_faultOf 109 = .ok (.iconst 2, 1) := dk_5 (dk_at dksX4_faultOf_4 14 rfl rfl)
theorem dX4_faultOf_110 : decode cX4_faultOf 110 = .ok (.goto 5, 3) := dk_167 0 5 (dk_at dksX4_faultOf_4 15 rfl rfl)
theorem dX4_faultOf_113 : decode cX4_faultOf 113 = .ok (.bipush (-6), 2) := dk_16 250 (dk_at dksX4_faultOf_4 18 rfl rfl)
theorem dX4_faultOf_115 : decode cX4_faultOf 115 = .ok (.istore 4, 2) := dk_54 4 (dk_at dksX4_faultOf_4 20 rfl rfl)
theorem dX4_faultOf_117 : decode cX4_faultOf 117 = .ok (.goto 405, 3) := dk_167 1 149 (dk_at dksX4_faultOf_5 0 rfl rfl)
theorem dX4_faultOf_120 : decode cX4_faultOf 120 = .ok (.iload_n 1, 1) := dk_27 (dk_at dksX4_faultOf_5 3 rfl rfl)
theorem dX4_faultOf_121 : decode cX4_faultOf 121 = .ok (.iconst 2, 1) := dk_5 (dk_at dksX4_faultOf_5 4 rfl rfl)
theorem dX4_faultOf_122 : decode cX4_faultOf 122 = .ok (.if_icmp .ne 263, 3) := dk_160 1 7 (dk_at dksX4_faultOf_5 5 rfl rfl)
theorem dX4_faultOf_125 : decode cX4_faultOf 125 = .ok (.iload_n 3, 1) := dk_29 (dk_at dksX4_faultOf_5 8 rfl rfl)
theorem dX4_faultOf_126 : decode cX4_faultOf 126 = .ok (.bipush 123, 2) := dk_16 123 (dk_at dksX4_faultOf_5 9 rfl rfl)
theorem dX4_faultOf_128 : decode cX4_faultOf 128 = .ok (.if_icmp .eq 9, 3) := dk_159 0 9 (dk_at dksX4_faultOf_5 11 rfl rfl)
theorem dX4_faultOf_131 : decode cX4_faultOf 131 = .ok (.iload_n 3, 1) := dk_29 (dk_at dksX4_faultOf_5 14 rfl rfl)
theorem dX4_faultOf_132 : decode cX4_faultOf 132 = .ok (.bipush 91, 2) := dk_16 91 (dk_at dksX4_faultOf_5 15 rfl rfl)
theorem dX4_faultOf_134 : decode cX4_faultOf 134 = .ok (.if_icmp .ne 7, 3) := dk_160 0 7 (dk_at dksX4_faultOf_5 17 rfl rfl)
theorem dX4_faultOf_137 : decode cX4_faultOf 137 = .ok (.iconst 1, 1) := dk_4 (dk_at dksX4_faultOf_5 20 rfl rfl)
theorem dX4_faultOf_138 : decode cX4_faultOf 138 = .ok (.goto 4, 3) := dk_167 0 4 (dk_at dksX4_faultOf_5 21 rfl rfl)
theorem dX4_faultOf_141 : decode cX4_faultOf 141 = .ok (.iconst 0, 1) := dk_3 (dk_at dksX4_faultOf_6 0 rfl rfl)
theorem dX4_faultOf_142 : decode cX4_faultOf 142 = .ok (.istore 5, 2) := dk_54 5 (dk_at dksX4_faultOf_6 1 rfl rfl)
theorem dX4_faultOf_144 : decode cX4_faultOf 144 = .ok (.iload_n 3, 1) := dk_29 (dk_at dksX4_faultOf_6 3 rfl rfl)
theorem dX4_faultOf_145 : decode cX4_faultOf 145 = .ok (.bipush 110, 2) := dk_16 110 (dk_at dksX4_faultOf_6 4 rfl rfl)
theorem dX4_faultOf_147 : decode cX4_faultOf 147 = .ok (.if_icmp .eq 27, 3) := dk_159 0 27 (dk_at dksX4_faultOf_6 6 rfl rfl)
theorem dX4_faultOf_150 : decode cX4_faultOf 150 = .ok (.iload_n 3, 1) := dk_29 (dk_at dksX4_faultOf_6 9 rfl rfl)
theorem dX4_faultOf_151 : decode cX4_faultOf 151 = .ok (.bipush 116, 2) := dk_16 116 (dk_at dksX4_faultOf_6 10 rfl rfl)
theorem dX4_faultOf_153 : decode cX4_faultOf 153 = .ok (.if_icmp .eq 21, 3) := dk_159 0 21 (dk_at dksX4_faultOf_6 12 rfl rfl)
theorem dX4_faultOf_156 : decode cX4_faultOf 156 = .ok (.iload_n 3, 1) := dk_29 (dk_at dksX4_faultOf_6 15 rfl rfl)
theorem dX4_faultOf_157 : decode cX4_faultOf 157 = .ok (.bipush 115, 2) := dk_16 115 (dk_at dksX4_faultOf_6 16 rfl rfl)
theorem dX4_faultOf_159 : decode cX4_faultOf 159 = .ok (.if_icmp .eq 15, 3) := dk_159 0 15 (dk_at dksX4_faultOf_6 18 rfl rfl)
theorem dX4_faultOf_162 : decode cX4_faultOf 162 = .ok (.iload_n 3, 1) := dk_29 (dk_at dksX4_faultOf_6 21 rfl rfl)
theorem dX4_faultOf_163 : decode cX4_faultOf 163 = .ok (.bipush 46, 2) := dk_16 46 (dk_at dksX4_faultOf_6 22 rfl rfl)
theorem dX4_faultOf_165 : decode cX4_faultOf 165 = .ok (.if_icmp .eq 9, 3) := dk_159 0 9 (dk_at dksX4_faultOf_7 0 rfl rfl)
theorem dX4_faultOf_168 : decode cX4_faultOf 168 = .ok (.iload_n 3, 1) := dk_29 (dk_at dksX4_faultOf_7 3 rfl rfl)
theorem dX4_faultOf_169 : decode cX4_faultOf 169 = .ok (.bipush 33, 2) := dk_16 33 (dk_at dksX4_faultOf_7 4 rfl rfl)
theorem dX4_faultOf_171 : decode cX4_faultOf 171 = .ok (.if_icmp .ne 7, 3) := dk_160 0 7 (dk_at dksX4_faultOf_7 6 rfl rfl)
theorem dX4_faultOf_174 : decode cX4_faultOf 174 = .ok (.iconst 1, 1) := dk_4 (dk_at dksX4_faultOf_7 9 rfl rfl)
theorem dX4_faultOf_175 : decode cX4_faultOf 175 = .ok (.goto 4, 3) := dk_167 0 4 (dk_at dksX4_faultOf_7 10 rfl rfl)
theorem dX4_faultOf_178 : decode cX4_faultOf 178 = .ok (.iconst 0, 1) := dk_3 (dk_at dksX4_faultOf_7 13 rfl rfl)
theorem dX4_faultOf_179 : decode cX4_faultOf 179 = .ok (.istore 6, 2) := dk_54 6 (dk_at dksX4_faultOf_7 14 rfl rfl)
theorem dX4_faultOf_181 : decode cX4_faultOf 181 = .ok (.iload_n 3, 1) := dk_29 (dk_at dksX4_faultOf_7 16 rfl rfl)
theorem dX4_faultOf_182 : decode cX4_faultOf 182 = .ok (.bipush 42, 2) := dk_16 42 (dk_at dksX4_faultOf_7 17 rfl rfl)
theorem dX4_faultOf_184 : decode cX4_faultOf 184 = .ok (.if_icmp .eq 9, 3) := dk_159 0 9 (dk_at dksX4_faultOf_7 19 rfl rfl)
theorem dX4_faultOf_187 : decode cX4_faultOf 187 = .ok (.iload_n 3, 1) := dk_29 (dk_at dksX4_faultOf_7 22 rfl rfl)
theorem dX4_faultOf_188 : decode cX4_faultOf 188 = .ok (.bipush 62, 2) := dk_16 62 (dk_at dksX4_faultOf_8 0 rfl rfl)
theorem dX4_faultOf_190 : decode cX4_faultOf 190 = .ok (.if_icmp .ne 16, 3) := dk_160 0 16 (dk_at dksX4_faultOf_8 2 rfl rfl)
theorem dX4_faultOf_193 : decode cX4_faultOf 193 = .ok (.aload_n 0, 1) := dk_42 (dk_at dksX4_faultOf_8 5 rfl rfl)
theorem dX4_faultOf_194 : decode cX4_faultOf 194 = .ok (.getfield 92, 3) := dk_180 0 92 (dk_at dksX4_faultOf_8 6 rfl rfl)
theorem dX4_faultOf_197 : decode cX4_faultOf 197 = .ok (.bipush 12, 2) := dk_16 12 (dk_at dksX4_faultOf_8 9 rfl rfl)
theorem dX4_faultOf_199 : decode cX4_faultOf 199 = .ok (.if_icmp .ge 7, 3) := dk_162 0 7 (dk_at dksX4_faultOf_8 11 rfl rfl)
theorem dX4_faultOf_202 : decode cX4_faultOf 202 = .ok (.iconst 1, 1) := dk_4 (dk_at dksX4_faultOf_8 14 rfl rfl)
theorem dX4_faultOf_203 : decode cX4_faultOf 203 = .ok (.goto 4, 3) := dk_167 0 4 (dk_at dksX4_faultOf_8 15 rfl rfl)
theorem dX4_faultOf_206 : decode cX4_faultOf 206 = .ok (.iconst 0, 1) := dk_3 (dk_at dksX4_faultOf_8 18 rfl rfl)
theorem dX4_faultOf_207 : decode cX4_faultOf 207 = .ok (.istore 7, 2) := dk_54 7 (dk_at dksX4_faultOf_8 19 rfl rfl)
theorem dX4_faultOf_209 : decode cX4_faultOf 209 = .ok (.iload_n 3, 1) := dk_29 (dk_at dksX4_faultOf_8 21 rfl rfl)
theorem dX4_faultOf_210 : decode cX4_faultOf 210 = .ok (.bipush 65, 2) := dk_16 65 (dk_at dksX4_faultOf_8 22 rfl rfl)
theorem dX4_faultOf_212 : decode cX4_faultOf 212 = .ok (.bipush 72, 2) := dk_16 72 (dk_at dksX4_faultOf_9 0 rfl rfl)
theorem dX4_faultOf_214 : decode cX4_faultOf 214 = .ok (.invokestatic 84, 3) := dk_184 0 84 (dk_at dksX4_faultOf_9 2 rfl rfl)
theorem dX4_faultOf_217 : decode cX4_faultOf 217 = .ok (.ifCond .eq 20, 3) := dk_153 0 20 (dk_at dksX4_faultOf_9 5 rfl rfl)
theorem dX4_faultOf_220 : decode cX4_faultOf 220 = .ok (.aload_n 0, 1) := dk_42 (dk_at dksX4_faultOf_9 8 rfl rfl)
theorem dX4_faultOf_221 : decode cX4_faultOf 221 = .ok (.bipush 100, 2) := dk_16 100 (dk_at dksX4_faultOf_9 9 rfl rfl)
theorem dX4_faultOf_223 : decode cX4_faultOf 223 = .ok (.iload_n 3, 1) := dk_29 (dk_at dksX4_faultOf_9 11 rfl rfl)
theorem dX4_faultOf_224 : decode cX4_faultOf 224 = .ok (.iadd, 1) := dk_96 (dk_at dksX4_faultOf_9 12 rfl rfl)
theorem dX4_faultOf_225 : decode cX4_faultOf 225 = .ok (.bipush 65, 2) := dk_16 65 (dk_at dksX4_faultOf_9 13 rfl rfl)
theorem dX4_faultOf_227 : decode cX4_faultOf 227 = .ok (.isub, 1) := dk_100 (dk_at dksX4_faultOf_9 15 rfl rfl)
theorem dX4_faultOf_228 : decode cX4_faultOf 228 = .ok (.invokevirtual 101, 3) := dk_182 0 101 (dk_at dksX4_faultOf_9 16 rfl rfl)
theorem dX4_faultOf_231 : decode cX4_faultOf 231 = .ok (.iconst 5, 1) := dk_8 (dk_at dksX4_faultOf_9 19 rfl rfl)
theorem dX4_faultOf_232 : decode cX4_faultOf 232 = .ok (.istore 4, 2) := dk_54 4 (dk_at dksX4_faultOf_9 20 rfl rfl)
theorem dX4_faultOf_234 : decode cX4_faultOf 234 = .ok (.goto 148, 3) := dk_167 0 148 (dk_at dksX4_faultOf_10 0 rfl rfl)
theorem dX4_faultOf_237 : decode cX4_faultOf 237 = .ok (.iload 5, 2) := dk_21 5 (dk_at dksX4_faultOf_10 3 rfl rfl)
theorem dX4_faultOf_239 : decode cX4_faultOf 239 = .ok (.ifCond .ne 13, 3) := dk_154 0 13 (dk_at dksX4_faultOf_10 5 rfl rfl)
theorem dX4_faultOf_242 : decode cX4_faultOf 242 = .ok (.iload 6, 2) := dk_21 6 (dk_at dksX4_faultOf_10 8 rfl rfl)
theorem dX4_faultOf_244 : decode cX4_faultOf 244 = .ok (.ifCond .ne 8, 3) := dk_154 0 8 (dk_at dksX4_faultOf_10 10 rfl rfl)
theorem dX4_faultOf_247 : decode cX4_faultOf 247 = .ok (.iload 7, 2) := dk_21 7 (dk_at dksX4_faultOf_10 13 rfl rfl)
theorem dX4_faultOf_249 : decode cX4_faultOf 249 = .ok (.ifCond .eq 133, 3) := dk_153 0 133 (dk_at dksX4_faultOf_10 15 rfl rfl)
theorem dX4_faultOf_252 : decode cX4_faultOf 252 = .ok (.aload_n 0, 1) := dk_42 (dk_at dksX4_faultOf_10 18 rfl rfl)
theorem dX4_faultOf_253 : decode cX4_faultOf 253 = .ok (.getfield 98, 3) := dk_180 0 98 (dk_at dksX4_faultOf_10 19 rfl rfl)
theorem dX4_faultOf_256 : decode cX4_faultOf 256 = .ok (.istore 8, 2) := dk_54 8 (dk_at dksX4_faultOf_10 22 rfl rfl)
theorem dX4_faultOf_258 : decode cX4_faultOf 258 = .ok (.aload_n 0, 1) := dk_42 (dk_at dksX4_faultOf_11 0 rfl rfl)
theorem dX4_faultOf_259 : decode cX4_faultOf 259 = .ok (.getfield 22, 3) := dk_180 0 22 (dk_at dksX4_faultOf_11 1 rfl rfl)
theorem dX4_faultOf_262 : decode cX4_faultOf 262 = .ok (.iload 8, 2) := dk_21 8 (dk_at dksX4_faultOf_11 4 rfl rfl)
theorem dX4_faultOf_264 : decode cX4_faultOf 264 = .ok (.iload_n 3, 1) := dk_29 (dk_at dksX4_faultOf_11 6 rfl rfl)
theorem dX4_faultOf_265 : decode cX4_faultOf 265 = .ok (.iastore, 1) := dk_79 (dk_at dksX4_faultOf_11 7 rfl rfl)
theorem dX4_faultOf_266 : decode cX4_faultOf 266 = .ok (.iconst 0, 1) := dk_3 (dk_at dksX4_faultOf_11 8 rfl rfl)
theorem dX4_faultOf_267 : decode cX4_faultOf 267 = .ok (.istore 9, 2) := dk_54 9 (dk_at dksX4_faultOf_11 9 rfl rfl)
theorem dX4_faultOf_269 : decode cX4_faultOf 269 = .ok (.iload 9, 2) := dk_21 9 (dk_at dksX4_faultOf_11 11 rfl rfl)
theorem dX4_faultOf_271 : decode cX4_faultOf 271 = .ok (.bipush 8, 2) := dk_16 8 (dk_at dksX4_faultOf_11 13 rfl rfl)
theorem dX4_faultOf_273 : decode cX4_faultOf 273 = .ok (.if_icmp .ge 24, 3) := dk_162 0 24 (dk_at dksX4_faultOf_11 15 rfl rfl)
theorem dX4_faultOf_276 : decode cX4_faultOf 276 = .ok (.aload_n 0, 1) := dk_42 (dk_at dksX4_faultOf_11 18 rfl rfl)
theorem dX4_faultOf_277 : decode cX4_faultOf 277 = .ok (.getfield 25, 3) := dk_180 0 25 (dk_at dksX4_faultOf_11 19 rfl rfl)
theorem dX4_faultOf_280 : decode cX4_faultOf 280 = .ok (.bipush 8, 2) := dk_16 8 (dk_at dksX4_faultOf_11 22 rfl rfl)
theorem dX4_faultOf_282 : decode cX4_faultOf 282 = .ok (.iload 8, 2) := dk_21 8 (dk_at dksX4_faultOf_12 0 rfl rfl)
theorem dX4_faultOf_284 : decode cX4_faultOf 284 = .ok (.imul, 1) := dk_104 (dk_at dksX4_faultOf_12 2 rfl rfl)
theorem dX4_faultOf_285 : decode cX4_faultOf 285 = .ok (.iload 9, 2) := dk_21 9 (dk_at dksX4_faultOf_12 3 rfl rfl)
theorem dX4_faultOf_287 : decode cX4_faultOf 287 = .ok (.iadd, 1) := dk_96 (dk_at dksX4_faultOf_12 5 rfl rfl)
theorem dX4_faultOf_288 : decode cX4_faultOf 288 = .ok (.bipush (-6), 2) := dk_16 250 (dk_at dksX4_faultOf_12 6 rfl rfl)
theorem dX4_faultOf_290 : decode cX4_faultOf 290 = .ok (.iastore, 1) := dk_79 (dk_at dksX4_faultOf_12 8 rfl rfl)
theorem dX4_faultOf_291 : decode cX4_faultOf 291 = .ok (.iinc 9 1, 3) := dk_132 9 1 (dk_at dksX4_faultOf_12 9 rfl rfl)
theorem dX4_faultOf_294 : decode cX4_faultOf 294 = .ok (.goto (-25), 3) := dk_167 255 231 (dk_at dksX4_faultOf_12 12 rfl rfl)
theorem dX4_faultOf_297 : decode cX4_faultOf 297 = .ok (.aload_n 0, 1) := dk_42 (dk_at dksX4_faultOf_12 15 rfl rfl)
theorem dX4_faultOf_298 : decode cX4_faultOf 298 = .ok (.dup, 1) := dk_89 (dk_at dksX4_faultOf_12 16 rfl rfl)
theorem dX4_faultOf_299 : decode cX4_faultOf 299 = .ok (.getfield 98, 3) := dk_180 0 98 (dk_at dksX4_faultOf_12 17 rfl rfl)
theorem dX4_faultOf_302 : decode cX4_faultOf 302 = .ok (.iconst 1, 1) := dk_4 (dk_at dksX4_faultOf_12 20 rfl rfl)
theorem dX4_faultOf_303 : decode cX4_faultOf 303 = .ok (.iadd, 1) := dk_96 (dk_at dksX4_faultOf_12 21 rfl rfl)
theorem dX4_faultOf_304 : decode cX4_faultOf 304 = .ok (.putfield 98, 3) := dk_181 0 98 (dk_at dksX4_faultOf_13 0 rfl rfl)
theorem dX4_faultOf_307 : decode cX4_faultOf 307 = .ok (.aload_n 0, 1) := dk_42 (dk_at dksX4_faultOf_13 3 rfl rfl)
theorem dX4_faultOf_308 : decode cX4_faultOf 308 = .ok (.iload 8, 2) := dk_21 8 (dk_at dksX4_faultOf_13 4 rfl rfl)
theorem dX4_faultOf_310 : decode cX4_faultOf 310 = .ok (.invokevirtual 101, 3) := dk_182 0 101 (dk_at dksX4_faultOf_13 6 rfl rfl)
theorem dX4_faultOf_313 : decode cX4_faultOf 313 = .ok (.iconst 5, 1) := dk_8 (dk_at dksX4_faultOf_13 9 rfl rfl)
theorem dX4_faultOf_314 : decode cX4_faultOf 314 = .ok (.istore 4, 2) := dk_54 4 (dk_at dksX4_faultOf_13 10 rfl rfl)
theorem dX4_faultOf_316 : decode cX4_faultOf 316 = .ok (.iload 6, 2) := dk_21 6 (dk_at dksX4_faultOf_13 12 rfl rfl)
theorem dX4_faultOf_318 : decode cX4_faultOf 318 = .ok (.ifCond .ne 64, 3) := dk_154 0 64 (dk_at dksX4_faultOf_13 14 rfl rfl)
theorem dX4_faultOf_321 : decode cX4_faultOf 321 = .ok (.aload_n 0, 1) := dk_42 (dk_at dksX4_faultOf_13 17 rfl rfl)
theorem dX4_faultOf_322 : decode cX4_faultOf 322 = .ok (.getfield 31, 3) := dk_180 0 31 (dk_at dksX4_faultOf_13 18 rfl rfl)
theorem dX4_faultOf_325 : decode cX4_faultOf 325 = .ok (.aload_n 0, 1) := dk_42 (dk_at dksX4_faultOf_13 21 rfl rfl)
theorem dX4_faultOf_326 : decode cX4_faultOf 326 = .ok (.getfield 92, 3) := dk_180 0 92 (dk_at dksX4_faultOf_14 0 rfl rfl)
theorem dX4_faultOf_329 : decode cX4_faultOf 329 = .ok (.iload 8, 2) := dk_21 8 (dk_at dksX4_faultOf_14 3 rfl rfl)
theorem dX4_faultOf_331 : decode cX4_faultOf 331 = .ok (.iastore, 1) := dk_79 (dk_at dksX4_faultOf_14 5 rfl rfl)
theorem dX4_faultOf_332 : decode cX4_faultOf 332 = .ok (.aload_n 0, 1) := dk_42 (dk_at dksX4_faultOf_14 6 rfl rfl)
theorem dX4_faultOf_333 : decode cX4_faultOf 333 = .ok (.getfield 34, 3) := dk_180 0 34 (dk_at dksX4_faultOf_14 7 rfl rfl)
theorem dX4_faultOf_336 : decode cX4_faultOf 336 = .ok (.aload_n 0, 1) := dk_42 (dk_at dksX4_faultOf_14 10 rfl rfl)
theorem dX4_faultOf_337 : decode cX4_faultOf 337 = .ok (.getfield 92, 3) := dk_180 0 92 (dk_at dksX4_faultOf_14 11 rfl rfl)
theorem dX4_faultOf_340 : decode cX4_faultOf 340 = .ok (.iload 5, 2) := dk_21 5 (dk_at dksX4_faultOf_14 14 rfl rfl)
theorem dX4_faultOf_342 : decode cX4_faultOf 342 = .ok (.ifCond .eq 8, 3) := dk_153 0 8 (dk_at dksX4_faultOf_14 16 rfl rfl)
theorem dX4_faultOf_345 : decode cX4_faultOf 345 = .ok (.bipush 100, 2) := dk_16 100 (dk_at dksX4_faultOf_14 19 rfl rfl)
theorem dX4_faultOf_347 : decode cX4_faultOf 347 = .ok (.goto 14, 3) := dk_167 0 14 (dk_at dksX4_faultOf_14 21 rfl rfl)
theorem dX4_faultOf_350 : decode cX4_faultOf 350 = .ok (.iload_n 3, 1) := dk_29 (dk_at dksX4_faultOf_15 0 rfl rfl)
theorem dX4_faultOf_351 : decode cX4_faultOf 351 = .ok (.bipush 42, 2) := dk_16 42 (dk_at dksX4_faultOf_15 1 rfl rfl)
theorem dX4_faultOf_353 : decode cX4_faultOf 353 = .ok (.if_icmp .ne 7, 3) := dk_160 0 7 (dk_at dksX4_faultOf_15 3 rfl rfl)
theorem dX4_faultOf_356 : decode cX4_faultOf 356 = .ok (.iconst 1, 1) := dk_4 (dk_at dksX4_faultOf_15 6 rfl rfl)
theorem dX4_faultOf_357 : decode cX4_faultOf 357 = .ok (.goto 4, 3) := dk_167 0 4 (dk_at dksX4_faultOf_15 7 rfl rfl)
theorem dX4_faultOf_360 : decode cX4_faultOf 360 = .ok (.iconst 2, 1) := dk_5 (dk_at dksX4_faultOf_15 10 rfl rfl)
theorem dX4_faultOf_361 : decode cX4_faultOf 361 = .ok (.iastore, 1) := dk_79 (dk_at dksX4_faultOf_15 11 rfl rfl)
theorem dX4_faultOf_362 : decode cX4_faultOf 362 = .ok (.aload_n 0, 1) := dk_42 (dk_at dksX4_faultOf_15 12 rfl rfl)
theorem dX4_faultOf_363 : decode cX4_faultOf 363 = .ok (.getfield 37, 3) := dk_180 0 37 (dk_at dksX4_faultOf_15 13 rfl rfl)
theorem dX4_faultOf_366 : decode cX4_faultOf 366 = .ok (.aload_n 0, 1) := dk_42 (dk_at dksX4_faultOf_15 16 rfl rfl)
theorem dX4_faultOf_367 : decode cX4_faultOf 367 = .ok (.getfield 92, 3) := dk_180 0 92 (dk_at dksX4_faultOf_15 17 rfl rfl)
theorem dX4_faultOf_370 : decode cX4_faultOf 370 = .ok (.iconst (-1), 1) := dk_2 (dk_at dksX4_faultOf_15 20 rfl rfl)
theorem dX4_faultOf_371 : decode cX4_faultOf 371 = .ok (.iastore, 1) := dk_79 (dk_at dksX4_faultOf_15 21 rfl rfl)
theorem dX4_faultOf_372 : decode cX4_faultOf 372 = .ok (.aload_n 0, 1) := dk_42 (dk_at dksX4_faultOf_15 22 rfl rfl)
theorem dX4_faultOf_373 : decode cX4_faultOf 373 = .ok (.dup, 1) := dk_89 (dk_at dksX4_faultOf_15 23 rfl rfl)
theorem dX4_faultOf_374 : decode cX4_faultOf 374 = .ok (.getfield 92, 3) := dk_180 0 92 (dk_at dksX4_faultOf_16 0 rfl rfl)
theorem dX4_faultOf_377 : decode cX4_faultOf 377 = .ok (.iconst 1, 1) := dk_4 (dk_at dksX4_faultOf_16 3 rfl rfl)
theorem dX4_faultOf_378 : decode cX4_faultOf 378 = .ok (.iadd, 1) := dk_96 (dk_at dksX4_faultOf_16 4 rfl rfl)
theorem dX4_faultOf_379 : decode cX4_faultOf 379 = .ok (.putfield 92, 3) := dk_181 0 92 (dk_at dksX4_faultOf_16 5 rfl rfl)
theorem dX4_faultOf_382 : decode cX4_faultOf 382 = .ok (.goto 140, 3) := dk_167 0 140 (dk_at dksX4_faultOf_16 8 rfl rfl)
theorem dX4_faultOf_385 : decode cX4_faultOf 385 = .ok (.iload_n 1, 1) := dk_27 (dk_at dksX4_faultOf_16 11 rfl rfl)
theorem dX4_faultOf_386 : decode cX4_faultOf 386 = .ok (.iconst 3, 1) := dk_6 (dk_at dksX4_faultOf_16 12 rfl rfl)
theorem dX4_faultOf_387 : decode cX4_faultOf 387 = .ok (.if_icmp .ne 116, 3) := dk_160 0 116 (dk_at dksX4_faultOf_16 13 rfl rfl)
theorem dX4_faultOf_390 : decode cX4_faultOf 390 = .ok (.aload_n 0, 1) := dk_42 (dk_at dksX4_faultOf_16 16 rfl rfl)
theorem dX4_faultOf_391 : decode cX4_faultOf 391 = .ok (.getfield 92, 3) := dk_180 0 92 (dk_at dksX4_faultOf_16 17 rfl rfl)
theorem dX4_faultOf_394 : decode cX4_faultOf 394 = .ok (.iconst 1, 1) := dk_4 (dk_at dksX4_faultOf_16 20 rfl rfl)
theorem dX4_faultOf_395 : decode cX4_faultOf 395 = .ok (.isub, 1) := dk_100 (dk_at dksX4_faultOf_16 21 rfl rfl)
theorem dX4_faultOf_396 : decode cX4_faultOf 396 = .ok (.istore 5, 2) := dk_54 5 (dk_at dksX4_faultOf_16 22 rfl rfl)
theorem dX4_faultOf_398 : decode cX4_faultOf 398 = .ok (.aload_n 0, 1) := dk_42 (dk_at dksX4_faultOf_17 0 rfl rfl)
theorem dX4_faultOf_399 : decode cX4_faultOf 399 = .ok (.getfield 22, 3) := dk_180 0 22 (dk_at dksX4_faultOf_17 1 rfl rfl)
theorem dX4_faultOf_402 : decode cX4_faultOf 402 = .ok (.aload_n 0, 1) := dk_42 (dk_at dksX4_faultOf_17 4 rfl rfl)
theorem dX4_faultOf_403 : decode cX4_faultOf 403 = .ok (.getfield 31, 3) := dk_180 0 31 (dk_at dksX4_faultOf_17 5 rfl rfl)
theorem dX4_faultOf_406 : decode cX4_faultOf 406 = .ok (.iload 5, 2) := dk_21 5 (dk_at dksX4_faultOf_17 8 rfl rfl)
theorem dX4_faultOf_408 : decode cX4_faultOf 408 = .ok (.iaload, 1) := dk_46 (dk_at dksX4_faultOf_17 10 rfl rfl)
theorem dX4_faultOf_409 : decode cX4_faultOf 409 = .ok (.iaload, 1) := dk_46 (dk_at dksX4_faultOf_17 11 rfl rfl)
theorem dX4_faultOf_410 : decode cX4_faultOf 410 = .ok (.bipush 123, 2) := dk_16 123 (dk_at dksX4_faultOf_17 12 rfl rfl)
theorem dX4_faultOf_412 : decode cX4_faultOf 412 = .ok (.if_icmp .ne 7, 3) := dk_160 0 7 (dk_at dksX4_faultOf_17 14 rfl rfl)
theorem dX4_faultOf_415 : decode cX4_faultOf 415 = .ok (.iconst 1, 1) := dk_4 (dk_at dksX4_faultOf_17 17 rfl rfl)
theorem dX4_faultOf_416 : decode cX4_faultOf 416 = .ok (.goto 4, 3) := dk_167 0 4 (dk_at dksX4_faultOf_17 18 rfl rfl)
theorem dX4_faultOf_419 : decode cX4_faultOf 419 = .ok (.iconst 0, 1) := dk_3 (dk_at dksX4_faultOf_17 21 rfl rfl)
theorem dX4_faultOf_420 : decode cX4_faultOf 420 = .ok (.istore 6, 2) := dk_54 6 (dk_at dksX4_faultOf_17 22 rfl rfl)
theorem dX4_faultOf_422 : decode cX4_faultOf 422 = .ok (.iload_n 3, 1) := dk_29 (dk_at dksX4_faultOf_18 0 rfl rfl)
theorem dX4_faultOf_423 : decode cX4_faultOf 423 = .ok (.bipush 97, 2) := dk_16 97 (dk_at dksX4_faultOf_18 1 rfl rfl)
theorem dX4_faultOf_425 : decode cX4_faultOf 425 = .ok (.bipush 104, 2) := dk_16 104 (dk_at dksX4_faultOf_18 3 rfl rfl)
theorem dX4_faultOf_427 : decode cX4_faultOf 427 = .ok (.invokestatic 84, 3) := dk_184 0 84 (dk_at dksX4_faultOf_18 5 rfl rfl)
theorem dX4_faultOf_430 : decode cX4_faultOf 430 = .ok (.ifCond .eq 43, 3) := dk_153 0 43 (dk_at dksX4_faultOf_18 8 rfl rfl)
theorem dX4_faultOf_433 : decode cX4_faultOf 433 = .ok (.iload_n 3, 1) := dk_29 (dk_at dksX4_faultOf_18 11 rfl rfl)
theorem dX4_faultOf_434 : decode cX4_faultOf 434 = .ok (.bipush 97, 2) := dk_16 97 (dk_at dksX4_faultOf_18 12 rfl rfl)
theorem dX4_faultOf_436 : decode cX4_faultOf 436 = .ok (.isub, 1) := dk_100 (dk_at dksX4_faultOf_18 14 rfl rfl)
theorem dX4_faultOf_437 : decode cX4_faultOf 437 = .ok (.aload_n 0, 1) := dk_42 (dk_at dksX4_faultOf_18 15 rfl rfl)
theorem dX4_faultOf_438 : decode cX4_faultOf 438 = .ok (.getfield 37, 3) := dk_180 0 37 (dk_at dksX4_faultOf_18 16 rfl rfl)
theorem dX4_faultOf_441 : decode cX4_faultOf 441 = .ok (.iload 5, 2) := dk_21 5 (dk_at dksX4_faultOf_18 19 rfl rfl)
theorem dX4_faultOf_443 : decode cX4_faultOf 443 = .ok (.iaload, 1) := dk_46 (dk_at dksX4_faultOf_18 21 rfl rfl)
theorem dX4_faultOf_444 : decode cX4_faultOf 444 = .ok (.if_icmp .le 29, 3) := dk_164 0 29 (dk_at dksX4_faultOf_19 0 rfl rfl)
theorem dX4_faultOf_447 : decode cX4_faultOf 447 = .ok (.aload_n 0, 1) := dk_42 (dk_at dksX4_faultOf_19 3 rfl rfl)
theorem dX4_faultOf_448 : decode cX4_faultOf 448 = .ok (.getfield 92, 3) := dk_180 0 92 (dk_at dksX4_faultOf_19 4 rfl rfl)
theorem dX4_faultOf_451 : decode cX4_faultOf 451 = .ok (.bipush 12, 2) := dk_16 12 (dk_at dksX4_faultOf_19 7 rfl rfl)
theorem dX4_faultOf_453 : decode cX4_faultOf 453 = .ok (.if_icmp .gt 20, 3) := dk_163 0 20 (dk_at dksX4_faultOf_19 9 rfl rfl)
theorem dX4_faultOf_456 : decode cX4_faultOf 456 = .ok (.aload_n 0, 1) := dk_42 (dk_at dksX4_faultOf_19 12 rfl rfl)
theorem dX4_faultOf_457 : decode cX4_faultOf 457 = .ok (.getfield 37, 3) := dk_180 0 37 (dk_at dksX4_faultOf_19 13 rfl rfl)
theorem dX4_faultOf_460 : decode cX4_faultOf 460 = .ok (.iload 5, 2) := dk_21 5 (dk_at dksX4_faultOf_19 16 rfl rfl)
theorem dX4_faultOf_462 : decode cX4_faultOf 462 = .ok (.iload_n 3, 1) := dk_29 (dk_at dksX4_faultOf_19 18 rfl rfl)
theorem dX4_faultOf_463 : decode cX4_faultOf 463 = .ok (.bipush 97, 2) := dk_16 97 (dk_at dksX4_faultOf_19 19 rfl rfl)
theorem dX4_faultOf_465 : decode cX4_faultOf 465 = .ok (.isub, 1) := dk_100 (dk_at dksX4_faultOf_19 21 rfl rfl)
theorem dX4_faultOf_466 : decode cX4_faultOf 466 = .ok (.iastore, 1) := dk_79 (dk_at dksX4_faultOf_19 22 rfl rfl)
theorem dX4_faultOf_467 : decode cX4_faultOf 467 = .ok (.iconst 2, 1) := dk_5 (dk_at dksX4_faultOf_19 23 rfl rfl)
theorem dX4_faultOf_468 : decode cX4_faultOf 468 = .ok (.istore 4, 2) := dk_54 4 (dk_at dksX4_faultOf_20 0 rfl rfl)
theorem dX4_faultOf_470 : decode cX4_faultOf 470 = .ok (.goto 30, 3) := dk_167 0 30 (dk_at dksX4_faultOf_20 2 rfl rfl)
theorem dX4_faultOf_473 : decode cX4_faultOf 473 = .ok (.iload_n 3, 1) := dk_29 (dk_at dksX4_faultOf_20 5 rfl rfl)
theorem dX4_faultOf_474 : decode cX4_faultOf 474 = .ok (.iload 6, 2) := dk_21 6 (dk_at dksX4_faultOf_20 6 rfl rfl)
theorem dX4_faultOf_476 : decode cX4_faultOf 476 = .ok (.ifCond .eq 8, 3) := dk_153 0 8 (dk_at dksX4_faultOf_20 8 rfl rfl)
theorem dX4_faultOf_479 : decode cX4_faultOf 479 = .ok (.bipush 125, 2) := dk_16 125 (dk_at dksX4_faultOf_20 11 rfl rfl)
theorem dX4_faultOf_481 : decode cX4_faultOf 481 = .ok (.goto 5, 3) := dk_167 0 5 (dk_at dksX4_faultOf_20 13 rfl rfl)
theorem dX4_faultOf_484 : decode cX4_faultOf 484 = .ok (.bipush 93, 2) := dk_16 93 (dk_at dksX4_faultOf_20 16 rfl rfl)
theorem dX4_faultOf_486 : decode cX4_faultOf 486 = .ok (.if_icmp .ne 14, 3) := dk_160 0 14 (dk_at dksX4_faultOf_20 18 rfl rfl)
theorem dX4_faultOf_489 : decode cX4_faultOf 489 = .ok (.aload_n 0, 1) := dk_42 (dk_at dksX4_faultOf_20 21 rfl rfl)
theorem dX4_faultOf_490 : decode cX4_faultOf 490 = .ok (.getfield 34, 3) := dk_180 0 34 (dk_at dksX4_faultOf_21 0 rfl rfl)
theorem dX4_faultOf_493 : decode cX4_faultOf 493 = .ok (.iload 5, 2) := dk_21 5 (dk_at dksX4_faultOf_21 3 rfl rfl)
theorem dX4_faultOf_495 : decode cX4_faultOf 495 = .ok (.iconst 0, 1) := dk_3 (dk_at dksX4_faultOf_21 5 rfl rfl)
theorem dX4_faultOf_496 : decode cX4_faultOf 496 = .ok (.iastore, 1) := dk_79 (dk_at dksX4_faultOf_21 6 rfl rfl)
theorem dX4_faultOf_497 : decode cX4_faultOf 497 = .ok (.iconst 5, 1) := dk_8 (dk_at dksX4_faultOf_21 7 rfl rfl)
theorem dX4_faultOf_498 : decode cX4_faultOf 498 = .ok (.istore 4, 2) := dk_54 4 (dk_at dksX4_faultOf_21 8 rfl rfl)
theorem dX4_faultOf_500 : decode cX4_faultOf 500 = .ok (.goto 22, 3) := dk_167 0 22 (dk_at dksX4_faultOf_21 10 rfl rfl)
theorem dX4_faultOf_503 : decode cX4_faultOf 503 = .ok (.iload_n 1, 1) := dk_27 (dk_at dksX4_faultOf_21 13 rfl rfl)
theorem dX4_faultOf_504 : decode cX4_faultOf 504 = .ok (.iconst 4, 1) := dk_7 (dk_at dksX4_faultOf_21 14 rfl rfl)
theorem dX4_faultOf_505 : decode cX4_faultOf 505 = .ok (.if_icmp .ne 17, 3) := dk_160 0 17 (dk_at dksX4_faultOf_21 15 rfl rfl)
theorem dX4_faultOf_508 : decode cX4_faultOf 508 = .ok (.iload_n 3, 1) := dk_29 (dk_at dksX4_faultOf_21 18 rfl rfl)
theorem dX4_faultOf_509 : decode cX4_faultOf 509 = .ok (.bipush 59, 2) := dk_16 59 (dk_at dksX4_faultOf_21 19 rfl rfl)
theorem dX4_faultOf_511 : decode cX4_faultOf 511 = .ok (.if_icmp .ne 7, 3) := dk_160 0 7 (dk_at dksX4_faultOf_21 21 rfl rfl)
theorem dX4_faultOf_514 : decode cX4_faultOf 514 = .ok (.iconst 0, 1) := dk_3 (dk_at dksX4_faultOf_22 0 rfl rfl)
theorem dX4_faultOf_515 : decode cX4_faultOf 515 = .ok (.goto 5, 3) := dk_167 0 5 (dk_at dksX4_faultOf_22 1 rfl rfl)
theorem dX4_faultOf_518 : decode cX4_faultOf 518 = .ok (.bipush (-6), 2) := dk_16 250 (dk_at dksX4_faultOf_22 4 rfl rfl)
theorem dX4_faultOf_520 : decode cX4_faultOf 520 = .ok (.istore 4, 2) := dk_54 4 (dk_at dksX4_faultOf_22 6 rfl rfl)
theorem dX4_faultOf_522 : decode cX4_faultOf 522 = .ok (.iload 4, 2) := dk_21 4 (dk_at dksX4_faultOf_22 8 rfl rfl)
theorem dX4_faultOf_524 : decode cX4_faultOf 524 = .ok (.ifCond .ge 5, 3) := dk_156 0 5 (dk_at dksX4_faultOf_22 10 rfl rfl)
theorem dX4_faultOf_527 : decode cX4_faultOf 527 = .ok (.iload_n 2, 1) := dk_28 (dk_at dksX4_faultOf_22 13 rfl rfl)
theorem dX4_faultOf_528 : decode cX4_faultOf 528 = .ok (.ireturn, 1) := dk_172 (dk_at dksX4_faultOf_22 14 rfl rfl)
theorem dX4_faultOf_529 : decode cX4_faultOf 529 = .ok (.iload 4, 2) := dk_21 4 (dk_at dksX4_faultOf_22 15 rfl rfl)
theorem dX4_faultOf_531 : decode cX4_faultOf 531 = .ok (.iconst 5, 1) := dk_8 (dk_at dksX4_faultOf_22 17 rfl rfl)
theorem dX4_faultOf_532 : decode cX4_faultOf 532 = .ok (.if_icmp .ne 32, 3) := dk_160 0 32 (dk_at dksX4_faultOf_22 18 rfl rfl)
theorem dX4_faultOf_535 : decode cX4_faultOf 535 = .ok (.aload_n 0, 1) := dk_42 (dk_at dksX4_faultOf_22 21 rfl rfl)
theorem dX4_faultOf_536 : decode cX4_faultOf 536 = .ok (.invokevirtual 105, 3) := dk_182 0 105 (dk_at dksX4_faultOf_23 0 rfl rfl)
theorem dX4_faultOf_539 : decode cX4_faultOf 539 = .ok (.istore 5, 2) := dk_54 5 (dk_at dksX4_faultOf_23 3 rfl rfl)
theorem dX4_faultOf_541 : decode cX4_faultOf 541 = .ok (.iload 5, 2) := dk_21 5 (dk_at dksX4_faultOf_23 5 rfl rfl)
theorem dX4_faultOf_543 : decode cX4_faultOf 543 = .ok (.iconst 2, 1) := dk_5 (dk_at dksX4_faultOf_23 7 rfl rfl)
theorem dX4_faultOf_544 : decode cX4_faultOf 544 = .ok (.if_icmp .ne 7, 3) := dk_160 0 7 (dk_at dksX4_faultOf_23 8 rfl rfl)
theorem dX4_faultOf_547 : decode cX4_faultOf 547 = .ok (.iconst 4, 1) := dk_7 (dk_at dksX4_faultOf_23 11 rfl rfl)
theorem dX4_faultOf_548 : decode cX4_faultOf 548 = .ok (.goto 14, 3) := dk_167 0 14 (dk_at dksX4_faultOf_23 12 rfl rfl)
theorem dX4_faultOf_551 : decode cX4_faultOf 551 = .ok (.iload 5, 2) := dk_21 5 (dk_at dksX4_faultOf_23 15 rfl rfl)
theorem dX4_faultOf_553 : decode cX4_faultOf 553 = .ok (.iconst 1, 1) := dk_4 (dk_at dksX4_faultOf_23 17 rfl rfl)
theorem dX4_faultOf_554 : decode cX4_faultOf 554 = .ok (.if_icmp .ne 7, 3) := dk_160 0 7 (dk_at dksX4_faultOf_23 18 rfl rfl)
theorem dX4_faultOf_557 : decode cX4_faultOf 557 = .ok (.iconst 3, 1) := dk_6 (dk_at dksX4_faultOf_23 21 rfl rfl)
theorem dX4_faultOf_558 : decode cX4_faultOf 558 = .ok (.goto 4, 3) := dk_167 0 4 (dk_at dksX4_faultOf_24 0 rfl rfl)
theorem dX4_faultOf_561 : decode cX4_faultOf 561 = .ok (.iconst 2, 1) := dk_5 (dk_at dksX4_faultOf_24 3 rfl rfl)
theorem dX4_faultOf_562 : decode cX4_faultOf 562 = .ok (.istore 4, 2) := dk_54 4 (dk_at dksX4_faultOf_24 4 rfl rfl)
theorem dX4_faultOf_564 : decode cX4_faultOf 564 = .ok (.iload 4, 2) := dk_21 4 (dk_at dksX4_faultOf_24 6 rfl rfl)
theorem dX4_faultOf_566 : decode cX4_faultOf 566 = .ok (.istore_n 1, 1) := dk_60 (dk_at dksX4_faultOf_24 8 rfl rfl)
theorem dX4_faultOf_567 : decode cX4_faultOf 567 = .ok (.iinc 2 1, 3) := dk_132 2 1 (dk_at dksX4_faultOf_24 9 rfl rfl)
theorem dX4_faultOf_570 : decode cX4_faultOf 570 = .ok (.goto (-534), 3) := dk_167 253 234 (dk_at dksX4_faultOf_24 12 rfl rfl)
theorem dX4_faultOf_573 : decode cX4_faultOf 573 = .ok (.iload_n 1, 1) := dk_27 (dk_at dksX4_faultOf_24 15 rfl rfl)
theorem dX4_faultOf_574 : decode cX4_faultOf 574 = .ok (.iconst 4, 1) := dk_7 (dk_at dksX4_faultOf_24 16 rfl rfl)
theorem dX4_faultOf_575 : decode cX4_faultOf 575 = .ok (.if_icmp .ne 8, 3) := dk_160 0 8 (dk_at dksX4_faultOf_24 17 rfl rfl)
theorem dX4_faultOf_578 : decode cX4_faultOf 578 = .ok (.bipush (-6), 2) := dk_16 250 (dk_at dksX4_faultOf_24 20 rfl rfl)
theorem dX4_faultOf_580 : decode cX4_faultOf 580 = .ok (.goto 7, 3) := dk_167 0 7 (dk_at dksX4_faultOf_25 0 rfl rfl)
theorem dX4_faultOf_583 : decode cX4_faultOf 583 = .ok (.aload_n 0, 1) := dk_42 (dk_at dksX4_faultOf_25 3 rfl rfl)
theorem dX4_faultOf_584 : decode cX4_faultOf 584 = .ok (.getfield 88, 3) := dk_180 0 88 (dk_at dksX4_faultOf_25 4 rfl rfl)
theorem dX4_faultOf_587 : decode cX4_faultOf 587 = .ok (.ireturn, 1) := dk_172 (dk_at dksX4_faultOf_25 7 rfl rfl)
abbrev cX4_come : ByteArray := prog_6_method_5_code
def yX4_come : MethodName := ⟨RX4, "come", "(I)V"⟩
def dkwX4_come_4 : List UInt8 := [16, 8, 29, 104, 21, 4, 96, 27, 79, 42, 180, 0, 34, 28, 92, 46, 4, 100, 79, 177]
abbrev dktX4_come_4 : List UInt8 := dkwX4_come_4 ++ []
def dkwX4_come_3 : List UInt8 := [160, 0, 17, 42, 180, 0, 34, 28, 46, 4, 160, 0, 7, 4, 167, 0, 4, 3, 54, 4, 42, 180, 0, 25]
abbrev dktX4_come_3 : List UInt8 := dkwX4_come_3 ++ dktX4_come_4
def dkwX4_come_2 : List UInt8 := [16, 8, 29, 104, 42, 180, 0, 37, 28, 46, 96, 27, 79, 167, 0, 54, 42, 180, 0, 22, 29, 46, 16, 62]
abbrev dktX4_come_2 : List UInt8 := dkwX4_come_2 ++ dktX4_come_3
def dkwX4_come_1 : List UInt8 := [61, 42, 180, 0, 31, 28, 46, 62, 42, 180, 0, 34, 28, 46, 16, 100, 160, 0, 23, 42, 180, 0, 25]
abbrev dktX4_come_1 : List UInt8 := dkwX4_come_1 ++ dktX4_come_2
def dkwX4_come_0 : List UInt8 := [42, 180, 0, 92, 154, 0, 14, 42, 180, 0, 28, 42, 180, 0, 95, 27, 79, 177, 42, 180, 0, 92, 4, 100]
abbrev dktX4_come_0 : List UInt8 := dkwX4_come_0 ++ dktX4_come_1
theorem dksX4_come_0 : cX4_come.data.toList.drop 0 = dktX4_come_0 := by decide +kernel
theorem dksX4_come_1 : cX4_come.data.toList.drop 24 = dktX4_come_1 := dk_seg dksX4_come_0 24 rfl rfl
theorem dksX4_come_2 : cX4_come.data.toList.drop 47 = dktX4_come_2 := dk_seg dksX4_come_1 23 rfl rfl
theorem dksX4_come_3 : cX4_come.data.toList.drop 71 = dktX4_come_3 := dk_seg dksX4_come_2 24 rfl rfl
theorem dksX4_come_4 : cX4_come.data.toList.drop 95 = dktX4_come_4 := dk_seg dksX4_come_3 24 rfl rfl
theorem dX4_come_0 : decode cX4_come 0 = .ok (.aload_n 0, 1) := dk_42 (dk_at dksX4_come_0 0 rfl rfl)
theorem dX4_come_1 : decode cX4_come 1 = .ok (.getfield 92, 3) := dk_180 0 92 (dk_at dksX4_come_0 1 rfl rfl)
theorem dX4_come_4 : decode cX4_come 4 = .ok (.ifCond .ne 14, 3) := dk_154 0 14 (dk_at dksX4_come_0 4 rfl rfl)
theorem dX4_come_7 : decode cX4_come 7 = .ok (.aload_n 0, 1) := dk_42 (dk_at dksX4_come_0 7 rfl rfl)
theorem dX4_come_8 : decode cX4_come 8 = .ok (.getfield 28, 3) := dk_180 0 28 (dk_at dksX4_come_0 8 rfl rfl)
theorem dX4_come_11 : decode cX4_come 11 = .ok (.aload_n 0, 1) := dk_42 (dk_at dksX4_come_0 11 rfl rfl)
theorem dX4_come_12 : decode cX4_come 12 = .ok (.getfield 95, 3) := dk_180 0 95 (dk_at dksX4_come_0 12 rfl rfl)
theorem dX4_come_15 : decode cX4_come 15 = .ok (.iload_n 1, 1) := dk_27 (dk_at dksX4_come_0 15 rfl rfl)
theorem dX4_come_16 : decode cX4_come 16 = .ok (.iastore, 1) := dk_79 (dk_at dksX4_come_0 16 rfl rfl)
theorem dX4_come_17 : decode cX4_come 17 = .ok (.return_, 1) := dk_177 (dk_at dksX4_come_0 17 rfl rfl)
theorem dX4_come_18 : decode cX4_come 18 = .ok (.aload_n 0, 1) := dk_42 (dk_at dksX4_come_0 18 rfl rfl)
theorem dX4_come_19 : decode cX4_come 19 = .ok (.getfield 92, 3) := dk_180 0 92 (dk_at dksX4_come_0 19 rfl rfl)
theorem dX4_come_22 : decode cX4_come 22 = .ok (.iconst 1, 1) := dk_4 (dk_at dksX4_come_0 22 rfl rfl)
theorem dX4_come_23 : decode cX4_come 23 = .ok (.isub, 1) := dk_100 (dk_at dksX4_come_0 23 rfl rfl)
theorem dX4_come_24 : decode cX4_come 24 = .ok (.istore_n 2, 1) := dk_61 (dk_at dksX4_come_1 0 rfl rfl)
theorem dX4_come_25 : decode cX4_come 25 = .ok (.aload_n 0, 1) := dk_42 (dk_at dksX4_come_1 1 rfl rfl)
theorem dX4_come_26 : decode cX4_come 26 = .ok (.getfield 31, 3) := dk_180 0 31 (dk_at dksX4_come_1 2 rfl rfl)
theorem dX4_come_29 : decode cX4_come 29 = .ok (.iload_n 2, 1) := dk_28 (dk_at dksX4_come_1 5 rfl rfl)
theorem dX4_come_30 : decode cX4_come 30 = .ok (.iaload, 1) := dk_46 (dk_at dksX4_come_1 6 rfl rfl)
theorem dX4_come_31 : decode cX4_come 31 = .ok (.istore_n 3, 1) := dk_62 (dk_at dksX4_come_1 7 rfl rfl)
theorem dX4_come_32 : decode cX4_come 32 = .ok (.aload_n 0, 1) := dk_42 (dk_at dksX4_come_1 8 rfl rfl)
theorem dX4_come_33 : decode cX4_come 33 = .ok (.getfield 34, 3) := dk_180 0 34 (dk_at dksX4_come_1 9 rfl rfl)
theorem dX4_come_36 : decode cX4_come 36 = .ok (.iload_n 2, 1) := dk_28 (dk_at dksX4_come_1 12 rfl rfl)
theorem dX4_come_37 : decode cX4_come 37 = .ok (.iaload, 1) := dk_46 (dk_at dksX4_come_1 13 rfl rfl)
theorem dX4_come_38 : decode cX4_come 38 = .ok (.bipush 100, 2) := dk_16 100 (dk_at dksX4_come_1 14 rfl rfl)
theorem dX4_come_40 : decode cX4_come 40 = .ok (.if_icmp .ne 23, 3) := dk_160 0 23 (dk_at dksX4_come_1 16 rfl rfl)
theorem dX4_come_43 : decode cX4_come 43 = .ok (.aload_n 0, 1) := dk_42 (dk_at dksX4_come_1 19 rfl rfl)
theorem dX4_come_44 : decode cX4_come 44 = .ok (.getfield 25, 3) := dk_180 0 25 (dk_at dksX4_come_1 20 rfl rfl)
theorem dX4_come_47 : decode cX4_come 47 = .ok (.bipush 8, 2) := dk_16 8 (dk_at dksX4_come_2 0 rfl rfl)
theorem dX4_come_49 : decode cX4_come 49 = .ok (.iload_n 3, 1) := dk_29 (dk_at dksX4_come_2 2 rfl rfl)
theorem dX4_come_50 : decode cX4_come 50 = .ok (.imul, 1) := dk_104 (dk_at dksX4_come_2 3 rfl rfl)
theorem dX4_come_51 : decode cX4_come 51 = .ok (.aload_n 0, 1) := dk_42 (dk_at dksX4_come_2 4 rfl rfl)
theorem dX4_come_52 : decode cX4_come 52 = .ok (.getfield 37, 3) := dk_180 0 37 (dk_at dksX4_come_2 5 rfl rfl)
theorem dX4_come_55 : decode cX4_come 55 = .ok (.iload_n 2, 1) := dk_28 (dk_at dksX4_come_2 8 rfl rfl)
theorem dX4_come_56 : decode cX4_come 56 = .ok (.iaload, 1) := dk_46 (dk_at dksX4_come_2 9 rfl rfl)
theorem dX4_come_57 : decode cX4_come 57 = .ok (.iadd, 1) := dk_96 (dk_at dksX4_come_2 10 rfl rfl)
theorem dX4_come_58 : decode cX4_come 58 = .ok (.iload_n 1, 1) := dk_27 (dk_at dksX4_come_2 11 rfl rfl)
theorem dX4_come_59 : decode cX4_come 59 = .ok (.iastore, 1) := dk_79 (dk_at dksX4_come_2 12 rfl rfl)
theorem dX4_come_60 : decode cX4_come 60 = .ok (.goto 54, 3) := dk_167 0 54 (dk_at dksX4_come_2 13 rfl rfl)
theorem dX4_come_63 : decode cX4_come 63 = .ok (.aload_n 0, 1) := dk_42 (dk_at dksX4_come_2 16 rfl rfl)
theorem dX4_come_64 : decode cX4_come 64 = .ok (.getfield 22, 3) := dk_180 0 22 (dk_at dksX4_come_2 17 rfl rfl)
theorem dX4_come_67 : decode cX4_come 67 = .ok (.iload_n 3, 1) := dk_29 (dk_at dksX4_come_2 20 rfl rfl)
theorem dX4_come_68 : decode cX4_come 68 = .ok (.iaload, 1) := dk_46 (dk_at dksX4_come_2 21 rfl rfl)
theorem dX4_come_69 : decode cX4_come 69 = .ok (.bipush 62, 2) := dk_16 62 (dk_at dksX4_come_2 22 rfl rfl)
theorem dX4_come_71 : decode cX4_come 71 = .ok (.if_icmp .ne 17, 3) := dk_160 0 17 (dk_at dksX4_come_3 0 rfl rfl)
theorem dX4_come_74 : decode cX4_come 74 = .ok (.aload_n 0, 1) := dk_42 (dk_at dksX4_come_3 3 rfl rfl)
theorem dX4_come_75 : decode cX4_come 75 = .ok (.getfield 34, 3) := dk_180 0 34 (dk_at dksX4_come_3 4 rfl rfl)
theorem dX4_come_78 : decode cX4_come 78 = .ok (.iload_n 2, 1) := dk_28 (dk_at dksX4_come_3 7 rfl rfl)
theorem dX4_come_79 : decode cX4_come 79 = .ok (.iaload, 1) := dk_46 (dk_at dksX4_come_3 8 rfl rfl)
theorem dX4_come_80 : decode cX4_come 80 = .ok (.iconst 1, 1) := dk_4 (dk_at dksX4_come_3 9 rfl rfl)
theorem dX4_come_81 : decode cX4_come 81 = .ok (.if_icmp .ne 7, 3) := dk_160 0 7 (dk_at dksX4_come_3 10 rfl rfl)
theorem dX4_come_84 : decode cX4_come 84 = .ok (.iconst 1, 1) := dk_4 (dk_at dksX4_come_3 13 rfl rfl)
theorem dX4_come_85 : decode cX4_come 85 = .ok (.goto 4, 3) := dk_167 0 4 (dk_at dksX4_come_3 14 rfl rfl)
theorem dX4_come_88 : decode cX4_come 88 = .ok (.iconst 0, 1) := dk_3 (dk_at dksX4_come_3 17 rfl rfl)
theorem dX4_come_89 : decode cX4_come 89 = .ok (.istore 4, 2) := dk_54 4 (dk_at dksX4_come_3 18 rfl rfl)
theorem dX4_come_91 : decode cX4_come 91 = .ok (.aload_n 0, 1) := dk_42 (dk_at dksX4_come_3 20 rfl rfl)
theorem dX4_come_92 : decode cX4_come 92 = .ok (.getfield 25, 3) := dk_180 0 25 (dk_at dksX4_come_3 21 rfl rfl)
theorem dX4_come_95 : decode cX4_come 95 = .ok (.bipush 8, 2) := dk_16 8 (dk_at dksX4_come_4 0 rfl rfl)
theorem dX4_come_97 : decode cX4_come 97 = .ok (.iload_n 3, 1) := dk_29 (dk_at dksX4_come_4 2 rfl rfl)
theorem dX4_come_98 : decode cX4_come 98 = .ok (.imul, 1) := dk_104 (dk_at dksX4_come_4 3 rfl rfl)
theorem dX4_come_99 : decode cX4_come 99 = .ok (.iload 4, 2) := dk_21 4 (dk_at dksX4_come_4 4 rfl rfl)
theorem dX4_come_101 : decode cX4_come 101 = .ok (.iadd, 1) := dk_96 (dk_at dksX4_come_4 6 rfl rfl)
theorem dX4_come_102 : decode cX4_come 102 = .ok (.iload_n 1, 1) := dk_27 (dk_at dksX4_come_4 7 rfl rfl)
theorem dX4_come_103 : decode cX4_come 103 = .ok (.iastore, 1) := dk_79 (dk_at dksX4_come_4 8 rfl rfl)
theorem dX4_come_104 : decode cX4_come 104 = .ok (.aload_n 0, 1) := dk_42 (dk_at dksX4_come_4 9 rfl rfl)
theorem dX4_come_105 : decode cX4_come 105 = .ok (.getfield 34, 3) := dk_180 0 34 (dk_at dksX4_come_4 10 rfl rfl)
theorem dX4_come_108 : decode cX4_come 108 = .ok (.iload_n 2, 1) := dk_28 (dk_at dksX4_come_4 13 rfl rfl)
theorem dX4_come_109 : decode cX4_come 109 = .ok (.dup2, 1) := dk_92 (dk_at dksX4_come_4 14 rfl rfl)
theorem dX4_come_110 : decode cX4_come 110 = .ok (.iaload, 1) := dk_46 (dk_at dksX4_come_4 15 rfl rfl)
theorem dX4_come_111 : decode cX4_come 111 = .ok (.iconst 1, 1) := dk_4 (dk_at dksX4_come_4 16 rfl rfl)
theorem dX4_come_112 : decode cX4_come 112 = .ok (.isub, 1) := dk_100 (dk_at dksX4_come_4 17 rfl rfl)
theorem dX4_come_113 : decode cX4_come 113 = .ok (.iastore, 1) := dk_79 (dk_at dksX4_come_4 18 rfl rfl)
theorem dX4_come_114 : decode cX4_come 114 = .ok (.return_, 1) := dk_177 (dk_at dksX4_come_4 19 rfl rfl)
abbrev cX4_settle : ByteArray := prog_6_method_6_code
def yX4_settle : MethodName := ⟨RX4, "settle", "()I"⟩
def dkwX4_settle_2 : List UInt8 := [180, 0, 34, 42, 180, 0, 92, 4, 100, 46, 16, 100, 160, 0, 7, 4, 167, 0, 4, 3, 172]
abbrev dktX4_settle_2 : List UInt8 := dkwX4_settle_2 ++ []
def dkwX4_settle_1 : List UInt8 := [180, 0, 92, 4, 100, 181, 0, 92, 167, 255, 225, 42, 180, 0, 92, 154, 0, 7, 5, 167, 0, 24, 42]
abbrev dktX4_settle_1 : List UInt8 := dkwX4_settle_1 ++ dktX4_settle_2
def dkwX4_settle_0 : List UInt8 := [42, 180, 0, 92, 158, 0, 30, 42, 180, 0, 34, 42, 180, 0, 92, 4, 100, 46, 154, 0, 16, 42, 89]
abbrev dktX4_settle_0 : List UInt8 := dkwX4_settle_0 ++ dktX4_settle_1
theorem dksX4_settle_0 : cX4_settle.data.toList.drop 0 = dktX4_settle_0 := by decide +kernel
theorem dksX4_settle_1 : cX4_settle.data.toList.drop 23 = dktX4_settle_1 := dk_seg dksX4_settle_0 23 rfl rfl
theorem dksX4_settle_2 : cX4_settle.data.toList.drop 46 = dktX4_settle_2 := dk_seg dksX4_settle_1 23 rfl rfl
theorem dX4_settle_0 : decode cX4_settle 0 = .ok (.aload_n 0, 1) := dk_42 (dk_at dksX4_settle_0 0 rfl rfl)
theorem dX4_settle_1 : decode cX4_settle 1 = .ok (.getfield 92, 3) := dk_180 0 92 (dk_at dksX4_settle_0 1 rfl rfl)
theorem dX4_settle_4 : decode cX4_settle 4 = .ok (.ifCond .le 30, 3) := dk_158 0 30 (dk_at dksX4_settle_0 4 rfl rfl)
theorem dX4_settle_7 : decode cX4_settle 7 = .ok (.aload_n 0, 1) := dk_42 (dk_at dksX4_settle_0 7 rfl rfl)
theorem dX4_settle_8 : decode cX4_settle 8 = .ok (.getfield 34, 3) := dk_180 0 34 (dk_at dksX4_settle_0 8 rfl rfl)
theorem dX4_settle_11 : decode cX4_settle 11 = .ok (.aload_n 0, 1) := dk_42 (dk_at dksX4_settle_0 11 rfl rfl)
theorem dX4_settle_12 : decode cX4_settle 12 = .ok (.getfield 92, 3) := dk_180 0 92 (dk_at dksX4_settle_0 12 rfl rfl)
theorem dX4_settle_15 : decode cX4_settle 15 = .ok (.iconst 1, 1) := dk_4 (dk_at dksX4_settle_0 15 rfl rfl)
theorem dX4_settle_16 : decode cX4_settle 16 = .ok (.isub, 1) := dk_100 (dk_at dksX4_settle_0 16 rfl rfl)
theorem dX4_settle_17 : decode cX4_settle 17 = .ok (.iaload, 1) := dk_46 (dk_at dksX4_settle_0 17 rfl rfl)
theorem dX4_settle_18 : decode cX4_settle 18 = .ok (.ifCond .ne 16, 3) := dk_154 0 16 (dk_at dksX4_settle_0 18 rfl rfl)
theorem dX4_settle_21 : decode cX4_settle 21 = .ok (.aload_n 0, 1) := dk_42 (dk_at dksX4_settle_0 21 rfl rfl)
theorem dX4_settle_22 : decode cX4_settle 22 = .ok (.dup, 1) := dk_89 (dk_at dksX4_settle_0 22 rfl rfl)
theorem dX4_settle_23 : decode cX4_settle 23 = .ok (.getfield 92, 3) := dk_180 0 92 (dk_at dksX4_settle_1 0 rfl rfl)
theorem dX4_settle_26 : decode cX4_settle 26 = .ok (.iconst 1, 1) := dk_4 (dk_at dksX4_settle_1 3 rfl rfl)
theorem dX4_settle_27 : decode cX4_settle 27 = .ok (.isub, 1) := dk_100 (dk_at dksX4_settle_1 4 rfl rfl)
theorem dX4_settle_28 : decode cX4_settle 28 = .ok (.putfield 92, 3) := dk_181 0 92 (dk_at dksX4_settle_1 5 rfl rfl)
theorem dX4_settle_31 : decode cX4_settle 31 = .ok (.goto (-31), 3) := dk_167 255 225 (dk_at dksX4_settle_1 8 rfl rfl)
theorem dX4_settle_34 : decode cX4_settle 34 = .ok (.aload_n 0, 1) := dk_42 (dk_at dksX4_settle_1 11 rfl rfl)
theorem dX4_settle_35 : decode cX4_settle 35 = .ok (.getfield 92, 3) := dk_180 0 92 (dk_at dksX4_settle_1 12 rfl rfl)
theorem dX4_settle_38 : decode cX4_settle 38 = .ok (.ifCond .ne 7, 3) := dk_154 0 7 (dk_at dksX4_settle_1 15 rfl rfl)
theorem dX4_settle_41 : decode cX4_settle 41 = .ok (.iconst 2, 1) := dk_5 (dk_at dksX4_settle_1 18 rfl rfl)
theorem dX4_settle_42 : decode cX4_settle 42 = .ok (.goto 24, 3) := dk_167 0 24 (dk_at dksX4_settle_1 19 rfl rfl)
theorem dX4_settle_45 : decode cX4_settle 45 = .ok (.aload_n 0, 1) := dk_42 (dk_at dksX4_settle_1 22 rfl rfl)
theorem dX4_settle_46 : decode cX4_settle 46 = .ok (.getfield 34, 3) := dk_180 0 34 (dk_at dksX4_settle_2 0 rfl rfl)
theorem dX4_settle_49 : decode cX4_settle 49 = .ok (.aload_n 0, 1) := dk_42 (dk_at dksX4_settle_2 3 rfl rfl)
theorem dX4_settle_50 : decode cX4_settle 50 = .ok (.getfield 92, 3) := dk_180 0 92 (dk_at dksX4_settle_2 4 rfl rfl)
theorem dX4_settle_53 : decode cX4_settle 53 = .ok (.iconst 1, 1) := dk_4 (dk_at dksX4_settle_2 7 rfl rfl)
theorem dX4_settle_54 : decode cX4_settle 54 = .ok (.isub, 1) := dk_100 (dk_at dksX4_settle_2 8 rfl rfl)
theorem dX4_settle_55 : decode cX4_settle 55 = .ok (.iaload, 1) := dk_46 (dk_at dksX4_settle_2 9 rfl rfl)
theorem dX4_settle_56 : decode cX4_settle 56 = .ok (.bipush 100, 2) := dk_16 100 (dk_at dksX4_settle_2 10 rfl rfl)
theorem dX4_settle_58 : decode cX4_settle 58 = .ok (.if_icmp .ne 7, 3) := dk_160 0 7 (dk_at dksX4_settle_2 12 rfl rfl)
theorem dX4_settle_61 : decode cX4_settle 61 = .ok (.iconst 1, 1) := dk_4 (dk_at dksX4_settle_2 15 rfl rfl)
theorem dX4_settle_62 : decode cX4_settle 62 = .ok (.goto 4, 3) := dk_167 0 4 (dk_at dksX4_settle_2 16 rfl rfl)
theorem dX4_settle_65 : decode cX4_settle 65 = .ok (.iconst 0, 1) := dk_3 (dk_at dksX4_settle_2 19 rfl rfl)
theorem dX4_settle_66 : decode cX4_settle 66 = .ok (.ireturn, 1) := dk_172 (dk_at dksX4_settle_2 20 rfl rfl)
abbrev cX4_take : ByteArray := prog_6_method_10_code
def yX4_take : MethodName := ⟨RX4, "take", "()I"⟩
def dkwX4_take_11 : List UInt8 := [172]
abbrev dktX4_take_11 : List UInt8 := dkwX4_take_11 ++ []
def dkwX4_take_10 : List UInt8 := [182, 0, 112, 79, 132, 1, 1, 167, 255, 215, 42, 3, 181, 0, 88, 42, 3, 181, 0, 119, 42, 180, 0, 116]
abbrev dktX4_take_10 : List UInt8 := dkwX4_take_10 ++ dktX4_take_11
def dkwX4_take_9 : List UInt8 := [180, 0, 28, 27, 46, 16, 250, 160, 0, 8, 16, 250, 167, 0, 13, 42, 42, 180, 0, 28, 27, 46]
abbrev dktX4_take_9 : List UInt8 := dkwX4_take_9 ++ dktX4_take_10
def dkwX4_take_8 : List UInt8 := [182, 0, 112, 79, 132, 1, 1, 167, 255, 210, 3, 60, 27, 16, 8, 162, 0, 41, 42, 180, 0, 19, 27, 42]
abbrev dktX4_take_8 : List UInt8 := dkwX4_take_8 ++ dktX4_take_9
def dkwX4_take_7 : List UInt8 := [180, 0, 25, 27, 46, 16, 250, 160, 0, 8, 16, 250, 167, 0, 13, 42, 42, 180, 0, 25, 27, 46]
abbrev dktX4_take_7 : List UInt8 := dkwX4_take_7 ++ dktX4_take_8
def dkwX4_take_6 : List UInt8 := [167, 255, 233, 3, 60, 27, 16, 8, 42, 180, 0, 98, 104, 162, 0, 41, 42, 180, 0, 16, 27, 42]
abbrev dktX4_take_6 : List UInt8 := dkwX4_take_6 ++ dktX4_take_7
def dkwX4_take_5 : List UInt8 := [60, 27, 42, 180, 0, 98, 162, 0, 21, 42, 180, 0, 13, 27, 42, 180, 0, 22, 27, 46, 79, 132, 1, 1]
abbrev dktX4_take_5 : List UInt8 := dkwX4_take_5 ++ dktX4_take_6
def dkwX4_take_4 : List UInt8 := [167, 255, 215, 42, 180, 0, 98, 16, 40, 164, 0, 6, 16, 252, 172, 42, 42, 180, 0, 98, 181, 0, 116, 3]
abbrev dktX4_take_4 : List UInt8 := dkwX4_take_4 ++ dktX4_take_5
def dkwX4_take_3 : List UInt8 := [159, 0, 19, 42, 42, 180, 0, 25, 27, 46, 182, 0, 112, 156, 0, 6, 16, 251, 172, 132, 1, 1]
abbrev dktX4_take_3 : List UInt8 := dkwX4_take_3 ++ dktX4_take_4
def dkwX4_take_2 : List UInt8 := [167, 255, 220, 3, 60, 27, 16, 8, 42, 180, 0, 98, 104, 162, 0, 36, 42, 180, 0, 25, 27, 46, 16, 250]
abbrev dktX4_take_2 : List UInt8 := dkwX4_take_2 ++ dktX4_take_3
def dkwX4_take_1 : List UInt8 := [16, 250, 159, 0, 19, 42, 42, 180, 0, 28, 27, 46, 182, 0, 112, 156, 0, 6, 16, 251, 172, 132, 1, 1]
abbrev dktX4_take_1 : List UInt8 := dkwX4_take_1 ++ dktX4_take_2
def dkwX4_take_0 : List UInt8 := [42, 182, 0, 109, 155, 0, 6, 16, 251, 172, 3, 60, 27, 16, 8, 162, 0, 36, 42, 180, 0, 28, 27, 46]
abbrev dktX4_take_0 : List UInt8 := dkwX4_take_0 ++ dktX4_take_1
theorem dksX4_take_0 : cX4_take.data.toList.drop 0 = dktX4_take_0 := by decide +kernel
theorem dksX4_take_1 : cX4_take.data.toList.drop 24 = dktX4_take_1 := dk_seg dksX4_take_0 24 rfl rfl
theorem dksX4_take_2 : cX4_take.data.toList.drop 48 = dktX4_take_2 := dk_seg dksX4_take_1 24 rfl rfl
theorem dksX4_take_3 : cX4_take.data.toList.drop 72 = dktX4_take_3 := dk_seg dksX4_take_2 24 rfl rfl
theorem dksX4_take_4 : cX4_take.data.toList.drop 94 = dktX4_take_4 := dk_seg dksX4_take_3 22 rfl rfl
theorem dksX4_take_5 : cX4_take.data.toList.drop 118 = dktX4_take_5 := dk_seg dksX4_take_4 24 rfl rfl
theorem dksX4_take_6 : cX4_take.data.toList.drop 142 = dktX4_take_6 := dk_seg dksX4_take_5 24 rfl rfl
theorem dksX4_take_7 : cX4_take.data.toList.drop 164 = dktX4_take_7 := dk_seg dksX4_take_6 22 rfl rfl
theorem dksX4_take_8 : cX4_take.data.toList.drop 186 = dktX4_take_8 := dk_seg dksX4_take_7 22 rfl rfl
theorem dksX4_take_9 : cX4_take.data.toList.drop 210 = dktX4_take_9 := dk_seg dksX4_take_8 24 rfl rfl
theorem dksX4_take_10 : cX4_take.data.toList.drop 232 = dktX4_take_10 := dk_seg dksX4_take_9 22 rfl rfl
theorem dksX4_take_11 : cX4_take.data.toList.drop 256 = dktX4_take_11 := dk_seg dksX4_take_10 24 rfl rfl
theorem dX4_take_0 : decode cX4_take 0 = .ok (.aload_n 0, 1) := dk_42 (dk_at dksX4_take_0 0 rfl rfl)
theorem dX4_take_1 : decode cX4_take 1 = .ok (.invokevirtual 109, 3) := dk_182 0 109 (dk_at dksX4_take_0 1 rfl rfl)
theorem dX4_take_4 : decode cX4_take 4 = .ok (.ifCond .lt 6, 3) := dk_155 0 6 (dk_at dksX4_take_0 4 rfl rfl)
theorem dX4_take_7 : decode cX4_take 7 = .ok (.bipush (-5), 2) := dk_16 251 (dk_at dksX4_take_0 7 rfl rfl)
theorem dX4_take_9 : decode cX4_take 9 = .ok (.ireturn, 1) := dk_172 (dk_at dksX4_take_0 9 rfl rfl)
theorem dX4_take_10 : decode cX4_take 10 = .ok (.iconst 0, 1) := dk_3 (dk_at dksX4_take_0 10 rfl rfl)
theorem dX4_take_11 : decode cX4_take 11 = .ok (.istore_n 1, 1) := dk_60 (dk_at dksX4_take_0 11 rfl rfl)
theorem dX4_take_12 : decode cX4_take 12 = .ok (.iload_n 1, 1) := dk_27 (dk_at dksX4_take_0 12 rfl rfl)
theorem dX4_take_13 : decode cX4_take 13 = .ok (.bipush 8, 2) := dk_16 8 (dk_at dksX4_take_0 13 rfl rfl)
theorem dX4_take_15 : decode cX4_take 15 = .ok (.if_icmp .ge 36, 3) := dk_162 0 36 (dk_at dksX4_take_0 15 rfl rfl)
theorem dX4_take_18 : decode cX4_take 18 = .ok (.aload_n 0, 1) := dk_42 (dk_at dksX4_take_0 18 rfl rfl)
theorem dX4_take_19 : decode cX4_take 19 = .ok (.getfield 28, 3) := dk_180 0 28 (dk_at dksX4_take_0 19 rfl rfl)
theorem dX4_take_22 : decode cX4_take 22 = .ok (.iload_n 1, 1) := dk_27 (dk_at dksX4_take_0 22 rfl rfl)
theorem dX4_take_23 : decode cX4_take 23 = .ok (.iaload, 1) := dk_46 (dk_at dksX4_take_0 23 rfl rfl)
theorem dX4_take_24 : decode cX4_take 24 = .ok (.bipush (-6), 2) := dk_16 250 (dk_at dksX4_take_1 0 rfl rfl)
theorem dX4_take_26 : decode cX4_take 26 = .ok (.if_icmp .eq 19, 3) := dk_159 0 19 (dk_at dksX4_take_1 2 rfl rfl)
theorem dX4_take_29 : decode cX4_take 29 = .ok (.aload_n 0, 1) := dk_42 (dk_at dksX4_take_1 5 rfl rfl)
theorem dX4_take_30 : decode cX4_take 30 = .ok (.aload_n 0, 1) := dk_42 (dk_at dksX4_take_1 6 rfl rfl)
theorem dX4_take_31 : decode cX4_take 31 = .ok (.getfield 28, 3) := dk_180 0 28 (dk_at dksX4_take_1 7 rfl rfl)
theorem dX4_take_34 : decode cX4_take 34 = .ok (.iload_n 1, 1) := dk_27 (dk_at dksX4_take_1 10 rfl rfl)
theorem dX4_take_35 : decode cX4_take 35 = .ok (.iaload, 1) := dk_46 (dk_at dksX4_take_1 11 rfl rfl)
theorem dX4_take_36 : decode cX4_take 36 = .ok (.invokevirtual 112, 3) := dk_182 0 112 (dk_at dksX4_take_1 12 rfl rfl)
theorem dX4_take_39 : decode cX4_take 39 = .ok (.ifCond .ge 6, 3) := dk_156 0 6 (dk_at dksX4_take_1 15 rfl rfl)
theorem dX4_take_42 : decode cX4_take 42 = .ok (.bipush (-5), 2) := dk_16 251 (dk_at dksX4_take_1 18 rfl rfl)
theorem dX4_take_44 : decode cX4_take 44 = .ok (.ireturn, 1) := dk_172 (dk_at dksX4_take_1 20 rfl rfl)
theorem dX4_take_45 : decode cX4_take 45 = .ok (.iinc 1 1, 3) := dk_132 1 1 (dk_at dksX4_take_1 21 rfl rfl)
theorem dX4_take_48 : decode cX4_take 48 = .ok (.goto (-36), 3) := dk_167 255 220 (dk_at dksX4_take_2 0 rfl rfl)
theorem dX4_take_51 : decode cX4_take 51 = .ok (.iconst 0, 1) := dk_3 (dk_at dksX4_take_2 3 rfl rfl)
theorem dX4_take_52 : decode cX4_take 52 = .ok (.istore_n 1, 1) := dk_60 (dk_at dksX4_take_2 4 rfl rfl)
theorem dX4_take_53 : decode cX4_take 53 = .ok (.iload_n 1, 1) := dk_27 (dk_at dksX4_take_2 5 rfl rfl)
theorem dX4_take_54 : decode cX4_take 54 = .ok (.bipush 8, 2) := dk_16 8 (dk_at dksX4_take_2 6 rfl rfl)
theorem dX4_take_56 : decode cX4_take 56 = .ok (.aload_n 0, 1) := dk_42 (dk_at dksX4_take_2 8 rfl rfl)
theorem dX4_take_57 : decode cX4_take 57 = .ok (.getfield 98, 3) := dk_180 0 98 (dk_at dksX4_take_2 9 rfl rfl)
theorem dX4_take_60 : decode cX4_take 60 = .ok (.imul, 1) := dk_104 (dk_at dksX4_take_2 12 rfl rfl)
theorem dX4_take_61 : decode cX4_take 61 = .ok (.if_icmp .ge 36, 3) := dk_162 0 36 (dk_at dksX4_take_2 13 rfl rfl)
theorem dX4_take_64 : decode cX4_take 64 = .ok (.aload_n 0, 1) := dk_42 (dk_at dksX4_take_2 16 rfl rfl)
theorem dX4_take_65 : decode cX4_take 65 = .ok (.getfield 25, 3) := dk_180 0 25 (dk_at dksX4_take_2 17 rfl rfl)
theorem dX4_take_68 : decode cX4_take 68 = .ok (.iload_n 1, 1) := dk_27 (dk_at dksX4_take_2 20 rfl rfl)
theorem dX4_take_69 : decode cX4_take 69 = .ok (.iaload, 1) := dk_46 (dk_at dksX4_take_2 21 rfl rfl)
theorem dX4_take_70 : decode cX4_take 70 = .ok (.bipush (-6), 2) := dk_16 250 (dk_at dksX4_take_2 22 rfl rfl)
theorem dX4_take_72 : decode cX4_take 72 = .ok (.if_icmp .eq 19, 3) := dk_159 0 19 (dk_at dksX4_take_3 0 rfl rfl)
theorem dX4_take_75 : decode cX4_take 75 = .ok (.aload_n 0, 1) := dk_42 (dk_at dksX4_take_3 3 rfl rfl)
theorem dX4_take_76 : decode cX4_take 76 = .ok (.aload_n 0, 1) := dk_42 (dk_at dksX4_take_3 4 rfl rfl)
theorem dX4_take_77 : decode cX4_take 77 = .ok (.getfield 25, 3) := dk_180 0 25 (dk_at dksX4_take_3 5 rfl rfl)
theorem dX4_take_80 : decode cX4_take 80 = .ok (.iload_n 1, 1) := dk_27 (dk_at dksX4_take_3 8 rfl rfl)
theorem dX4_take_81 : decode cX4_take 81 = .ok (.iaload, 1) := dk_46 (dk_at dksX4_take_3 9 rfl rfl)
theorem dX4_take_82 : decode cX4_take 82 = .ok (.invokevirtual 112, 3) := dk_182 0 112 (dk_at dksX4_take_3 10 rfl rfl)
theorem dX4_take_85 : decode cX4_take 85 = .ok (.ifCond .ge 6, 3) := dk_156 0 6 (dk_at dksX4_take_3 13 rfl rfl)
theorem dX4_take_88 : decode cX4_take 88 = .ok (.bipush (-5), 2) := dk_16 251 (dk_at dksX4_take_3 16 rfl rfl)
theorem dX4_take_90 : decode cX4_take 90 = .ok (.ireturn, 1) := dk_172 (dk_at dksX4_take_3 18 rfl rfl)
theorem dX4_take_91 : decode cX4_take 91 = .ok (.iinc 1 1, 3) := dk_132 1 1 (dk_at dksX4_take_3 19 rfl rfl)
theorem dX4_take_94 : decode cX4_take 94 = .ok (.goto (-41), 3) := dk_167 255 215 (dk_at dksX4_take_4 0 rfl rfl)
theorem dX4_take_97 : decode cX4_take 97 = .ok (.aload_n 0, 1) := dk_42 (dk_at dksX4_take_4 3 rfl rfl)
theorem dX4_take_98 : decode cX4_take 98 = .ok (.getfield 98, 3) := dk_180 0 98 (dk_at dksX4_take_4 4 rfl rfl)
theorem dX4_take_101 : decode cX4_take 101 = .ok (.bipush 40, 2) := dk_16 40 (dk_at dksX4_take_4 7 rfl rfl)
theorem dX4_take_103 : decode cX4_take 103 = .ok (.if_icmp .le 6, 3) := dk_164 0 6 (dk_at dksX4_take_4 9 rfl rfl)
theorem dX4_take_106 : decode cX4_take 106 = .ok (.bipush (-4), 2) := dk_16 252 (dk_at dksX4_take_4 12 rfl rfl)
theorem dX4_take_108 : decode cX4_take 108 = .ok (.ireturn, 1) := dk_172 (dk_at dksX4_take_4 14 rfl rfl)
theorem dX4_take_109 : decode cX4_take 109 = .ok (.aload_n 0, 1) := dk_42 (dk_at dksX4_take_4 15 rfl rfl)
theorem dX4_take_110 : decode cX4_take 110 = .ok (.aload_n 0, 1) := dk_42 (dk_at dksX4_take_4 16 rfl rfl)
theorem dX4_take_111 : decode cX4_take 111 = .ok (.getfield 98, 3) := dk_180 0 98 (dk_at dksX4_take_4 17 rfl rfl)
theorem dX4_take_114 : decode cX4_take 114 = .ok (.putfield 116, 3) := dk_181 0 116 (dk_at dksX4_take_4 20 rfl rfl)
theorem dX4_take_117 : decode cX4_take 117 = .ok (.iconst 0, 1) := dk_3 (dk_at dksX4_take_4 23 rfl rfl)
theorem dX4_take_118 : decode cX4_take 118 = .ok (.istore_n 1, 1) := dk_60 (dk_at dksX4_take_5 0 rfl rfl)
theorem dX4_take_119 : decode cX4_take 119 = .ok (.iload_n 1, 1) := dk_27 (dk_at dksX4_take_5 1 rfl rfl)
theorem dX4_take_120 : decode cX4_take 120 = .ok (.aload_n 0, 1) := dk_42 (dk_at dksX4_take_5 2 rfl rfl)
theorem dX4_take_121 : decode cX4_take 121 = .ok (.getfield 98, 3) := dk_180 0 98 (dk_at dksX4_take_5 3 rfl rfl)
theorem dX4_take_124 : decode cX4_take 124 = .ok (.if_icmp .ge 21, 3) := dk_162 0 21 (dk_at dksX4_take_5 6 rfl rfl)
theorem dX4_take_127 : decode cX4_take 127 = .ok (.aload_n 0, 1) := dk_42 (dk_at dksX4_take_5 9 rfl rfl)
theorem dX4_take_128 : decode cX4_take 128 = .ok (.getfield 13, 3) := dk_180 0 13 (dk_at dksX4_take_5 10 rfl rfl)
theorem dX4_take_131 : decode cX4_take 131 = .ok (.iload_n 1, 1) := dk_27 (dk_at dksX4_take_5 13 rfl rfl)
theorem dX4_take_132 : decode cX4_take 132 = .ok (.aload_n 0, 1) := dk_42 (dk_at dksX4_take_5 14 rfl rfl)
theorem dX4_take_133 : decode cX4_take 133 = .ok (.getfield 22, 3) := dk_180 0 22 (dk_at dksX4_take_5 15 rfl rfl)
theorem dX4_take_136 : decode cX4_take 136 = .ok (.iload_n 1, 1) := dk_27 (dk_at dksX4_take_5 18 rfl rfl)
theorem dX4_take_137 : decode cX4_take 137 = .ok (.iaload, 1) := dk_46 (dk_at dksX4_take_5 19 rfl rfl)
theorem dX4_take_138 : decode cX4_take 138 = .ok (.iastore, 1) := dk_79 (dk_at dksX4_take_5 20 rfl rfl)
theorem dX4_take_139 : decode cX4_take 139 = .ok (.iinc 1 1, 3) := dk_132 1 1 (dk_at dksX4_take_5 21 rfl rfl)
theorem dX4_take_142 : decode cX4_take 142 = .ok (.goto (-23), 3) := dk_167 255 233 (dk_at dksX4_take_6 0 rfl rfl)
theorem dX4_take_145 : decode cX4_take 145 = .ok (.iconst 0, 1) := dk_3 (dk_at dksX4_take_6 3 rfl rfl)
theorem dX4_take_146 : decode cX4_take 146 = .ok (.istore_n 1, 1) := dk_60 (dk_at dksX4_take_6 4 rfl rfl)
theorem dX4_take_147 : decode cX4_take 147 = .ok (.iload_n 1, 1) := dk_27 (dk_at dksX4_take_6 5 rfl rfl)
theorem dX4_take_148 : decode cX4_take 148 = .ok (.bipush 8, 2) := dk_16 8 (dk_at dksX4_take_6 6 rfl rfl)
theorem dX4_take_150 : decode cX4_take 150 = .ok (.aload_n 0, 1) := dk_42 (dk_at dksX4_take_6 8 rfl rfl)
theorem dX4_take_151 : decode cX4_take 151 = .ok (.getfield 98, 3) := dk_180 0 98 (dk_at dksX4_take_6 9 rfl rfl)
theorem dX4_take_154 : decode cX4_take 154 = .ok (.imul, 1) := dk_104 (dk_at dksX4_take_6 12 rfl rfl)
theorem dX4_take_155 : decode cX4_take 155 = .ok (.if_icmp .ge 41, 3) := dk_162 0 41 (dk_at dksX4_take_6 13 rfl rfl)
theorem dX4_take_158 : decode cX4_take 158 = .ok (.aload_n 0, 1) := dk_42 (dk_at dksX4_take_6 16 rfl rfl)
theorem dX4_take_159 : decode cX4_take 159 = .ok (.getfield 16, 3) := dk_180 0 16 (dk_at dksX4_take_6 17 rfl rfl)
theorem dX4_take_162 : decode cX4_take 162 = .ok (.iload_n 1, 1) := dk_27 (dk_at dksX4_take_6 20 rfl rfl)
theorem dX4_take_163 : decode cX4_take 163 = .ok (.aload_n 0, 1) := dk_42 (dk_at dksX4_take_6 21 rfl rfl)
theorem dX4_take_164 : decode cX4_take 164 = .ok (.getfield 25, 3) := dk_180 0 25 (dk_at dksX4_take_7 0 rfl rfl)
theorem dX4_take_167 : decode cX4_take 167 = .ok (.iload_n 1, 1) := dk_27 (dk_at dksX4_take_7 3 rfl rfl)
theorem dX4_take_168 : decode cX4_take 168 = .ok (.iaload, 1) := dk_46 (dk_at dksX4_take_7 4 rfl rfl)
theorem dX4_take_169 : decode cX4_take 169 = .ok (.bipush (-6), 2) := dk_16 250 (dk_at dksX4_take_7 5 rfl rfl)
theorem dX4_take_171 : decode cX4_take 171 = .ok (.if_icmp .ne 8, 3) := dk_160 0 8 (dk_at dksX4_take_7 7 rfl rfl)
theorem dX4_take_174 : decode cX4_take 174 = .ok (.bipush (-6), 2) := dk_16 250 (dk_at dksX4_take_7 10 rfl rfl)
theorem dX4_take_176 : decode cX4_take 176 = .ok (.goto 13, 3) := dk_167 0 13 (dk_at dksX4_take_7 12 rfl rfl)
theorem dX4_take_179 : decode cX4_take 179 = .ok (.aload_n 0, 1) := dk_42 (dk_at dksX4_take_7 15 rfl rfl)
theorem dX4_take_180 : decode cX4_take 180 = .ok (.aload_n 0, 1) := dk_42 (dk_at dksX4_take_7 16 rfl rfl)
theorem dX4_take_181 : decode cX4_take 181 = .ok (.getfield 25, 3) := dk_180 0 25 (dk_at dksX4_take_7 17 rfl rfl)
theorem dX4_take_184 : decode cX4_take 184 = .ok (.iload_n 1, 1) := dk_27 (dk_at dksX4_take_7 20 rfl rfl)
theorem dX4_take_185 : decode cX4_take 185 = .ok (.iaload, 1) := dk_46 (dk_at dksX4_take_7 21 rfl rfl)
theorem dX4_take_186 : decode cX4_take 186 = .ok (.invokevirtual 112, 3) := dk_182 0 112 (dk_at dksX4_take_8 0 rfl rfl)
theorem dX4_take_189 : decode cX4_take 189 = .ok (.iastore, 1) := dk_79 (dk_at dksX4_take_8 3 rfl rfl)
theorem dX4_take_190 : decode cX4_take 190 = .ok (.iinc 1 1, 3) := dk_132 1 1 (dk_at dksX4_take_8 4 rfl rfl)
theorem dX4_take_193 : decode cX4_take 193 = .ok (.goto (-46), 3) := dk_167 255 210 (dk_at dksX4_take_8 7 rfl rfl)
theorem dX4_take_196 : decode cX4_take 196 = .ok (.iconst 0, 1) := dk_3 (dk_at dksX4_take_8 10 rfl rfl)
theorem dX4_take_197 : decode cX4_take 197 = .ok (.istore_n 1, 1) := dk_60 (dk_at dksX4_take_8 11 rfl rfl)
theorem dX4_take_198 : decode cX4_take 198 = .ok (.iload_n 1, 1) := dk_27 (dk_at dksX4_take_8 12 rfl rfl)
theorem dX4_take_199 : decode cX4_take 199 = .ok (.bipush 8, 2) := dk_16 8 (dk_at dksX4_take_8 13 rfl rfl)
theorem dX4_take_201 : decode cX4_take 201 = .ok (.if_icmp .ge 41, 3) := dk_162 0 41 (dk_at dksX4_take_8 15 rfl rfl)
theorem dX4_take_204 : decode cX4_take 204 = .ok (.aload_n 0, 1) := dk_42 (dk_at dksX4_take_8 18 rfl rfl)
theorem dX4_take_205 : decode cX4_take 205 = .ok (.getfield 19, 3) := dk_180 0 19 (dk_at dksX4_take_8 19 rfl rfl)
theorem dX4_take_208 : decode cX4_take 208 = .ok (.iload_n 1, 1) := dk_27 (dk_at dksX4_take_8 22 rfl rfl)
theorem dX4_take_209 : decode cX4_take 209 = .ok (.aload_n 0, 1) := dk_42 (dk_at dksX4_take_8 23 rfl rfl)
theorem dX4_take_210 : decode cX4_take 210 = .ok (.getfield 28, 3) := dk_180 0 28 (dk_at dksX4_take_9 0 rfl rfl)
theorem dX4_take_213 : decode cX4_take 213 = .ok (.iload_n 1, 1) := dk_27 (dk_at dksX4_take_9 3 rfl rfl)
theorem dX4_take_214 : decode cX4_take 214 = .ok (.iaload, 1) := dk_46 (dk_at dksX4_take_9 4 rfl rfl)
theorem dX4_take_215 : decode cX4_take 215 = .ok (.bipush (-6), 2) := dk_16 250 (dk_at dksX4_take_9 5 rfl rfl)
theorem dX4_take_217 : decode cX4_take 217 = .ok (.if_icmp .ne 8, 3) := dk_160 0 8 (dk_at dksX4_take_9 7 rfl rfl)
theorem dX4_take_220 : decode cX4_take 220 = .ok (.bipush (-6), 2) := dk_16 250 (dk_at dksX4_take_9 10 rfl rfl)
theorem dX4_take_222 : decode cX4_take 222 = .ok (.goto 13, 3) := dk_167 0 13 (dk_at dksX4_take_9 12 rfl rfl)
theorem dX4_take_225 : decode cX4_take 225 = .ok (.aload_n 0, 1) := dk_42 (dk_at dksX4_take_9 15 rfl rfl)
theorem dX4_take_226 : decode cX4_take 226 = .ok (.aload_n 0, 1) := dk_42 (dk_at dksX4_take_9 16 rfl rfl)
theorem dX4_take_227 : decode cX4_take 227 = .ok (.getfield 28, 3) := dk_180 0 28 (dk_at dksX4_take_9 17 rfl rfl)
theorem dX4_take_230 : decode cX4_take 230 = .ok (.iload_n 1, 1) := dk_27 (dk_at dksX4_take_9 20 rfl rfl)
theorem dX4_take_231 : decode cX4_take 231 = .ok (.iaload, 1) := dk_46 (dk_at dksX4_take_9 21 rfl rfl)
theorem dX4_take_232 : decode cX4_take 232 = .ok (.invokevirtual 112, 3) := dk_182 0 112 (dk_at dksX4_take_10 0 rfl rfl)
theorem dX4_take_235 : decode cX4_take 235 = .ok (.iastore, 1) := dk_79 (dk_at dksX4_take_10 3 rfl rfl)
theorem dX4_take_236 : decode cX4_take 236 = .ok (.iinc 1 1, 3) := dk_132 1 1 (dk_at dksX4_take_10 4 rfl rfl)
theorem dX4_take_239 : decode cX4_take 239 = .ok (.goto (-41), 3) := dk_167 255 215 (dk_at dksX4_take_10 7 rfl rfl)
theorem dX4_take_242 : decode cX4_take 242 = .ok (.aload_n 0, 1) := dk_42 (dk_at dksX4_take_10 10 rfl rfl)
theorem dX4_take_243 : decode cX4_take 243 = .ok (.iconst 0, 1) := dk_3 (dk_at dksX4_take_10 11 rfl rfl)
theorem dX4_take_244 : decode cX4_take 244 = .ok (.putfield 88, 3) := dk_181 0 88 (dk_at dksX4_take_10 12 rfl rfl)
theorem dX4_take_247 : decode cX4_take 247 = .ok (.aload_n 0, 1) := dk_42 (dk_at dksX4_take_10 15 rfl rfl)
theorem dX4_take_248 : decode cX4_take 248 = .ok (.iconst 0, 1) := dk_3 (dk_at dksX4_take_10 16 rfl rfl)
theorem dX4_take_249 : decode cX4_take 249 = .ok (.putfield 119, 3) := dk_181 0 119 (dk_at dksX4_take_10 17 rfl rfl)
theorem dX4_take_252 : decode cX4_take 252 = .ok (.aload_n 0, 1) := dk_42 (dk_at dksX4_take_10 20 rfl rfl)
theorem dX4_take_253 : decode cX4_take 253 = .ok (.getfield 116, 3) := dk_180 0 116 (dk_at dksX4_take_10 21 rfl rfl)
theorem dX4_take_256 : decode cX4_take 256 = .ok (.ireturn, 1) := dk_172 (dk_at dksX4_take_11 0 rfl rfl)
abbrev cX4_comesTo : ByteArray := prog_6_method_9_code
def yX4_comesTo : MethodName := ⟨RX4, "comesTo", "(I)I"⟩
def dkwX4_comesTo_1 : List UInt8 := [46, 61, 132, 3, 1, 167, 255, 231, 28, 16, 100, 161, 0, 8, 16, 250, 167, 0, 4, 28, 172]
abbrev dktX4_comesTo_1 : List UInt8 := dkwX4_comesTo_1 ++ []
def dkwX4_comesTo_0 : List UInt8 := [27, 61, 3, 62, 29, 16, 9, 162, 0, 25, 28, 16, 100, 161, 0, 19, 42, 180, 0, 28, 28, 16, 100, 100]
abbrev dktX4_comesTo_0 : List UInt8 := dkwX4_comesTo_0 ++ dktX4_comesTo_1
theorem dksX4_comesTo_0 : cX4_comesTo.data.toList.drop 0 = dktX4_comesTo_0 := by decide +kernel
theorem dksX4_comesTo_1 : cX4_comesTo.data.toList.drop 24 = dktX4_comesTo_1 := dk_seg dksX4_comesTo_0 24 rfl rfl
theorem dX4_comesTo_0 : decode cX4_comesTo 0 = .ok (.iload_n 1, 1) := dk_27 (dk_at dksX4_comesTo_0 0 rfl rfl)
theorem dX4_comesTo_1 : decode cX4_comesTo 1 = .ok (.istore_n 2, 1) := dk_61 (dk_at dksX4_comesTo_0 1 rfl rfl)
theorem dX4_comesTo_2 : decode cX4_comesTo 2 = .ok (.iconst 0, 1) := dk_3 (dk_at dksX4_comesTo_0 2 rfl rfl)
theorem dX4_comesTo_3 : decode cX4_comesTo 3 = .ok (.istore_n 3, 1) := dk_62 (dk_at dksX4_comesTo_0 3 rfl rfl)
theorem dX4_comesTo_4 : decode cX4_comesTo 4 = .ok (.iload_n 3, 1) := dk_29 (dk_at dksX4_comesTo_0 4 rfl rfl)
theorem dX4_comesTo_5 : decode cX4_comesTo 5 = .ok (.bipush 9, 2) := dk_16 9 (dk_at dksX4_comesTo_0 5 rfl rfl)
theorem dX4_comesTo_7 : decode cX4_comesTo 7 = .ok (.if_icmp .ge 25, 3) := dk_162 0 25 (dk_at dksX4_comesTo_0 7 rfl rfl)
theorem dX4_comesTo_10 : decode cX4_comesTo 10 = .ok (.iload_n 2, 1) := dk_28 (dk_at dksX4_comesTo_0 10 rfl rfl)
theorem dX4_comesTo_11 : decode cX4_comesTo 11 = .ok (.bipush 100, 2) := dk_16 100 (dk_at dksX4_comesTo_0 11 rfl rfl)
theorem dX4_comesTo_13 : decode cX4_comesTo 13 = .ok (.if_icmp .lt 19, 3) := dk_161 0 19 (dk_at dksX4_comesTo_0 13 rfl rfl)
theorem dX4_comesTo_16 : decode cX4_comesTo 16 = .ok (.aload_n 0, 1) := dk_42 (dk_at dksX4_comesTo_0 16 rfl rfl)
theorem dX4_comesTo_17 : decode cX4_comesTo 17 = .ok (.getfield 28, 3) := dk_180 0 28 (dk_at dksX4_comesTo_0 17 rfl rfl)
theorem dX4_comesTo_20 : decode cX4_comesTo 20 = .ok (.iload_n 2, 1) := dk_28 (dk_at dksX4_comesTo_0 20 rfl rfl)
theorem dX4_comesTo_21 : decode cX4_comesTo 21 = .ok (.bipush 100, 2) := dk_16 100 (dk_at dksX4_comesTo_0 21 rfl rfl)
theorem dX4_comesTo_23 : decode cX4_comesTo 23 = .ok (.isub, 1) := dk_100 (dk_at dksX4_comesTo_0 23 rfl rfl)
theorem dX4_comesTo_24 : decode cX4_comesTo 24 = .ok (.iaload, 1) := dk_46 (dk_at dksX4_comesTo_1 0 rfl rfl)
theorem dX4_comesTo_25 : decode cX4_comesTo 25 = .ok (.istore_n 2, 1) := dk_61 (dk_at dksX4_comesTo_1 1 rfl rfl)
theorem dX4_comesTo_26 : decode cX4_comesTo 26 = .ok (.iinc 3 1, 3) := dk_132 3 1 (dk_at dksX4_comesTo_1 2 rfl rfl)
theorem dX4_comesTo_29 : decode cX4_comesTo 29 = .ok (.goto (-25), 3) := dk_167 255 231 (dk_at dksX4_comesTo_1 5 rfl rfl)
theorem dX4_comesTo_32 : decode cX4_comesTo 32 = .ok (.iload_n 2, 1) := dk_28 (dk_at dksX4_comesTo_1 8 rfl rfl)
theorem dX4_comesTo_33 : decode cX4_comesTo 33 = .ok (.bipush 100, 2) := dk_16 100 (dk_at dksX4_comesTo_1 9 rfl rfl)
theorem dX4_comesTo_35 : decode cX4_comesTo 35 = .ok (.if_icmp .lt 8, 3) := dk_161 0 8 (dk_at dksX4_comesTo_1 11 rfl rfl)
theorem dX4_comesTo_38 : decode cX4_comesTo 38 = .ok (.bipush (-6), 2) := dk_16 250 (dk_at dksX4_comesTo_1 14 rfl rfl)
theorem dX4_comesTo_40 : decode cX4_comesTo 40 = .ok (.goto 4, 3) := dk_167 0 4 (dk_at dksX4_comesTo_1 16 rfl rfl)
theorem dX4_comesTo_43 : decode cX4_comesTo 43 = .ok (.iload_n 2, 1) := dk_28 (dk_at dksX4_comesTo_1 19 rfl rfl)
theorem dX4_comesTo_44 : decode cX4_comesTo 44 = .ok (.ireturn, 1) := dk_172 (dk_at dksX4_comesTo_1 20 rfl rfl)
abbrev cX4_name : ByteArray := prog_6_method_11_code
def yX4_name : MethodName := ⟨RX4, "name", "(I)I"⟩
def dkwX4_name_0 : List UInt8 := [27, 3, 16, 7, 184, 0, 84, 153, 0, 12, 42, 180, 0, 19, 27, 46, 167, 0, 4, 2, 172]
abbrev dktX4_name_0 : List UInt8 := dkwX4_name_0 ++ []
theorem dksX4_name_0 : cX4_name.data.toList.drop 0 = dktX4_name_0 := by decide +kernel
theorem dX4_name_0 : decode cX4_name 0 = .ok (.iload_n 1, 1) := dk_27 (dk_at dksX4_name_0 0 rfl rfl)
theorem dX4_name_1 : decode cX4_name 1 = .ok (.iconst 0, 1) := dk_3 (dk_at dksX4_name_0 1 rfl rfl)
theorem dX4_name_2 : decode cX4_name 2 = .ok (.bipush 7, 2) := dk_16 7 (dk_at dksX4_name_0 2 rfl rfl)
theorem dX4_name_4 : decode cX4_name 4 = .ok (.invokestatic 84, 3) := dk_184 0 84 (dk_at dksX4_name_0 4 rfl rfl)
theorem dX4_name_7 : decode cX4_name 7 = .ok (.ifCond .eq 12, 3) := dk_153 0 12 (dk_at dksX4_name_0 7 rfl rfl)
theorem dX4_name_10 : decode cX4_name 10 = .ok (.aload_n 0, 1) := dk_42 (dk_at dksX4_name_0 10 rfl rfl)
theorem dX4_name_11 : decode cX4_name 11 = .ok (.getfield 19, 3) := dk_180 0 19 (dk_at dksX4_name_0 11 rfl rfl)
theorem dX4_name_14 : decode cX4_name 14 = .ok (.iload_n 1, 1) := dk_27 (dk_at dksX4_name_0 14 rfl rfl)
theorem dX4_name_15 : decode cX4_name 15 = .ok (.iaload, 1) := dk_46 (dk_at dksX4_name_0 15 rfl rfl)
theorem dX4_name_16 : decode cX4_name 16 = .ok (.goto 4, 3) := dk_167 0 4 (dk_at dksX4_name_0 16 rfl rfl)
theorem dX4_name_19 : decode cX4_name 19 = .ok (.iconst (-1), 1) := dk_2 (dk_at dksX4_name_0 19 rfl rfl)
theorem dX4_name_20 : decode cX4_name 20 = .ok (.ireturn, 1) := dk_172 (dk_at dksX4_name_0 20 rfl rfl)
abbrev cX4_node : ByteArray := prog_6_method_14_code
def yX4_node : MethodName := ⟨RX4, "node", "(II)I"⟩
def dkwX4_node_2 : List UInt8 := [42, 180, 0, 16, 16, 8, 27, 104, 28, 96, 46, 167, 0, 5, 16, 254, 172]
abbrev dktX4_node_2 : List UInt8 := dkwX4_node_2 ++ []
def dkwX4_node_1 : List UInt8 := [28, 16, 8, 160, 0, 11, 42, 27, 182, 0, 127, 167, 0, 29, 28, 3, 16, 7, 184, 0, 84, 153, 0, 17]
abbrev dktX4_node_1 : List UInt8 := dkwX4_node_1 ++ dktX4_node_2
def dkwX4_node_0 : List UInt8 := [42, 27, 182, 0, 123, 154, 0, 5, 2, 172, 28, 2, 160, 0, 12, 42, 180, 0, 13, 27, 46, 167, 0, 43]
abbrev dktX4_node_0 : List UInt8 := dkwX4_node_0 ++ dktX4_node_1
theorem dksX4_node_0 : cX4_node.data.toList.drop 0 = dktX4_node_0 := by decide +kernel
theorem dksX4_node_1 : cX4_node.data.toList.drop 24 = dktX4_node_1 := dk_seg dksX4_node_0 24 rfl rfl
theorem dksX4_node_2 : cX4_node.data.toList.drop 48 = dktX4_node_2 := dk_seg dksX4_node_1 24 rfl rfl
theorem dX4_node_0 : decode cX4_node 0 = .ok (.aload_n 0, 1) := dk_42 (dk_at dksX4_node_0 0 rfl rfl)
theorem dX4_node_1 : decode cX4_node 1 = .ok (.iload_n 1, 1) := dk_27 (dk_at dksX4_node_0 1 rfl rfl)
theorem dX4_node_2 : decode cX4_node 2 = .ok (.invokevirtual 123, 3) := dk_182 0 123 (dk_at dksX4_node_0 2 rfl rfl)
theorem dX4_node_5 : decode cX4_node 5 = .ok (.ifCond .ne 5, 3) := dk_154 0 5 (dk_at dksX4_node_0 5 rfl rfl)
theorem dX4_node_8 : decode cX4_node 8 = .ok (.iconst (-1), 1) := dk_2 (dk_at dksX4_node_0 8 rfl rfl)
theorem dX4_node_9 : decode cX4_node 9 = .ok (.ireturn, 1) := dk_172 (dk_at dksX4_node_0 9 rfl rfl)
theorem dX4_node_10 : decode cX4_node 10 = .ok (.iload_n 2, 1) := dk_28 (dk_at dksX4_node_0 10 rfl rfl)
theorem dX4_node_11 : decode cX4_node 11 = .ok (.iconst (-1), 1) := dk_2 (dk_at dksX4_node_0 11 rfl rfl)
theorem dX4_node_12 : decode cX4_node 12 = .ok (.if_icmp .ne 12, 3) := dk_160 0 12 (dk_at dksX4_node_0 12 rfl rfl)
theorem dX4_node_15 : decode cX4_node 15 = .ok (.aload_n 0, 1) := dk_42 (dk_at dksX4_node_0 15 rfl rfl)
theorem dX4_node_16 : decode cX4_node 16 = .ok (.getfield 13, 3) := dk_180 0 13 (dk_at dksX4_node_0 16 rfl rfl)
theorem dX4_node_19 : decode cX4_node 19 = .ok (.iload_n 1, 1) := dk_27 (dk_at dksX4_node_0 19 rfl rfl)
theorem dX4_node_20 : decode cX4_node 20 = .ok (.iaload, 1) := dk_46 (dk_at dksX4_node_0 20 rfl rfl)
theorem dX4_node_21 : decode cX4_node 21 = .ok (.goto 43, 3) := dk_167 0 43 (dk_at dksX4_node_0 21 rfl rfl)
theorem dX4_node_24 : decode cX4_node 24 = .ok (.iload_n 2, 1) := dk_28 (dk_at dksX4_node_1 0 rfl rfl)
theorem dX4_node_25 : decode cX4_node 25 = .ok (.bipush 8, 2) := dk_16 8 (dk_at dksX4_node_1 1 rfl rfl)
theorem dX4_node_27 : decode cX4_node 27 = .ok (.if_icmp .ne 11, 3) := dk_160 0 11 (dk_at dksX4_node_1 3 rfl rfl)
theorem dX4_node_30 : decode cX4_node 30 = .ok (.aload_n 0, 1) := dk_42 (dk_at dksX4_node_1 6 rfl rfl)
theorem dX4_node_31 : decode cX4_node 31 = .ok (.iload_n 1, 1) := dk_27 (dk_at dksX4_node_1 7 rfl rfl)
theorem dX4_node_32 : decode cX4_node 32 = .ok (.invokevirtual 127, 3) := dk_182 0 127 (dk_at dksX4_node_1 8 rfl rfl)
theorem dX4_node_35 : decode cX4_node 35 = .ok (.goto 29, 3) := dk_167 0 29 (dk_at dksX4_node_1 11 rfl rfl)
theorem dX4_node_38 : decode cX4_node 38 = .ok (.iload_n 2, 1) := dk_28 (dk_at dksX4_node_1 14 rfl rfl)
theorem dX4_node_39 : decode cX4_node 39 = .ok (.iconst 0, 1) := dk_3 (dk_at dksX4_node_1 15 rfl rfl)
theorem dX4_node_40 : decode cX4_node 40 = .ok (.bipush 7, 2) := dk_16 7 (dk_at dksX4_node_1 16 rfl rfl)
theorem dX4_node_42 : decode cX4_node 42 = .ok (.invokestatic 84, 3) := dk_184 0 84 (dk_at dksX4_node_1 18 rfl rfl)
theorem dX4_node_45 : decode cX4_node 45 = .ok (.ifCond .eq 17, 3) := dk_153 0 17 (dk_at dksX4_node_1 21 rfl rfl)
theorem dX4_node_48 : decode cX4_node 48 = .ok (.aload_n 0, 1) := dk_42 (dk_at dksX4_node_2 0 rfl rfl)
theorem dX4_node_49 : decode cX4_node 49 = .ok (.getfield 16, 3) := dk_180 0 16 (dk_at dksX4_node_2 1 rfl rfl)
theorem dX4_node_52 : decode cX4_node 52 = .ok (.bipush 8, 2) := dk_16 8 (dk_at dksX4_node_2 4 rfl rfl)
theorem dX4_node_54 : decode cX4_node 54 = .ok (.iload_n 1, 1) := dk_27 (dk_at dksX4_node_2 6 rfl rfl)
theorem dX4_node_55 : decode cX4_node 55 = .ok (.imul, 1) := dk_104 (dk_at dksX4_node_2 7 rfl rfl)
theorem dX4_node_56 : decode cX4_node 56 = .ok (.iload_n 2, 1) := dk_28 (dk_at dksX4_node_2 8 rfl rfl)
theorem dX4_node_57 : decode cX4_node 57 = .ok (.iadd, 1) := dk_96 (dk_at dksX4_node_2 9 rfl rfl)
theorem dX4_node_58 : decode cX4_node 58 = .ok (.iaload, 1) := dk_46 (dk_at dksX4_node_2 10 rfl rfl)
theorem dX4_node_59 : decode cX4_node 59 = .ok (.goto 5, 3) := dk_167 0 5 (dk_at dksX4_node_2 11 rfl rfl)
theorem dX4_node_62 : decode cX4_node 62 = .ok (.bipush (-2), 2) := dk_16 254 (dk_at dksX4_node_2 14 rfl rfl)
theorem dX4_node_64 : decode cX4_node 64 = .ok (.ireturn, 1) := dk_172 (dk_at dksX4_node_2 16 rfl rfl)
abbrev cX4_isNode : ByteArray := prog_6_method_12_code
def yX4_isNode : MethodName := ⟨RX4, "isNode", "(I)Z"⟩
def dkwX4_isNode_0 : List UInt8 := [27, 3, 42, 180, 0, 116, 4, 100, 184, 0, 84, 172]
abbrev dktX4_isNode_0 : List UInt8 := dkwX4_isNode_0 ++ []
theorem dksX4_isNode_0 : cX4_isNode.data.toList.drop 0 = dktX4_isNode_0 := by decide +kernel
theorem dX4_isNode_0 : decode cX4_isNode 0 = .ok (.iload_n 1, 1) := dk_27 (dk_at dksX4_isNode_0 0 rfl rfl)
theorem dX4_isNode_1 : decode cX4_isNode 1 = .ok (.iconst 0, 1) := dk_3 (dk_at dksX4_isNode_0 1 rfl rfl)
theorem dX4_isNode_2 : decode cX4_isNode 2 = .ok (.aload_n 0, 1) := dk_42 (dk_at dksX4_isNode_0 2 rfl rfl)
theorem dX4_isNode_3 : decode cX4_isNode 3 = .ok (.getfield 116, 3) := dk_180 0 116 (dk_at dksX4_isNode_0 3 rfl rfl)
theorem dX4_isNode_6 : decode cX4_isNode 6 = .ok (.iconst 1, 1) := dk_4 (dk_at dksX4_isNode_0 6 rfl rfl)
theorem dX4_isNode_7 : decode cX4_isNode 7 = .ok (.isub, 1) := dk_100 (dk_at dksX4_isNode_0 7 rfl rfl)
theorem dX4_isNode_8 : decode cX4_isNode 8 = .ok (.invokestatic 84, 3) := dk_184 0 84 (dk_at dksX4_isNode_0 8 rfl rfl)
theorem dX4_isNode_11 : decode cX4_isNode 11 = .ok (.ireturn, 1) := dk_172 (dk_at dksX4_isNode_0 11 rfl rfl)
abbrev cX4_partsOf : ByteArray := prog_6_method_13_code
def yX4_partsOf : MethodName := ⟨RX4, "partsOf", "(I)I"⟩
def dkwX4_partsOf_1 : List UInt8 := [155, 0, 7, 4, 167, 0, 4, 3, 96, 61, 132, 3, 1, 167, 255, 225, 28, 172]
abbrev dktX4_partsOf_1 : List UInt8 := dkwX4_partsOf_1 ++ []
def dkwX4_partsOf_0 : List UInt8 := [3, 61, 3, 62, 29, 16, 8, 162, 0, 31, 28, 42, 180, 0, 16, 16, 8, 27, 104, 29, 96, 46]
abbrev dktX4_partsOf_0 : List UInt8 := dkwX4_partsOf_0 ++ dktX4_partsOf_1
theorem dksX4_partsOf_0 : cX4_partsOf.data.toList.drop 0 = dktX4_partsOf_0 := by decide +kernel
theorem dksX4_partsOf_1 : cX4_partsOf.data.toList.drop 22 = dktX4_partsOf_1 := dk_seg dksX4_partsOf_0 22 rfl rfl
theorem dX4_partsOf_0 : decode cX4_partsOf 0 = .ok (.iconst 0, 1) := dk_3 (dk_at dksX4_partsOf_0 0 rfl rfl)
theorem dX4_partsOf_1 : decode cX4_partsOf 1 = .ok (.istore_n 2, 1) := dk_61 (dk_at dksX4_partsOf_0 1 rfl rfl)
theorem dX4_partsOf_2 : decode cX4_partsOf 2 = .ok (.iconst 0, 1) := dk_3 (dk_at dksX4_partsOf_0 2 rfl rfl)
theorem dX4_partsOf_3 : decode cX4_partsOf 3 = .ok (.istore_n 3, 1) := dk_62 (dk_at dksX4_partsOf_0 3 rfl rfl)
theorem dX4_partsOf_4 : decode cX4_partsOf 4 = .ok (.iload_n 3, 1) := dk_29 (dk_at dksX4_partsOf_0 4 rfl rfl)
theorem dX4_partsOf_5 : decode cX4_partsOf 5 = .ok (.bipush 8, 2) := dk_16 8 (dk_at dksX4_partsOf_0 5 rfl rfl)
theorem dX4_partsOf_7 : decode cX4_partsOf 7 = .ok (.if_icmp .ge 31, 3) := dk_162 0 31 (dk_at dksX4_partsOf_0 7 rfl rfl)
theorem dX4_partsOf_10 : decode cX4_partsOf 10 = .ok (.iload_n 2, 1) := dk_28 (dk_at dksX4_partsOf_0 10 rfl rfl)
theorem dX4_partsOf_11 : decode cX4_partsOf 11 = .ok (.aload_n 0, 1) := dk_42 (dk_at dksX4_partsOf_0 11 rfl rfl)
theorem dX4_partsOf_12 : decode cX4_partsOf 12 = .ok (.getfield 16, 3) := dk_180 0 16 (dk_at dksX4_partsOf_0 12 rfl rfl)
theorem dX4_partsOf_15 : decode cX4_partsOf 15 = .ok (.bipush 8, 2) := dk_16 8 (dk_at dksX4_partsOf_0 15 rfl rfl)
theorem dX4_partsOf_17 : decode cX4_partsOf 17 = .ok (.iload_n 1, 1) := dk_27 (dk_at dksX4_partsOf_0 17 rfl rfl)
theorem dX4_partsOf_18 : decode cX4_partsOf 18 = .ok (.imul, 1) := dk_104 (dk_at dksX4_partsOf_0 18 rfl rfl)
theorem dX4_partsOf_19 : decode cX4_partsOf 19 = .ok (.iload_n 3, 1) := dk_29 (dk_at dksX4_partsOf_0 19 rfl rfl)
theorem dX4_partsOf_20 : decode cX4_partsOf 20 = .ok (.iadd, 1) := dk_96 (dk_at dksX4_partsOf_0 20 rfl rfl)
theorem dX4_partsOf_21 : decode cX4_partsOf 21 = .ok (.iaload, 1) := dk_46 (dk_at dksX4_partsOf_0 21 rfl rfl)
theorem dX4_partsOf_22 : decode cX4_partsOf 22 = .ok (.ifCond .lt 7, 3) := dk_155 0 7 (dk_at dksX4_partsOf_1 0 rfl rfl)
theorem dX4_partsOf_25 : decode cX4_partsOf 25 = .ok (.iconst 1, 1) := dk_4 (dk_at dksX4_partsOf_1 3 rfl rfl)
theorem dX4_partsOf_26 : decode cX4_partsOf 26 = .ok (.goto 4, 3) := dk_167 0 4 (dk_at dksX4_partsOf_1 4 rfl rfl)
theorem dX4_partsOf_29 : decode cX4_partsOf 29 = .ok (.iconst 0, 1) := dk_3 (dk_at dksX4_partsOf_1 7 rfl rfl)
theorem dX4_partsOf_30 : decode cX4_partsOf 30 = .ok (.iadd, 1) := dk_96 (dk_at dksX4_partsOf_1 8 rfl rfl)
theorem dX4_partsOf_31 : decode cX4_partsOf 31 = .ok (.istore_n 2, 1) := dk_61 (dk_at dksX4_partsOf_1 9 rfl rfl)
theorem dX4_partsOf_32 : decode cX4_partsOf 32 = .ok (.iinc 3 1, 3) := dk_132 3 1 (dk_at dksX4_partsOf_1 10 rfl rfl)
theorem dX4_partsOf_35 : decode cX4_partsOf 35 = .ok (.goto (-31), 3) := dk_167 255 225 (dk_at dksX4_partsOf_1 13 rfl rfl)
theorem dX4_partsOf_38 : decode cX4_partsOf 38 = .ok (.iload_n 2, 1) := dk_28 (dk_at dksX4_partsOf_1 16 rfl rfl)
theorem dX4_partsOf_39 : decode cX4_partsOf 39 = .ok (.ireturn, 1) := dk_172 (dk_at dksX4_partsOf_1 17 rfl rfl)
abbrev cX4_may : ByteArray := prog_6_method_20_code
def yX4_may : MethodName := ⟨RX4, "may", "(II)I"⟩
def dkwX4_may_1 : List UInt8 := [96, 51, 153, 0, 7, 4, 167, 0, 4, 3, 172]
abbrev dktX4_may_1 : List UInt8 := dkwX4_may_1 ++ []
def dkwX4_may_0 : List UInt8 := [42, 27, 28, 182, 0, 142, 154, 0, 5, 2, 172, 42, 182, 0, 145, 42, 180, 0, 40, 16, 60, 27, 104, 28]
abbrev dktX4_may_0 : List UInt8 := dkwX4_may_0 ++ dktX4_may_1
theorem dksX4_may_0 : cX4_may.data.toList.drop 0 = dktX4_may_0 := by decide +kernel
theorem dksX4_may_1 : cX4_may.data.toList.drop 24 = dktX4_may_1 := dk_seg dksX4_may_0 24 rfl rfl
theorem dX4_may_0 : decode cX4_may 0 = .ok (.aload_n 0, 1) := dk_42 (dk_at dksX4_may_0 0 rfl rfl)
theorem dX4_may_1 : decode cX4_may 1 = .ok (.iload_n 1, 1) := dk_27 (dk_at dksX4_may_0 1 rfl rfl)
theorem dX4_may_2 : decode cX4_may 2 = .ok (.iload_n 2, 1) := dk_28 (dk_at dksX4_may_0 2 rfl rfl)
theorem dX4_may_3 : decode cX4_may 3 = .ok (.invokevirtual 142, 3) := dk_182 0 142 (dk_at dksX4_may_0 3 rfl rfl)
theorem dX4_may_6 : decode cX4_may 6 = .ok (.ifCond .ne 5, 3) := dk_154 0 5 (dk_at dksX4_may_0 6 rfl rfl)
theorem dX4_may_9 : decode cX4_may 9 = .ok (.iconst (-1), 1) := dk_2 (dk_at dksX4_may_0 9 rfl rfl)
theorem dX4_may_10 : decode cX4_may 10 = .ok (.ireturn, 1) := dk_172 (dk_at dksX4_may_0 10 rfl rfl)
theorem dX4_may_11 : decode cX4_may 11 = .ok (.aload_n 0, 1) := dk_42 (dk_at dksX4_may_0 11 rfl rfl)
theorem dX4_may_12 : decode cX4_may 12 = .ok (.invokevirtual 145, 3) := dk_182 0 145 (dk_at dksX4_may_0 12 rfl rfl)
theorem dX4_may_15 : decode cX4_may 15 = .ok (.aload_n 0, 1) := dk_42 (dk_at dksX4_may_0 15 rfl rfl)
theorem dX4_may_16 : decode cX4_may 16 = .ok (.getfield 40, 3) := dk_180 0 40 (dk_at dksX4_may_0 16 rfl rfl)
theorem dX4_may_19 : decode cX4_may 19 = .ok (.bipush 60, 2) := dk_16 60 (dk_at dksX4_may_0 19 rfl rfl)
theorem dX4_may_21 : decode cX4_may 21 = .ok (.iload_n 1, 1) := dk_27 (dk_at dksX4_may_0 21 rfl rfl)
theorem dX4_may_22 : decode cX4_may 22 = .ok (.imul, 1) := dk_104 (dk_at dksX4_may_0 22 rfl rfl)
theorem dX4_may_23 : decode cX4_may 23 = .ok (.iload_n 2, 1) := dk_28 (dk_at dksX4_may_0 23 rfl rfl)
theorem dX4_may_24 : decode cX4_may 24 = .ok (.iadd, 1) := dk_96 (dk_at dksX4_may_1 0 rfl rfl)
theorem dX4_may_25 : decode cX4_may 25 = .ok (.baload, 1) := dk_51 (dk_at dksX4_may_1 1 rfl rfl)
theorem dX4_may_26 : decode cX4_may 26 = .ok (.ifCond .eq 7, 3) := dk_153 0 7 (dk_at dksX4_may_1 2 rfl rfl)
theorem dX4_may_29 : decode cX4_may 29 = .ok (.iconst 1, 1) := dk_4 (dk_at dksX4_may_1 5 rfl rfl)
theorem dX4_may_30 : decode cX4_may 30 = .ok (.goto 4, 3) := dk_167 0 4 (dk_at dksX4_may_1 6 rfl rfl)
theorem dX4_may_33 : decode cX4_may 33 = .ok (.iconst 0, 1) := dk_3 (dk_at dksX4_may_1 9 rfl rfl)
theorem dX4_may_34 : decode cX4_may 34 = .ok (.ireturn, 1) := dk_172 (dk_at dksX4_may_1 10 rfl rfl)
abbrev cX4_areNodes : ByteArray := prog_6_method_19_code
def yX4_areNodes : MethodName := ⟨RX4, "areNodes", "(II)Z"⟩
def dkwX4_areNodes_0 : List UInt8 := [42, 27, 182, 0, 123, 153, 0, 15, 42, 28, 182, 0, 123, 153, 0, 7, 4, 167, 0, 4, 3, 172]
abbrev dktX4_areNodes_0 : List UInt8 := dkwX4_areNodes_0 ++ []
theorem dksX4_areNodes_0 : cX4_areNodes.data.toList.drop 0 = dktX4_areNodes_0 := by decide +kernel
theorem dX4_areNodes_0 : decode cX4_areNodes 0 = .ok (.aload_n 0, 1) := dk_42 (dk_at dksX4_areNodes_0 0 rfl rfl)
theorem dX4_areNodes_1 : decode cX4_areNodes 1 = .ok (.iload_n 1, 1) := dk_27 (dk_at dksX4_areNodes_0 1 rfl rfl)
theorem dX4_areNodes_2 : decode cX4_areNodes 2 = .ok (.invokevirtual 123, 3) := dk_182 0 123 (dk_at dksX4_areNodes_0 2 rfl rfl)
theorem dX4_areNodes_5 : decode cX4_areNodes 5 = .ok (.ifCond .eq 15, 3) := dk_153 0 15 (dk_at dksX4_areNodes_0 5 rfl rfl)
theorem dX4_areNodes_8 : decode cX4_areNodes 8 = .ok (.aload_n 0, 1) := dk_42 (dk_at dksX4_areNodes_0 8 rfl rfl)
theorem dX4_areNodes_9 : decode cX4_areNodes 9 = .ok (.iload_n 2, 1) := dk_28 (dk_at dksX4_areNodes_0 9 rfl rfl)
theorem dX4_areNodes_10 : decode cX4_areNodes 10 = .ok (.invokevirtual 123, 3) := dk_182 0 123 (dk_at dksX4_areNodes_0 10 rfl rfl)
theorem dX4_areNodes_13 : decode cX4_areNodes 13 = .ok (.ifCond .eq 7, 3) := dk_153 0 7 (dk_at dksX4_areNodes_0 13 rfl rfl)
theorem dX4_areNodes_16 : decode cX4_areNodes 16 = .ok (.iconst 1, 1) := dk_4 (dk_at dksX4_areNodes_0 16 rfl rfl)
theorem dX4_areNodes_17 : decode cX4_areNodes 17 = .ok (.goto 4, 3) := dk_167 0 4 (dk_at dksX4_areNodes_0 17 rfl rfl)
theorem dX4_areNodes_20 : decode cX4_areNodes 20 = .ok (.iconst 0, 1) := dk_3 (dk_at dksX4_areNodes_0 20 rfl rfl)
theorem dX4_areNodes_21 : decode cX4_areNodes 21 = .ok (.ireturn, 1) := dk_172 (dk_at dksX4_areNodes_0 21 rfl rfl)
abbrev cX4_lay : ByteArray := prog_6_method_18_code
def yX4_lay : MethodName := ⟨RX4, "lay", "()V"⟩
def dkwX4_lay_12 : List UInt8 := [167, 255, 197, 177]
abbrev dktX4_lay_12 : List UInt8 := dkwX4_lay_12 ++ []
def dkwX4_lay_11 : List UInt8 := [29, 96, 46, 18, 137, 160, 0, 7, 4, 167, 0, 4, 3, 84, 132, 3, 1, 167, 255, 213, 132, 2, 1]
abbrev dktX4_lay_11 : List UInt8 := dkwX4_lay_11 ++ dktX4_lay_12
def dkwX4_lay_10 : List UInt8 := [180, 0, 116, 162, 0, 41, 42, 180, 0, 40, 16, 60, 28, 104, 29, 96, 42, 180, 0, 44, 16, 60, 28, 104]
abbrev dktX4_lay_10 : List UInt8 := dkwX4_lay_10 ++ dktX4_lay_11
def dkwX4_lay_9 : List UInt8 := [167, 255, 130, 132, 2, 1, 167, 255, 116, 3, 61, 28, 42, 180, 0, 116, 162, 0, 57, 3, 62, 29, 42]
abbrev dktX4_lay_9 : List UInt8 := dkwX4_lay_9 ++ dktX4_lay_10
def dkwX4_lay_8 : List UInt8 := [180, 0, 44, 16, 60, 29, 104, 21, 4, 96, 28, 79, 4, 60, 132, 4, 1, 167, 255, 147, 132, 3, 1]
abbrev dktX4_lay_8 : List UInt8 := dkwX4_lay_8 ++ dktX4_lay_9
def dkwX4_lay_7 : List UInt8 := [160, 0, 7, 4, 167, 0, 4, 3, 54, 5, 132, 6, 1, 167, 255, 188, 21, 5, 153, 0, 18, 42]
abbrev dktX4_lay_7 : List UInt8 := dkwX4_lay_7 ++ dktX4_lay_8
def dkwX4_lay_6 : List UInt8 := [21, 4, 21, 6, 182, 0, 138, 54, 7, 21, 7, 155, 0, 20, 42, 180, 0, 44, 21, 7, 46, 28, 4, 100]
abbrev dktX4_lay_6 : List UInt8 := dkwX4_lay_6 ++ dktX4_lay_7
def dkwX4_lay_5 : List UInt8 := [42, 180, 0, 44, 16, 60, 29, 104, 21, 4, 96, 46, 18, 137, 160, 0, 50, 21, 5, 154, 0, 45, 42, 29]
abbrev dktX4_lay_5 : List UInt8 := dkwX4_lay_5 ++ dktX4_lay_6
def dkwX4_lay_4 : List UInt8 := [54, 4, 21, 4, 42, 180, 0, 116, 162, 0, 106, 3, 54, 5, 3, 54, 6, 21, 6, 16, 11, 162, 0, 67]
abbrev dktX4_lay_4 : List UInt8 := dkwX4_lay_4 ++ dktX4_lay_5
def dkwX4_lay_3 : List UInt8 := [167, 255, 203, 4, 60, 4, 61, 27, 153, 0, 142, 3, 60, 3, 62, 29, 42, 180, 0, 116, 162, 0, 124, 3]
abbrev dktX4_lay_3 : List UInt8 := dkwX4_lay_3 ++ dktX4_lay_4
def dkwX4_lay_2 : List UInt8 := [182, 0, 133, 153, 0, 8, 18, 137, 167, 0, 4, 3, 79, 132, 2, 1, 167, 255, 219, 132, 1, 1]
abbrev dktX4_lay_2 : List UInt8 := dkwX4_lay_2 ++ dktX4_lay_3
def dkwX4_lay_1 : List UInt8 := [61, 28, 42, 180, 0, 116, 162, 0, 35, 42, 180, 0, 44, 16, 60, 27, 104, 28, 96, 42, 27, 28]
abbrev dktX4_lay_1 : List UInt8 := dkwX4_lay_1 ++ dktX4_lay_2
def dkwX4_lay_0 : List UInt8 := [42, 180, 0, 119, 153, 0, 4, 177, 42, 4, 181, 0, 119, 3, 60, 27, 42, 180, 0, 116, 162, 0, 51, 3]
abbrev dktX4_lay_0 : List UInt8 := dkwX4_lay_0 ++ dktX4_lay_1
theorem dksX4_lay_0 : cX4_lay.data.toList.drop 0 = dktX4_lay_0 := by decide +kernel
theorem dksX4_lay_1 : cX4_lay.data.toList.drop 24 = dktX4_lay_1 := dk_seg dksX4_lay_0 24 rfl rfl
theorem dksX4_lay_2 : cX4_lay.data.toList.drop 46 = dktX4_lay_2 := dk_seg dksX4_lay_1 22 rfl rfl
theorem dksX4_lay_3 : cX4_lay.data.toList.drop 68 = dktX4_lay_3 := dk_seg dksX4_lay_2 22 rfl rfl
theorem dksX4_lay_4 : cX4_lay.data.toList.drop 92 = dktX4_lay_4 := dk_seg dksX4_lay_3 24 rfl rfl
theorem dksX4_lay_5 : cX4_lay.data.toList.drop 116 = dktX4_lay_5 := dk_seg dksX4_lay_4 24 rfl rfl
theorem dksX4_lay_6 : cX4_lay.data.toList.drop 140 = dktX4_lay_6 := dk_seg dksX4_lay_5 24 rfl rfl
theorem dksX4_lay_7 : cX4_lay.data.toList.drop 164 = dktX4_lay_7 := dk_seg dksX4_lay_6 24 rfl rfl
theorem dksX4_lay_8 : cX4_lay.data.toList.drop 186 = dktX4_lay_8 := dk_seg dksX4_lay_7 22 rfl rfl
theorem dksX4_lay_9 : cX4_lay.data.toList.drop 209 = dktX4_lay_9 := dk_seg dksX4_lay_8 23 rfl rfl
theorem dksX4_lay_10 : cX4_lay.data.toList.drop 232 = dktX4_lay_10 := dk_seg dksX4_lay_9 23 rfl rfl
theorem dksX4_lay_11 : cX4_lay.data.toList.drop 256 = dktX4_lay_11 := dk_seg dksX4_lay_10 24 rfl rfl
theorem dksX4_lay_12 : cX4_lay.data.toList.drop 279 = dktX4_lay_12 := dk_seg dksX4_lay_11 23 rfl rfl
theorem dX4_lay_0 : decode cX4_lay 0 = .ok (.aload_n 0, 1) := dk_42 (dk_at dksX4_lay_0 0 rfl rfl)
theorem dX4_lay_1 : decode cX4_lay 1 = .ok (.getfield 119, 3) := dk_180 0 119 (dk_at dksX4_lay_0 1 rfl rfl)
theorem dX4_lay_4 : decode cX4_lay 4 = .ok (.ifCond .eq 4, 3) := dk_153 0 4 (dk_at dksX4_lay_0 4 rfl rfl)
theorem dX4_lay_7 : decode cX4_lay 7 = .ok (.return_, 1) := dk_177 (dk_at dksX4_lay_0 7 rfl rfl)
theorem dX4_lay_8 : decode cX4_lay 8 = .ok (.aload_n 0, 1) := dk_42 (dk_at dksX4_lay_0 8 rfl rfl)
theorem dX4_lay_9 : decode cX4_lay 9 = .ok (.iconst 1, 1) := dk_4 (dk_at dksX4_lay_0 9 rfl rfl)
theorem dX4_lay_10 : decode cX4_lay 10 = .ok (.putfield 119, 3) := dk_181 0 119 (dk_at dksX4_lay_0 10 rfl rfl)
theorem dX4_lay_13 : decode cX4_lay 13 = .ok (.iconst 0, 1) := dk_3 (dk_at dksX4_lay_0 13 rfl rfl)
theorem dX4_lay_14 : decode cX4_lay 14 = .ok (.istore_n 1, 1) := dk_60 (dk_at dksX4_lay_0 14 rfl rfl)
theorem dX4_lay_15 : decode cX4_lay 15 = .ok (.iload_n 1, 1) := dk_27 (dk_at dksX4_lay_0 15 rfl rfl)
theorem dX4_lay_16 : decode cX4_lay 16 = .ok (.aload_n 0, 1) := dk_42 (dk_at dksX4_lay_0 16 rfl rfl)
theorem dX4_lay_17 : decode cX4_lay 17 = .ok (.getfield 116, 3) := dk_180 0 116 (dk_at dksX4_lay_0 17 rfl rfl)
theorem dX4_lay_20 : decode cX4_lay 20 = .ok (.if_icmp .ge 51, 3) := dk_162 0 51 (dk_at dksX4_lay_0 20 rfl rfl)
theorem dX4_lay_23 : decode cX4_lay 23 = .ok (.iconst 0, 1) := dk_3 (dk_at dksX4_lay_0 23 rfl rfl)
theorem dX4_lay_24 : decode cX4_lay 24 = .ok (.istore_n 2, 1) := dk_61 (dk_at dksX4_lay_1 0 rfl rfl)
theorem dX4_lay_25 : decode cX4_lay 25 = .ok (.iload_n 2, 1) := dk_28 (dk_at dksX4_lay_1 1 rfl rfl)
theorem dX4_lay_26 : decode cX4_lay 26 = .ok (.aload_n 0, 1) := dk_42 (dk_at dksX4_lay_1 2 rfl rfl)
theorem dX4_lay_27 : decode cX4_lay 27 = .ok (.getfield 116, 3) := dk_180 0 116 (dk_at dksX4_lay_1 3 rfl rfl)
theorem dX4_lay_30 : decode cX4_lay 30 = .ok (.if_icmp .ge 35, 3) := dk_162 0 35 (dk_at dksX4_lay_1 6 rfl rfl)
theorem dX4_lay_33 : decode cX4_lay 33 = .ok (.aload_n 0, 1) := dk_42 (dk_at dksX4_lay_1 9 rfl rfl)
theorem dX4_lay_34 : decode cX4_lay 34 = .ok (.getfield 44, 3) := dk_180 0 44 (dk_at dksX4_lay_1 10 rfl rfl)
theorem dX4_lay_37 : decode cX4_lay 37 = .ok (.bipush 60, 2) := dk_16 60 (dk_at dksX4_lay_1 13 rfl rfl)
theorem dX4_lay_39 : decode cX4_lay 39 = .ok (.iload_n 1, 1) := dk_27 (dk_at dksX4_lay_1 15 rfl rfl)
theorem dX4_lay_40 : decode cX4_lay 40 = .ok (.imul, 1) := dk_104 (dk_at dksX4_lay_1 16 rfl rfl)
theorem dX4_lay_41 : decode cX4_lay 41 = .ok (.iload_n 2, 1) := dk_28 (dk_at dksX4_lay_1 17 rfl rfl)
theorem dX4_lay_42 : decode cX4_lay 42 = .ok (.iadd, 1) := dk_96 (dk_at dksX4_lay_1 18 rfl rfl)
theorem dX4_lay_43 : decode cX4_lay 43 = .ok (.aload_n 0, 1) := dk_42 (dk_at dksX4_lay_1 19 rfl rfl)
theorem dX4_lay_44 : decode cX4_lay 44 = .ok (.iload_n 1, 1) := dk_27 (dk_at dksX4_lay_1 20 rfl rfl)
theorem dX4_lay_45 : decode cX4_lay 45 = .ok (.iload_n 2, 1) := dk_28 (dk_at dksX4_lay_1 21 rfl rfl)
theorem dX4_lay_46 : decode cX4_lay 46 = .ok (.invokevirtual 133, 3) := dk_182 0 133 (dk_at dksX4_lay_2 0 rfl rfl)
theorem dX4_lay_49 : decode cX4_lay 49 = .ok (.ifCond .eq 8, 3) := dk_153 0 8 (dk_at dksX4_lay_2 3 rfl rfl)
theorem dX4_lay_52 : decode cX4_lay 52 = .ok (.ldc 137, 2) := dk_18 137 (dk_at dksX4_lay_2 6 rfl rfl)
theorem dX4_lay_54 : decode cX4_lay 54 = .ok (.goto 4, 3) := dk_167 0 4 (dk_at dksX4_lay_2 8 rfl rfl)
theorem dX4_lay_57 : decode cX4_lay 57 = .ok (.iconst 0, 1) := dk_3 (dk_at dksX4_lay_2 11 rfl rfl)
theorem dX4_lay_58 : decode cX4_lay 58 = .ok (.iastore, 1) := dk_79 (dk_at dksX4_lay_2 12 rfl rfl)
theorem dX4_lay_59 : decode cX4_lay 59 = .ok (.iinc 2 1, 3) := dk_132 2 1 (dk_at dksX4_lay_2 13 rfl rfl)
theorem dX4_lay_62 : decode cX4_lay 62 = .ok (.goto (-37), 3) := dk_167 255 219 (dk_at dksX4_lay_2 16 rfl rfl)
theorem dX4_lay_65 : decode cX4_lay 65 = .ok (.iinc 1 1, 3) := dk_132 1 1 (dk_at dksX4_lay_2 19 rfl rfl)
theorem dX4_lay_68 : decode cX4_lay 68 = .ok (.goto (-53), 3) := dk_167 255 203 (dk_at dksX4_lay_3 0 rfl rfl)
theorem dX4_lay_71 : decode cX4_lay 71 = .ok (.iconst 1, 1) := dk_4 (dk_at dksX4_lay_3 3 rfl rfl)
theorem dX4_lay_72 : decode cX4_lay 72 = .ok (.istore_n 1, 1) := dk_60 (dk_at dksX4_lay_3 4 rfl rfl)
theorem dX4_lay_73 : decode cX4_lay 73 = .ok (.iconst 1, 1) := dk_4 (dk_at dksX4_lay_3 5 rfl rfl)
theorem dX4_lay_74 : decode cX4_lay 74 = .ok (.istore_n 2, 1) := dk_61 (dk_at dksX4_lay_3 6 rfl rfl)
theorem dX4_lay_75 : decode cX4_lay 75 = .ok (.iload_n 1, 1) := dk_27 (dk_at dksX4_lay_3 7 rfl rfl)
theorem dX4_lay_76 : decode cX4_lay 76 = .ok (.ifCond .eq 142, 3) := dk_153 0 142 (dk_at dksX4_lay_3 8 rfl rfl)
theorem dX4_lay_79 : decode cX4_lay 79 = .ok (.iconst 0, 1) := dk_3 (dk_at dksX4_lay_3 11 rfl rfl)
theorem dX4_lay_80 : decode cX4_lay 80 = .ok (.istore_n 1, 1) := dk_60 (dk_at dksX4_lay_3 12 rfl rfl)
theorem dX4_lay_81 : decode cX4_lay 81 = .ok (.iconst 0, 1) := dk_3 (dk_at dksX4_lay_3 13 rfl rfl)
theorem dX4_lay_82 : decode cX4_lay 82 = .ok (.istore_n 3, 1) := dk_62 (dk_at dksX4_lay_3 14 rfl rfl)
theorem dX4_lay_83 : decode cX4_lay 83 = .ok (.iload_n 3, 1) := dk_29 (dk_at dksX4_lay_3 15 rfl rfl)
theorem dX4_lay_84 : decode cX4_lay 84 = .ok (.aload_n 0, 1) := dk_42 (dk_at dksX4_lay_3 16 rfl rfl)
theorem dX4_lay_85 : decode cX4_lay 85 = .ok (.getfield 116, 3) := dk_180 0 116 (dk_at dksX4_lay_3 17 rfl rfl)
theorem dX4_lay_88 : decode cX4_lay 88 = .ok (.if_icmp .ge 124, 3) := dk_162 0 124 (dk_at dksX4_lay_3 20 rfl rfl)
theorem dX4_lay_91 : decode cX4_lay 91 = .ok (.iconst 0, 1) := dk_3 (dk_at dksX4_lay_3 23 rfl rfl)
theorem dX4_lay_92 : decode cX4_lay 92 = .ok (.istore 4, 2) := dk_54 4 (dk_at dksX4_lay_4 0 rfl rfl)
theorem dX4_lay_94 : decode cX4_lay 94 = .ok (.iload 4, 2) := dk_21 4 (dk_at dksX4_lay_4 2 rfl rfl)
theorem dX4_lay_96 : decode cX4_lay 96 = .ok (.aload_n 0, 1) := dk_42 (dk_at dksX4_lay_4 4 rfl rfl)
theorem dX4_lay_97 : decode cX4_lay 97 = .ok (.getfield 116, 3) := dk_180 0 116 (dk_at dksX4_lay_4 5 rfl rfl)
theorem dX4_lay_100 : decode cX4_lay 100 = .ok (.if_icmp .ge 106, 3) := dk_162 0 106 (dk_at dksX4_lay_4 8 rfl rfl)
theorem dX4_lay_103 : decode cX4_lay 103 = .ok (.iconst 0, 1) := dk_3 (dk_at dksX4_lay_4 11 rfl rfl)
theorem dX4_lay_104 : decode cX4_lay 104 = .ok (.istore 5, 2) := dk_54 5 (dk_at dksX4_lay_4 12 rfl rfl)
theorem dX4_lay_106 : decode cX4_lay 106 = .ok (.iconst 0, 1) := dk_3 (dk_at dksX4_lay_4 14 rfl rfl)
theorem dX4_lay_107 : decode cX4_lay 107 = .ok (.istore 6, 2) := dk_54 6 (dk_at dksX4_lay_4 15 rfl rfl)
theorem dX4_lay_109 : decode cX4_lay 109 = .ok (.iload 6, 2) := dk_21 6 (dk_at dksX4_lay_4 17 rfl rfl)
theorem dX4_lay_111 : decode cX4_lay 111 = .ok (.bipush 11, 2) := dk_16 11 (dk_at dksX4_lay_4 19 rfl rfl)
theorem dX4_lay_113 : decode cX4_lay 113 = .ok (.if_icmp .ge 67, 3) := dk_162 0 67 (dk_at dksX4_lay_4 21 rfl rfl)
theorem dX4_lay_116 : decode cX4_lay 116 = .ok (.aload_n 0, 1) := dk_42 (dk_at dksX4_lay_5 0 rfl rfl)
theorem dX4_lay_117 : decode cX4_lay 117 = .ok (.getfield 44, 3) := dk_180 0 44 (dk_at dksX4_lay_5 1 rfl rfl)
theorem dX4_lay_120 : decode cX4_lay 120 = .ok (.bipush 60, 2) := dk_16 60 (dk_at dksX4_lay_5 4 rfl rfl)
theorem dX4_lay_122 : decode cX4_lay 122 = .ok (.iload_n 3, 1) := dk_29 (dk_at dksX4_lay_5 6 rfl rfl)
theorem dX4_lay_123 : decode cX4_lay 123 = .ok (.imul, 1) := dk_104 (dk_at dksX4_lay_5 7 rfl rfl)
theorem dX4_lay_124 : decode cX4_lay 124 = .ok (.iload 4, 2) := dk_21 4 (dk_at dksX4_lay_5 8 rfl rfl)
theorem dX4_lay_126 : decode cX4_lay 126 = .ok (.iadd, 1) := dk_96 (dk_at dksX4_lay_5 10 rfl rfl)
theorem dX4_lay_127 : decode cX4_lay 127 = .ok (.iaload, 1) := dk_46 (dk_at dksX4_lay_5 11 rfl rfl)
theorem dX4_lay_128 : decode cX4_lay 128 = .ok (.ldc 137, 2) := dk_18 137 (dk_at dksX4_lay_5 12 rfl rfl)
theorem dX4_lay_130 : decode cX4_lay 130 = .ok (.if_icmp .ne 50, 3) := dk_160 0 50 (dk_at dksX4_lay_5 14 rfl rfl)
theorem dX4_lay_133 : decode cX4_lay 133 = .ok (.iload 5, 2) := dk_21 5 (dk_at dksX4_lay_5 17 rfl rfl)
theorem dX4_lay_135 : decode cX4_lay 135 = .ok (.ifCond .ne 45, 3) := dk_154 0 45 (dk_at dksX4_lay_5 19 rfl rfl)
theorem dX4_lay_138 : decode cX4_lay 138 = .ok (.aload_n 0, 1) := dk_42 (dk_at dksX4_lay_5 22 rfl rfl)
theorem dX4_lay_139 : decode cX4_lay 139 = .ok (.iload_n 3, 1) := dk_29 (dk_at dksX4_lay_5 23 rfl rfl)
theorem dX4_lay_140 : decode cX4_lay 140 = .ok (.iload 4, 2) := dk_21 4 (dk_at dksX4_lay_6 0 rfl rfl)
theorem dX4_lay_142 : decode cX4_lay 142 = .ok (.iload 6, 2) := dk_21 6 (dk_at dksX4_lay_6 2 rfl rfl)
theorem dX4_lay_144 : decode cX4_lay 144 = .ok (.invokevirtual 138, 3) := dk_182 0 138 (dk_at dksX4_lay_6 4 rfl rfl)
theorem dX4_lay_147 : decode cX4_lay 147 = .ok (.istore 7, 2) := dk_54 7 (dk_at dksX4_lay_6 7 rfl rfl)
theorem dX4_lay_149 : decode cX4_lay 149 = .ok (.iload 7, 2) := dk_21 7 (dk_at dksX4_lay_6 9 rfl rfl)
theorem dX4_lay_151 : decode cX4_lay 151 = .ok (.ifCond .lt 20, 3) := dk_155 0 20 (dk_at dksX4_lay_6 11 rfl rfl)
theorem dX4_lay_154 : decode cX4_lay 154 = .ok (.aload_n 0, 1) := dk_42 (dk_at dksX4_lay_6 14 rfl rfl)
theorem dX4_lay_155 : decode cX4_lay 155 = .ok (.getfield 44, 3) := dk_180 0 44 (dk_at dksX4_lay_6 15 rfl rfl)
theorem dX4_lay_158 : decode cX4_lay 158 = .ok (.iload 7, 2) := dk_21 7 (dk_at dksX4_lay_6 18 rfl rfl)
theorem dX4_lay_160 : decode cX4_lay 160 = .ok (.iaload, 1) := dk_46 (dk_at dksX4_lay_6 20 rfl rfl)
theorem dX4_lay_161 : decode cX4_lay 161 = .ok (.iload_n 2, 1) := dk_28 (dk_at dksX4_lay_6 21 rfl rfl)
theorem dX4_lay_162 : decode cX4_lay 162 = .ok (.iconst 1, 1) := dk_4 (dk_at dksX4_lay_6 22 rfl rfl)
theorem dX4_lay_163 : decode cX4_lay 163 = .ok (.isub, 1) := dk_100 (dk_at dksX4_lay_6 23 rfl rfl)
theorem dX4_lay_164 : decode cX4_lay 164 = .ok (.if_icmp .ne 7, 3) := dk_160 0 7 (dk_at dksX4_lay_7 0 rfl rfl)
theorem dX4_lay_167 : decode cX4_lay 167 = .ok (.iconst 1, 1) := dk_4 (dk_at dksX4_lay_7 3 rfl rfl)
theorem dX4_lay_168 : decode cX4_lay 168 = .ok (.goto 4, 3) := dk_167 0 4 (dk_at dksX4_lay_7 4 rfl rfl)
theorem dX4_lay_171 : decode cX4_lay 171 = .ok (.iconst 0, 1) := dk_3 (dk_at dksX4_lay_7 7 rfl rfl)
theorem dX4_lay_172 : decode cX4_lay 172 = .ok (.istore 5, 2) := dk_54 5 (dk_at dksX4_lay_7 8 rfl rfl)
theorem dX4_lay_174 : decode cX4_lay 174 = .ok (.iinc 6 1, 3) := dk_132 6 1 (dk_at dksX4_lay_7 10 rfl rfl)
theorem dX4_lay_177 : decode cX4_lay 177 = .ok (.goto (-68), 3) := dk_167 255 188 (dk_at dksX4_lay_7 13 rfl rfl)
theorem dX4_lay_180 : decode cX4_lay 180 = .ok (.iload 5, 2) := dk_21 5 (dk_at dksX4_lay_7 16 rfl rfl)
theorem dX4_lay_182 : decode cX4_lay 182 = .ok (.ifCond .eq 18, 3) := dk_153 0 18 (dk_at dksX4_lay_7 18 rfl rfl)
theorem dX4_lay_185 : decode cX4_lay 185 = .ok (.aload_n 0, 1) := dk_42 (dk_at dksX4_lay_7 21 rfl rfl)
theorem dX4_lay_186 : decode cX4_lay 186 = .ok (.getfield 44, 3) := dk_180 0 44 (dk_at dksX4_lay_8 0 rfl rfl)
theorem dX4_lay_189 : decode cX4_lay 189 = .ok (.bipush 60, 2) := dk_16 60 (dk_at dksX4_lay_8 3 rfl rfl)
theorem dX4_lay_191 : decode cX4_lay 191 = .ok (.iload_n 3, 1) := dk_29 (dk_at dksX4_lay_8 5 rfl rfl)
theorem dX4_lay_192 : decode cX4_lay 192 = .ok (.imul, 1) := dk_104 (dk_at dksX4_lay_8 6 rfl rfl)
theorem dX4_lay_193 : decode cX4_lay 193 = .ok (.iload 4, 2) := dk_21 4 (dk_at dksX4_lay_8 7 rfl rfl)
theorem dX4_lay_195 : decode cX4_lay 195 = .ok (.iadd, 1) := dk_96 (dk_at dksX4_lay_8 9 rfl rfl)
theorem dX4_lay_196 : decode cX4_lay 196 = .ok (.iload_n 2, 1) := dk_28 (dk_at dksX4_lay_8 10 rfl rfl)
theorem dX4_lay_197 : decode cX4_lay 197 = .ok (.iastore, 1) := dk_79 (dk_at dksX4_lay_8 11 rfl rfl)
theorem dX4_lay_198 : decode cX4_lay 198 = .ok (.iconst 1, 1) := dk_4 (dk_at dksX4_lay_8 12 rfl rfl)
theorem dX4_lay_199 : decode cX4_lay 199 = .ok (.istore_n 1, 1) := dk_60 (dk_at dksX4_lay_8 13 rfl rfl)
theorem dX4_lay_200 : decode cX4_lay 200 = .ok (.iinc 4 1, 3) := dk_132 4 1 (dk_at dksX4_lay_8 14 rfl rfl)
theorem dX4_lay_203 : decode cX4_lay 203 = .ok (.goto (-109), 3) := dk_167 255 147 (dk_at dksX4_lay_8 17 rfl rfl)
theorem dX4_lay_206 : decode cX4_lay 206 = .ok (.iinc 3 1, 3) := dk_132 3 1 (dk_at dksX4_lay_8 20 rfl rfl)
theorem dX4_lay_209 : decode cX4_lay 209 = .ok (.goto (-126), 3) := dk_167 255 130 (dk_at dksX4_lay_9 0 rfl rfl)
theorem dX4_lay_212 : decode cX4_lay 212 = .ok (.iinc 2 1, 3) := dk_132 2 1 (dk_at dksX4_lay_9 3 rfl rfl)
theorem dX4_lay_215 : decode cX4_lay 215 = .ok (.goto (-140), 3) := dk_167 255 116 (dk_at dksX4_lay_9 6 rfl rfl)
theorem dX4_lay_218 : decode cX4_lay 218 = .ok (.iconst 0, 1) := dk_3 (dk_at dksX4_lay_9 9 rfl rfl)
theorem dX4_lay_219 : decode cX4_lay 219 = .ok (.istore_n 2, 1) := dk_61 (dk_at dksX4_lay_9 10 rfl rfl)
theorem dX4_lay_220 : decode cX4_lay 220 = .ok (.iload_n 2, 1) := dk_28 (dk_at dksX4_lay_9 11 rfl rfl)
theorem dX4_lay_221 : decode cX4_lay 221 = .ok (.aload_n 0, 1) := dk_42 (dk_at dksX4_lay_9 12 rfl rfl)
theorem dX4_lay_222 : decode cX4_lay 222 = .ok (.getfield 116, 3) := dk_180 0 116 (dk_at dksX4_lay_9 13 rfl rfl)
theorem dX4_lay_225 : decode cX4_lay 225 = .ok (.if_icmp .ge 57, 3) := dk_162 0 57 (dk_at dksX4_lay_9 16 rfl rfl)
theorem dX4_lay_228 : decode cX4_lay 228 = .ok (.iconst 0, 1) := dk_3 (dk_at dksX4_lay_9 19 rfl rfl)
theorem dX4_lay_229 : decode cX4_lay 229 = .ok (.istore_n 3, 1) := dk_62 (dk_at dksX4_lay_9 20 rfl rfl)
theorem dX4_lay_230 : decode cX4_lay 230 = .ok (.iload_n 3, 1) := dk_29 (dk_at dksX4_lay_9 21 rfl rfl)
theorem dX4_lay_231 : decode cX4_lay 231 = .ok (.aload_n 0, 1) := dk_42 (dk_at dksX4_lay_9 22 rfl rfl)
theorem dX4_lay_232 : decode cX4_lay 232 = .ok (.getfield 116, 3) := dk_180 0 116 (dk_at dksX4_lay_10 0 rfl rfl)
theorem dX4_lay_235 : decode cX4_lay 235 = .ok (.if_icmp .ge 41, 3) := dk_162 0 41 (dk_at dksX4_lay_10 3 rfl rfl)
theorem dX4_lay_238 : decode cX4_lay 238 = .ok (.aload_n 0, 1) := dk_42 (dk_at dksX4_lay_10 6 rfl rfl)
theorem dX4_lay_239 : decode cX4_lay 239 = .ok (.getfield 40, 3) := dk_180 0 40 (dk_at dksX4_lay_10 7 rfl rfl)
theorem dX4_lay_242 : decode cX4_lay 242 = .ok (.bipush 60, 2) := dk_16 60 (dk_at dksX4_lay_10 10 rfl rfl)
theorem dX4_lay_244 : decode cX4_lay 244 = .ok (.iload_n 2, 1) := dk_28 (dk_at dksX4_lay_10 12 rfl rfl)
theorem dX4_lay_245 : decode cX4_lay 245 = .ok (.imul, 1) := dk_104 (dk_at dksX4_lay_10 13 rfl rfl)
theorem dX4_lay_246 : decode cX4_lay 246 = .ok (.iload_n 3, 1) := dk_29 (dk_at dksX4_lay_10 14 rfl rfl)
theorem dX4_lay_247 : decode cX4_lay 247 = .ok (.iadd, 1) := dk_96 (dk_at dksX4_lay_10 15 rfl rfl)
theorem dX4_lay_248 : decode cX4_lay 248 = .ok (.aload_n 0, 1) := dk_42 (dk_at dksX4_lay_10 16 rfl rfl)
theorem dX4_lay_249 : decode cX4_lay 249 = .ok (.getfield 44, 3) := dk_180 0 44 (dk_at dksX4_lay_10 17 rfl rfl)
theorem dX4_lay_252 : decode cX4_lay 252 = .ok (.bipush 60, 2) := dk_16 60 (dk_at dksX4_lay_10 20 rfl rfl)
theorem dX4_lay_254 : decode cX4_lay 254 = .ok (.iload_n 2, 1) := dk_28 (dk_at dksX4_lay_10 22 rfl rfl)
theorem dX4_lay_255 : decode cX4_lay 255 = .ok (.imul, 1) := dk_104 (dk_at dksX4_lay_10 23 rfl rfl)
theorem dX4_lay_256 : decode cX4_lay 256 = .ok (.iload_n 3, 1) := dk_29 (dk_at dksX4_lay_11 0 rfl rfl)
theorem dX4_lay_257 : decode cX4_lay 257 = .ok (.iadd, 1) := dk_96 (dk_at dksX4_lay_11 1 rfl rfl)
theorem dX4_lay_258 : decode cX4_lay 258 = .ok (.iaload, 1) := dk_46 (dk_at dksX4_lay_11 2 rfl rfl)
theorem dX4_lay_259 : decode cX4_lay 259 = .ok (.ldc 137, 2) := dk_18 137 (dk_at dksX4_lay_11 3 rfl rfl)
theorem dX4_lay_261 : decode cX4_lay 261 = .ok (.if_icmp .ne 7, 3) := dk_160 0 7 (dk_at dksX4_lay_11 5 rfl rfl)
theorem dX4_lay_264 : decode cX4_lay 264 = .ok (.iconst 1, 1) := dk_4 (dk_at dksX4_lay_11 8 rfl rfl)
theorem dX4_lay_265 : decode cX4_lay 265 = .ok (.goto 4, 3) := dk_167 0 4 (dk_at dksX4_lay_11 9 rfl rfl)
theorem dX4_lay_268 : decode cX4_lay 268 = .ok (.iconst 0, 1) := dk_3 (dk_at dksX4_lay_11 12 rfl rfl)
theorem dX4_lay_269 : decode cX4_lay 269 = .ok (.bastore, 1) := dk_84 (dk_at dksX4_lay_11 13 rfl rfl)
theorem dX4_lay_270 : decode cX4_lay 270 = .ok (.iinc 3 1, 3) := dk_132 3 1 (dk_at dksX4_lay_11 14 rfl rfl)
theorem dX4_lay_273 : decode cX4_lay 273 = .ok (.goto (-43), 3) := dk_167 255 213 (dk_at dksX4_lay_11 17 rfl rfl)
theorem dX4_lay_276 : decode cX4_lay 276 = .ok (.iinc 2 1, 3) := dk_132 2 1 (dk_at dksX4_lay_11 20 rfl rfl)
theorem dX4_lay_279 : decode cX4_lay 279 = .ok (.goto (-59), 3) := dk_167 255 197 (dk_at dksX4_lay_12 0 rfl rfl)
theorem dX4_lay_282 : decode cX4_lay 282 = .ok (.return_, 1) := dk_177 (dk_at dksX4_lay_12 3 rfl rfl)
abbrev cX4_fitsAlone : ByteArray := prog_6_method_16_code
def yX4_fitsAlone : MethodName := ⟨RX4, "fitsAlone", "(II)Z"⟩
def dkwX4_fitsAlone_7 : List UInt8 := [167, 0, 4, 3, 62, 132, 4, 1, 167, 255, 146, 29, 172]
abbrev dktX4_fitsAlone_7 : List UInt8 := dkwX4_fitsAlone_7 ++ []
def dkwX4_fitsAlone_6 : List UInt8 := [154, 0, 21, 21, 6, 154, 0, 20, 167, 0, 13, 21, 6, 154, 0, 8, 21, 5, 154, 0, 7, 4]
abbrev dktX4_fitsAlone_6 : List UInt8 := dkwX4_fitsAlone_6 ++ dktX4_fitsAlone_7
def dkwX4_fitsAlone_5 : List UInt8 := [167, 0, 4, 3, 54, 6, 29, 153, 0, 41, 42, 180, 0, 13, 27, 46, 16, 123, 160, 0, 16, 21, 5]
abbrev dktX4_fitsAlone_5 : List UInt8 := dkwX4_fitsAlone_5 ++ dktX4_fitsAlone_6
def dkwX4_fitsAlone_4 : List UInt8 := [167, 0, 4, 3, 54, 5, 42, 180, 0, 16, 16, 8, 28, 104, 21, 4, 96, 46, 155, 0, 7, 4]
abbrev dktX4_fitsAlone_4 : List UInt8 := dkwX4_fitsAlone_4 ++ dktX4_fitsAlone_5
def dkwX4_fitsAlone_3 : List UInt8 := [184, 0, 130, 153, 0, 97, 42, 180, 0, 16, 16, 8, 27, 104, 21, 4, 96, 46, 155, 0, 7, 4]
abbrev dktX4_fitsAlone_3 : List UInt8 := dkwX4_fitsAlone_3 ++ dktX4_fitsAlone_4
def dkwX4_fitsAlone_2 : List UInt8 := [160, 0, 5, 3, 172, 4, 62, 3, 54, 4, 21, 4, 16, 8, 162, 0, 109, 42, 180, 0, 13, 27, 46]
abbrev dktX4_fitsAlone_2 : List UInt8 := dkwX4_fitsAlone_2 ++ dktX4_fitsAlone_3
def dkwX4_fitsAlone_1 : List UInt8 := [42, 180, 0, 13, 27, 46, 42, 180, 0, 13, 28, 46, 160, 0, 14, 42, 180, 0, 13, 27, 46, 16, 46]
abbrev dktX4_fitsAlone_1 : List UInt8 := dkwX4_fitsAlone_1 ++ dktX4_fitsAlone_2
def dkwX4_fitsAlone_0 : List UInt8 := [42, 180, 0, 13, 27, 46, 16, 33, 159, 0, 14, 42, 180, 0, 13, 28, 46, 16, 46, 160, 0, 5, 4, 172]
abbrev dktX4_fitsAlone_0 : List UInt8 := dkwX4_fitsAlone_0 ++ dktX4_fitsAlone_1
theorem dksX4_fitsAlone_0 : cX4_fitsAlone.data.toList.drop 0 = dktX4_fitsAlone_0 := by decide +kernel
theorem dksX4_fitsAlone_1 : cX4_fitsAlone.data.toList.drop 24 = dktX4_fitsAlone_1 := dk_seg dksX4_fitsAlone_0 24 rfl rfl
theorem dksX4_fitsAlone_2 : cX4_fitsAlone.data.toList.drop 47 = dktX4_fitsAlone_2 := dk_seg dksX4_fitsAlone_1 23 rfl rfl
theorem dksX4_fitsAlone_3 : cX4_fitsAlone.data.toList.drop 70 = dktX4_fitsAlone_3 := dk_seg dksX4_fitsAlone_2 23 rfl rfl
theorem dksX4_fitsAlone_4 : cX4_fitsAlone.data.toList.drop 92 = dktX4_fitsAlone_4 := dk_seg dksX4_fitsAlone_3 22 rfl rfl
theorem dksX4_fitsAlone_5 : cX4_fitsAlone.data.toList.drop 114 = dktX4_fitsAlone_5 := dk_seg dksX4_fitsAlone_4 22 rfl rfl
theorem dksX4_fitsAlone_6 : cX4_fitsAlone.data.toList.drop 137 = dktX4_fitsAlone_6 := dk_seg dksX4_fitsAlone_5 23 rfl rfl
theorem dksX4_fitsAlone_7 : cX4_fitsAlone.data.toList.drop 159 = dktX4_fitsAlone_7 := dk_seg dksX4_fitsAlone_6 22 rfl rfl
theorem dX4_fitsAlone_0 : decode cX4_fitsAlone 0 = .ok (.aload_n 0, 1) := dk_42 (dk_at dksX4_fitsAlone_0 0 rfl rfl)
theorem dX4_fitsAlone_1 : decode cX4_fitsAlone 1 = .ok (.getfield 13, 3) := dk_180 0 13 (dk_at dksX4_fitsAlone_0 1 rfl rfl)
theorem dX4_fitsAlone_4 : decode cX4_fitsAlone 4 = .ok (.iload_n 1, 1) := dk_27 (dk_at dksX4_fitsAlone_0 4 rfl rfl)
theorem dX4_fitsAlone_5 : decode cX4_fitsAlone 5 = .ok (.iaload, 1) := dk_46 (dk_at dksX4_fitsAlone_0 5 rfl rfl)
theorem dX4_fitsAlone_6 : decode cX4_fitsAlone 6 = .ok (.bipush 33, 2) := dk_16 33 (dk_at dksX4_fitsAlone_0 6 rfl rfl)
theorem dX4_fitsAlone_8 : decode cX4_fitsAlone 8 = .ok (.if_icmp .eq 14, 3) := dk_159 0 14 (dk_at dksX4_fitsAlone_0 8 rfl rfl)
theorem dX4_fitsAlone_11 : decode cX4_fitsAlone 11 = .ok (.aload_n 0, 1) := dk_42 (dk_at dksX4_fitsAlone_0 11 rfl rfl)
theorem dX4_fitsAlone_12 : decode cX4_fitsAlone 12 = .ok (.getfield 13, 3) := dk_180 0 13 (dk_at dksX4_fitsAlone_0 12 rfl rfl)
theorem dX4_fitsAlone_15 : decode cX4_fitsAlone 15 = .ok (.iload_n 2, 1) := dk_28 (dk_at dksX4_fitsAlone_0 15 rfl rfl)
theorem dX4_fitsAlone_16 : decode cX4_fitsAlone 16 = .ok (.iaload, 1) := dk_46 (dk_at dksX4_fitsAlone_0 16 rfl rfl)
theorem dX4_fitsAlone_17 : decode cX4_fitsAlone 17 = .ok (.bipush 46, 2) := dk_16 46 (dk_at dksX4_fitsAlone_0 17 rfl rfl)
theorem dX4_fitsAlone_19 : decode cX4_fitsAlone 19 = .ok (.if_icmp .ne 5, 3) := dk_160 0 5 (dk_at dksX4_fitsAlone_0 19 rfl rfl)
theorem dX4_fitsAlone_22 : decode cX4_fitsAlone 22 = .ok (.iconst 1, 1) := dk_4 (dk_at dksX4_fitsAlone_0 22 rfl rfl)
theorem dX4_fitsAlone_23 : decode cX4_fitsAlone 23 = .ok (.ireturn, 1) := dk_172 (dk_at dksX4_fitsAlone_0 23 rfl rfl)
theorem dX4_fitsAlone_24 : decode cX4_fitsAlone 24 = .ok (.aload_n 0, 1) := dk_42 (dk_at dksX4_fitsAlone_1 0 rfl rfl)
theorem dX4_fitsAlone_25 : decode cX4_fitsAlone 25 = .ok (.getfield 13, 3) := dk_180 0 13 (dk_at dksX4_fitsAlone_1 1 rfl rfl)
theorem dX4_fitsAlone_28 : decode cX4_fitsAlone 28 = .ok (.iload_n 1, 1) := dk_27 (dk_at dksX4_fitsAlone_1 4 rfl rfl)
theorem dX4_fitsAlone_29 : decode cX4_fitsAlone 29 = .ok (.iaload, 1) := dk_46 (dk_at dksX4_fitsAlone_1 5 rfl rfl)
theorem dX4_fitsAlone_30 : decode cX4_fitsAlone 30 = .ok (.aload_n 0, 1) := dk_42 (dk_at dksX4_fitsAlone_1 6 rfl rfl)
theorem dX4_fitsAlone_31 : decode cX4_fitsAlone 31 = .ok (.getfield 13, 3) := dk_180 0 13 (dk_at dksX4_fitsAlone_1 7 rfl rfl)
theorem dX4_fitsAlone_34 : decode cX4_fitsAlone 34 = .ok (.iload_n 2, 1) := dk_28 (dk_at dksX4_fitsAlone_1 10 rfl rfl)
theorem dX4_fitsAlone_35 : decode cX4_fitsAlone 35 = .ok (.iaload, 1) := dk_46 (dk_at dksX4_fitsAlone_1 11 rfl rfl)
theorem dX4_fitsAlone_36 : decode cX4_fitsAlone 36 = .ok (.if_icmp .ne 14, 3) := dk_160 0 14 (dk_at dksX4_fitsAlone_1 12 rfl rfl)
theorem dX4_fitsAlone_39 : decode cX4_fitsAlone 39 = .ok (.aload_n 0, 1) := dk_42 (dk_at dksX4_fitsAlone_1 15 rfl rfl)
theorem dX4_fitsAlone_40 : decode cX4_fitsAlone 40 = .ok (.getfield 13, 3) := dk_180 0 13 (dk_at dksX4_fitsAlone_1 16 rfl rfl)
theorem dX4_fitsAlone_43 : decode cX4_fitsAlone 43 = .ok (.iload_n 1, 1) := dk_27 (dk_at dksX4_fitsAlone_1 19 rfl rfl)
theorem dX4_fitsAlone_44 : decode cX4_fitsAlone 44 = .ok (.iaload, 1) := dk_46 (dk_at dksX4_fitsAlone_1 20 rfl rfl)
theorem dX4_fitsAlone_45 : decode cX4_fitsAlone 45 = .ok (.bipush 46, 2) := dk_16 46 (dk_at dksX4_fitsAlone_1 21 rfl rfl)
theorem dX4_fitsAlone_47 : decode cX4_fitsAlone 47 = .ok (.if_icmp .ne 5, 3) := dk_160 0 5 (dk_at dksX4_fitsAlone_2 0 rfl rfl)
theorem dX4_fitsAlone_50 : decode cX4_fitsAlone 50 = .ok (.iconst 0, 1) := dk_3 (dk_at dksX4_fitsAlone_2 3 rfl rfl)
theorem dX4_fitsAlone_51 : decode cX4_fitsAlone 51 = .ok (.ireturn, 1) := dk_172 (dk_at dksX4_fitsAlone_2 4 rfl rfl)
theorem dX4_fitsAlone_52 : decode cX4_fitsAlone 52 = .ok (.iconst 1, 1) := dk_4 (dk_at dksX4_fitsAlone_2 5 rfl rfl)
theorem dX4_fitsAlone_53 : decode cX4_fitsAlone 53 = .ok (.istore_n 3, 1) := dk_62 (dk_at dksX4_fitsAlone_2 6 rfl rfl)
theorem dX4_fitsAlone_54 : decode cX4_fitsAlone 54 = .ok (.iconst 0, 1) := dk_3 (dk_at dksX4_fitsAlone_2 7 rfl rfl)
theorem dX4_fitsAlone_55 : decode cX4_fitsAlone 55 = .ok (.istore 4, 2) := dk_54 4 (dk_at dksX4_fitsAlone_2 8 rfl rfl)
theorem dX4_fitsAlone_57 : decode cX4_fitsAlone 57 = .ok (.iload 4, 2) := dk_21 4 (dk_at dksX4_fitsAlone_2 10 rfl rfl)
theorem dX4_fitsAlone_59 : decode cX4_fitsAlone 59 = .ok (.bipush 8, 2) := dk_16 8 (dk_at dksX4_fitsAlone_2 12 rfl rfl)
theorem dX4_fitsAlone_61 : decode cX4_fitsAlone 61 = .ok (.if_icmp .ge 109, 3) := dk_162 0 109 (dk_at dksX4_fitsAlone_2 14 rfl rfl)
theorem dX4_fitsAlone_64 : decode cX4_fitsAlone 64 = .ok (.aload_n 0, 1) := dk_42 (dk_at dksX4_fitsAlone_2 17 rfl rfl)
theorem dX4_fitsAlone_65 : decode cX4_fitsAlone 65 = .ok (.getfield 13, 3) := dk_180 0 13 (dk_at dksX4_fitsAlone_2 18 rfl rfl)
theorem dX4_fitsAlone_68 : decode cX4_fitsAlone 68 = .ok (.iload_n 1, 1) := dk_27 (dk_at dksX4_fitsAlone_2 21 rfl rfl)
theorem dX4_fitsAlone_69 : decode cX4_fitsAlone 69 = .ok (.iaload, 1) := dk_46 (dk_at dksX4_fitsAlone_2 22 rfl rfl)
theorem dX4_fitsAlone_70 : decode cX4_fitsAlone 70 = .ok (.invokestatic 130, 3) := dk_184 0 130 (dk_at dksX4_fitsAlone_3 0 rfl rfl)
theorem dX4_fitsAlone_73 : decode cX4_fitsAlone 73 = .ok (.ifCond .eq 97, 3) := dk_153 0 97 (dk_at dksX4_fitsAlone_3 3 rfl rfl)
theorem dX4_fitsAlone_76 : decode cX4_fitsAlone 76 = .ok (.aload_n 0, 1) := dk_42 (dk_at dksX4_fitsAlone_3 6 rfl rfl)
theorem dX4_fitsAlone_77 : decode cX4_fitsAlone 77 = .ok (.getfield 16, 3) := dk_180 0 16 (dk_at dksX4_fitsAlone_3 7 rfl rfl)
theorem dX4_fitsAlone_80 : decode cX4_fitsAlone 80 = .ok (.bipush 8, 2) := dk_16 8 (dk_at dksX4_fitsAlone_3 10 rfl rfl)
theorem dX4_fitsAlone_82 : decode cX4_fitsAlone 82 = .ok (.iload_n 1, 1) := dk_27 (dk_at dksX4_fitsAlone_3 12 rfl rfl)
theorem dX4_fitsAlone_83 : decode cX4_fitsAlone 83 = .ok (.imul, 1) := dk_104 (dk_at dksX4_fitsAlone_3 13 rfl rfl)
theorem dX4_fitsAlone_84 : decode cX4_fitsAlone 84 = .ok (.iload 4, 2) := dk_21 4 (dk_at dksX4_fitsAlone_3 14 rfl rfl)
theorem dX4_fitsAlone_86 : decode cX4_fitsAlone 86 = .ok (.iadd, 1) := dk_96 (dk_at dksX4_fitsAlone_3 16 rfl rfl)
theorem dX4_fitsAlone_87 : decode cX4_fitsAlone 87 = .ok (.iaload, 1) := dk_46 (dk_at dksX4_fitsAlone_3 17 rfl rfl)
theorem dX4_fitsAlone_88 : decode cX4_fitsAlone 88 = .ok (.ifCond .lt 7, 3) := dk_155 0 7 (dk_at dksX4_fitsAlone_3 18 rfl rfl)
theorem dX4_fitsAlone_91 : decode cX4_fitsAlone 91 = .ok (.iconst 1, 1) := dk_4 (dk_at dksX4_fitsAlone_3 21 rfl rfl)
theorem dX4_fitsAlone_92 : decode cX4_fitsAlone 92 = .ok (.goto 4, 3) := dk_167 0 4 (dk_at dksX4_fitsAlone_4 0 rfl rfl)
theorem dX4_fitsAlone_95 : decode cX4_fitsAlone 95 = .ok (.iconst 0, 1) := dk_3 (dk_at dksX4_fitsAlone_4 3 rfl rfl)
theorem dX4_fitsAlone_96 : decode cX4_fitsAlone 96 = .ok (.istore 5, 2) := dk_54 5 (dk_at dksX4_fitsAlone_4 4 rfl rfl)
theorem dX4_fitsAlone_98 : decode cX4_fitsAlone 98 = .ok (.aload_n 0, 1) := dk_42 (dk_at dksX4_fitsAlone_4 6 rfl rfl)
theorem dX4_fitsAlone_99 : decode cX4_fitsAlone 99 = .ok (.getfield 16, 3) := dk_180 0 16 (dk_at dksX4_fitsAlone_4 7 rfl rfl)
theorem dX4_fitsAlone_102 : decode cX4_fitsAlone 102 = .ok (.bipush 8, 2) := dk_16 8 (dk_at dksX4_fitsAlone_4 10 rfl rfl)
theorem dX4_fitsAlone_104 : decode cX4_fitsAlone 104 = .ok (.iload_n 2, 1) := dk_28 (dk_at dksX4_fitsAlone_4 12 rfl rfl)
theorem dX4_fitsAlone_105 : decode cX4_fitsAlone 105 = .ok (.imul, 1) := dk_104 (dk_at dksX4_fitsAlone_4 13 rfl rfl)
theorem dX4_fitsAlone_106 : decode cX4_fitsAlone 106 = .ok (.iload 4, 2) := dk_21 4 (dk_at dksX4_fitsAlone_4 14 rfl rfl)
theorem dX4_fitsAlone_108 : decode cX4_fitsAlone 108 = .ok (.iadd, 1) := dk_96 (dk_at dksX4_fitsAlone_4 16 rfl rfl)
theorem dX4_fitsAlone_109 : decode cX4_fitsAlone 109 = .ok (.iaload, 1) := dk_46 (dk_at dksX4_fitsAlone_4 17 rfl rfl)
theorem dX4_fitsAlone_110 : decode cX4_fitsAlone 110 = .ok (.ifCond .lt 7, 3) := dk_155 0 7 (dk_at dksX4_fitsAlone_4 18 rfl rfl)
theorem dX4_fitsAlone_113 : decode cX4_fitsAlone 113 = .ok (.iconst 1, 1) := dk_4 (dk_at dksX4_fitsAlone_4 21 rfl rfl)
theorem dX4_fitsAlone_114 : decode cX4_fitsAlone 114 = .ok (.goto 4, 3) := dk_167 0 4 (dk_at dksX4_fitsAlone_5 0 rfl rfl)
theorem dX4_fitsAlone_117 : decode cX4_fitsAlone 117 = .ok (.iconst 0, 1) := dk_3 (dk_at dksX4_fitsAlone_5 3 rfl rfl)
theorem dX4_fitsAlone_118 : decode cX4_fitsAlone 118 = .ok (.istore 6, 2) := dk_54 6 (dk_at dksX4_fitsAlone_5 4 rfl rfl)
theorem dX4_fitsAlone_120 : decode cX4_fitsAlone 120 = .ok (.iload_n 3, 1) := dk_29 (dk_at dksX4_fitsAlone_5 6 rfl rfl)
theorem dX4_fitsAlone_121 : decode cX4_fitsAlone 121 = .ok (.ifCond .eq 41, 3) := dk_153 0 41 (dk_at dksX4_fitsAlone_5 7 rfl rfl)
theorem dX4_fitsAlone_124 : decode cX4_fitsAlone 124 = .ok (.aload_n 0, 1) := dk_42 (dk_at dksX4_fitsAlone_5 10 rfl rfl)
theorem dX4_fitsAlone_125 : decode cX4_fitsAlone 125 = .ok (.getfield 13, 3) := dk_180 0 13 (dk_at dksX4_fitsAlone_5 11 rfl rfl)
theorem dX4_fitsAlone_128 : decode cX4_fitsAlone 128 = .ok (.iload_n 1, 1) := dk_27 (dk_at dksX4_fitsAlone_5 14 rfl rfl)
theorem dX4_fitsAlone_129 : decode cX4_fitsAlone 129 = .ok (.iaload, 1) := dk_46 (dk_at dksX4_fitsAlone_5 15 rfl rfl)
theorem dX4_fitsAlone_130 : decode cX4_fitsAlone 130 = .ok (.bipush 123, 2) := dk_16 123 (dk_at dksX4_fitsAlone_5 16 rfl rfl)
theorem dX4_fitsAlone_132 : decode cX4_fitsAlone 132 = .ok (.if_icmp .ne 16, 3) := dk_160 0 16 (dk_at dksX4_fitsAlone_5 18 rfl rfl)
theorem dX4_fitsAlone_135 : decode cX4_fitsAlone 135 = .ok (.iload 5, 2) := dk_21 5 (dk_at dksX4_fitsAlone_5 21 rfl rfl)
theorem dX4_fitsAlone_137 : decode cX4_fitsAlone 137 = .ok (.ifCond .ne 21, 3) := dk_154 0 21 (dk_at dksX4_fitsAlone_6 0 rfl rfl)
theorem dX4_fitsAlone_140 : decode cX4_fitsAlone 140 = .ok (.iload 6, 2) := dk_21 6 (dk_at dksX4_fitsAlone_6 3 rfl rfl)
theorem dX4_fitsAlone_142 : decode cX4_fitsAlone 142 = .ok (.ifCond .ne 20, 3) := dk_154 0 20 (dk_at dksX4_fitsAlone_6 5 rfl rfl)
theorem dX4_fitsAlone_145 : decode cX4_fitsAlone 145 = .ok (.goto 13, 3) := dk_167 0 13 (dk_at dksX4_fitsAlone_6 8 rfl rfl)
theorem dX4_fitsAlone_148 : decode cX4_fitsAlone 148 = .ok (.iload 6, 2) := dk_21 6 (dk_at dksX4_fitsAlone_6 11 rfl rfl)
theorem dX4_fitsAlone_150 : decode cX4_fitsAlone 150 = .ok (.ifCond .ne 8, 3) := dk_154 0 8 (dk_at dksX4_fitsAlone_6 13 rfl rfl)
theorem dX4_fitsAlone_153 : decode cX4_fitsAlone 153 = .ok (.iload 5, 2) := dk_21 5 (dk_at dksX4_fitsAlone_6 16 rfl rfl)
theorem dX4_fitsAlone_155 : decode cX4_fitsAlone 155 = .ok (.ifCond .ne 7, 3) := dk_154 0 7 (dk_at dksX4_fitsAlone_6 18 rfl rfl)
theorem dX4_fitsAlone_158 : decode cX4_fitsAlone 158 = .ok (.iconst 1, 1) := dk_4 (dk_at dksX4_fitsAlone_6 21 rfl rfl)
theorem dX4_fitsAlone_159 : decode cX4_fitsAlone 159 = .ok (.goto 4, 3) := dk_167 0 4 (dk_at dksX4_fitsAlone_7 0 rfl rfl)
theorem dX4_fitsAlone_162 : decode cX4_fitsAlone 162 = .ok (.iconst 0, 1) := dk_3 (dk_at dksX4_fitsAlone_7 3 rfl rfl)
theorem dX4_fitsAlone_163 : decode cX4_fitsAlone 163 = .ok (.istore_n 3, 1) := dk_62 (dk_at dksX4_fitsAlone_7 4 rfl rfl)
theorem dX4_fitsAlone_164 : decode cX4_fitsAlone 164 = .ok (.iinc 4 1, 3) := dk_132 4 1 (dk_at dksX4_fitsAlone_7 5 rfl rfl)
theorem dX4_fitsAlone_167 : decode cX4_fitsAlone 167 = .ok (.goto (-110), 3) := dk_167 255 146 (dk_at dksX4_fitsAlone_7 8 rfl rfl)
theorem dX4_fitsAlone_170 : decode cX4_fitsAlone 170 = .ok (.iload_n 3, 1) := dk_29 (dk_at dksX4_fitsAlone_7 11 rfl rfl)
theorem dX4_fitsAlone_171 : decode cX4_fitsAlone 171 = .ok (.ireturn, 1) := dk_172 (dk_at dksX4_fitsAlone_7 12 rfl rfl)
abbrev cX4_isBoth : ByteArray := prog_6_method_15_code
def yX4_isBoth : MethodName := ⟨RX4, "isBoth", "(I)Z"⟩
def dkwX4_isBoth_0 : List UInt8 := [26, 16, 123, 159, 0, 9, 26, 16, 91, 160, 0, 7, 4, 167, 0, 4, 3, 172]
abbrev dktX4_isBoth_0 : List UInt8 := dkwX4_isBoth_0 ++ []
theorem dksX4_isBoth_0 : cX4_isBoth.data.toList.drop 0 = dktX4_isBoth_0 := by decide +kernel
theorem dX4_isBoth_0 : decode cX4_isBoth 0 = .ok (.iload_n 0, 1) := dk_26 (dk_at dksX4_isBoth_0 0 rfl rfl)
theorem dX4_isBoth_1 : decode cX4_isBoth 1 = .ok (.bipush 123, 2) := dk_16 123 (dk_at dksX4_isBoth_0 1 rfl rfl)
theorem dX4_isBoth_3 : decode cX4_isBoth 3 = .ok (.if_icmp .eq 9, 3) := dk_159 0 9 (dk_at dksX4_isBoth_0 3 rfl rfl)
theorem dX4_isBoth_6 : decode cX4_isBoth 6 = .ok (.iload_n 0, 1) := dk_26 (dk_at dksX4_isBoth_0 6 rfl rfl)
theorem dX4_isBoth_7 : decode cX4_isBoth 7 = .ok (.bipush 91, 2) := dk_16 91 (dk_at dksX4_isBoth_0 7 rfl rfl)
theorem dX4_isBoth_9 : decode cX4_isBoth 9 = .ok (.if_icmp .ne 7, 3) := dk_160 0 7 (dk_at dksX4_isBoth_0 9 rfl rfl)
theorem dX4_isBoth_12 : decode cX4_isBoth 12 = .ok (.iconst 1, 1) := dk_4 (dk_at dksX4_isBoth_0 12 rfl rfl)
theorem dX4_isBoth_13 : decode cX4_isBoth 13 = .ok (.goto 4, 3) := dk_167 0 4 (dk_at dksX4_isBoth_0 13 rfl rfl)
theorem dX4_isBoth_16 : decode cX4_isBoth 16 = .ok (.iconst 0, 1) := dk_3 (dk_at dksX4_isBoth_0 16 rfl rfl)
theorem dX4_isBoth_17 : decode cX4_isBoth 17 = .ok (.ireturn, 1) := dk_172 (dk_at dksX4_isBoth_0 17 rfl rfl)
abbrev cX4_stepTo : ByteArray := prog_6_method_17_code
def yX4_stepTo : MethodName := ⟨RX4, "stepTo", "(III)I"⟩
def dkwX4_stepTo_9 : List UInt8 := [180, 0, 16, 16, 8, 28, 104, 4, 96, 46, 96, 172]
abbrev dktX4_stepTo_9 : List UInt8 := dkwX4_stepTo_9 ++ []
def dkwX4_stepTo_8 : List UInt8 := [16, 8, 27, 104, 46, 96, 167, 0, 29, 16, 60, 42, 180, 0, 16, 16, 8, 27, 104, 4, 96, 46, 104, 42]
abbrev dktX4_stepTo_8 : List UInt8 := dkwX4_stepTo_8 ++ dktX4_stepTo_9
def dkwX4_stepTo_7 : List UInt8 := [172, 29, 16, 9, 160, 0, 28, 16, 60, 42, 180, 0, 16, 16, 8, 28, 104, 46, 104, 42, 180, 0, 16]
abbrev dktX4_stepTo_7 : List UInt8 := dkwX4_stepTo_7 ++ dktX4_stepTo_8
def dkwX4_stepTo_6 : List UInt8 := [180, 0, 16, 16, 8, 28, 104, 46, 96, 167, 0, 5, 16, 250, 172, 21, 4, 16, 62, 159, 0, 6, 16, 250]
abbrev dktX4_stepTo_6 : List UInt8 := dkwX4_stepTo_6 ++ dktX4_stepTo_7
def dkwX4_stepTo_5 : List UInt8 := [160, 0, 38, 21, 4, 16, 42, 160, 0, 28, 16, 60, 42, 180, 0, 16, 16, 8, 27, 104, 46, 104, 42]
abbrev dktX4_stepTo_5 : List UInt8 := dkwX4_stepTo_5 ++ dktX4_stepTo_6
def dkwX4_stepTo_4 : List UInt8 := [46, 104, 42, 180, 0, 16, 16, 8, 28, 104, 29, 96, 46, 96, 167, 0, 5, 16, 250, 172, 29, 16, 8]
abbrev dktX4_stepTo_4 : List UInt8 := dkwX4_stepTo_4 ++ dktX4_stepTo_5
def dkwX4_stepTo_3 : List UInt8 := [4, 167, 0, 4, 3, 54, 5, 21, 5, 153, 0, 32, 16, 60, 42, 180, 0, 16, 16, 8, 27, 104, 29, 96]
abbrev dktX4_stepTo_3 : List UInt8 := dkwX4_stepTo_3 ++ dktX4_stepTo_4
def dkwX4_stepTo_2 : List UInt8 := [16, 8, 27, 104, 29, 96, 46, 155, 0, 21, 42, 180, 0, 16, 16, 8, 28, 104, 29, 96, 46, 155, 0, 7]
abbrev dktX4_stepTo_2 : List UInt8 := dkwX4_stepTo_2 ++ dktX4_stepTo_3
def dkwX4_stepTo_1 : List UInt8 := [160, 0, 6, 16, 250, 172, 29, 16, 8, 162, 0, 83, 21, 4, 184, 0, 130, 153, 0, 35, 42, 180, 0, 16]
abbrev dktX4_stepTo_1 : List UInt8 := dkwX4_stepTo_1 ++ dktX4_stepTo_2
def dkwX4_stepTo_0 : List UInt8 := [42, 180, 0, 13, 27, 46, 54, 4, 21, 4, 16, 33, 159, 0, 14, 42, 180, 0, 13, 28, 46, 16, 46]
abbrev dktX4_stepTo_0 : List UInt8 := dkwX4_stepTo_0 ++ dktX4_stepTo_1
theorem dksX4_stepTo_0 : cX4_stepTo.data.toList.drop 0 = dktX4_stepTo_0 := by decide +kernel
theorem dksX4_stepTo_1 : cX4_stepTo.data.toList.drop 23 = dktX4_stepTo_1 := dk_seg dksX4_stepTo_0 23 rfl rfl
theorem dksX4_stepTo_2 : cX4_stepTo.data.toList.drop 47 = dktX4_stepTo_2 := dk_seg dksX4_stepTo_1 24 rfl rfl
theorem dksX4_stepTo_3 : cX4_stepTo.data.toList.drop 71 = dktX4_stepTo_3 := dk_seg dksX4_stepTo_2 24 rfl rfl
theorem dksX4_stepTo_4 : cX4_stepTo.data.toList.drop 95 = dktX4_stepTo_4 := dk_seg dksX4_stepTo_3 24 rfl rfl
theorem dksX4_stepTo_5 : cX4_stepTo.data.toList.drop 118 = dktX4_stepTo_5 := dk_seg dksX4_stepTo_4 23 rfl rfl
theorem dksX4_stepTo_6 : cX4_stepTo.data.toList.drop 141 = dktX4_stepTo_6 := dk_seg dksX4_stepTo_5 23 rfl rfl
theorem dksX4_stepTo_7 : cX4_stepTo.data.toList.drop 165 = dktX4_stepTo_7 := dk_seg dksX4_stepTo_6 24 rfl rfl
theorem dksX4_stepTo_8 : cX4_stepTo.data.toList.drop 188 = dktX4_stepTo_8 := dk_seg dksX4_stepTo_7 23 rfl rfl
theorem dksX4_stepTo_9 : cX4_stepTo.data.toList.drop 212 = dktX4_stepTo_9 := dk_seg dksX4_stepTo_8 24 rfl rfl
theorem dX4_stepTo_0 : decode cX4_stepTo 0 = .ok (.aload_n 0, 1) := dk_42 (dk_at dksX4_stepTo_0 0 rfl rfl)
theorem dX4_stepTo_1 : decode cX4_stepTo 1 = .ok (.getfield 13, 3) := dk_180 0 13 (dk_at dksX4_stepTo_0 1 rfl rfl)
theorem dX4_stepTo_4 : decode cX4_stepTo 4 = .ok (.iload_n 1, 1) := dk_27 (dk_at dksX4_stepTo_0 4 rfl rfl)
theorem dX4_stepTo_5 : decode cX4_stepTo 5 = .ok (.iaload, 1) := dk_46 (dk_at dksX4_stepTo_0 5 rfl rfl)
theorem dX4_stepTo_6 : decode cX4_stepTo 6 = .ok (.istore 4, 2) := dk_54 4 (dk_at dksX4_stepTo_0 6 rfl rfl)
theorem dX4_stepTo_8 : decode cX4_stepTo 8 = .ok (.iload 4, 2) := dk_21 4 (dk_at dksX4_stepTo_0 8 rfl rfl)
theorem dX4_stepTo_10 : decode cX4_stepTo 10 = .ok (.bipush 33, 2) := dk_16 33 (dk_at dksX4_stepTo_0 10 rfl rfl)
theorem dX4_stepTo_12 : decode cX4_stepTo 12 = .ok (.if_icmp .eq 14, 3) := dk_159 0 14 (dk_at dksX4_stepTo_0 12 rfl rfl)
theorem dX4_stepTo_15 : decode cX4_stepTo 15 = .ok (.aload_n 0, 1) := dk_42 (dk_at dksX4_stepTo_0 15 rfl rfl)
theorem dX4_stepTo_16 : decode cX4_stepTo 16 = .ok (.getfield 13, 3) := dk_180 0 13 (dk_at dksX4_stepTo_0 16 rfl rfl)
theorem dX4_stepTo_19 : decode cX4_stepTo 19 = .ok (.iload_n 2, 1) := dk_28 (dk_at dksX4_stepTo_0 19 rfl rfl)
theorem dX4_stepTo_20 : decode cX4_stepTo 20 = .ok (.iaload, 1) := dk_46 (dk_at dksX4_stepTo_0 20 rfl rfl)
theorem dX4_stepTo_21 : decode cX4_stepTo 21 = .ok (.bipush 46, 2) := dk_16 46 (dk_at dksX4_stepTo_0 21 rfl rfl)
theorem dX4_stepTo_23 : decode cX4_stepTo 23 = .ok (.if_icmp .ne 6, 3) := dk_160 0 6 (dk_at dksX4_stepTo_1 0 rfl rfl)
theorem dX4_stepTo_26 : decode cX4_stepTo 26 = .ok (.bipush (-6), 2) := dk_16 250 (dk_at dksX4_stepTo_1 3 rfl rfl)
theorem dX4_stepTo_28 : decode cX4_stepTo 28 = .ok (.ireturn, 1) := dk_172 (dk_at dksX4_stepTo_1 5 rfl rfl)
theorem dX4_stepTo_29 : decode cX4_stepTo 29 = .ok (.iload_n 3, 1) := dk_29 (dk_at dksX4_stepTo_1 6 rfl rfl)
theorem dX4_stepTo_30 : decode cX4_stepTo 30 = .ok (.bipush 8, 2) := dk_16 8 (dk_at dksX4_stepTo_1 7 rfl rfl)
theorem dX4_stepTo_32 : decode cX4_stepTo 32 = .ok (.if_icmp .ge 83, 3) := dk_162 0 83 (dk_at dksX4_stepTo_1 9 rfl rfl)
theorem dX4_stepTo_35 : decode cX4_stepTo 35 = .ok (.iload 4, 2) := dk_21 4 (dk_at dksX4_stepTo_1 12 rfl rfl)
theorem dX4_stepTo_37 : decode cX4_stepTo 37 = .ok (.invokestatic 130, 3) := dk_184 0 130 (dk_at dksX4_stepTo_1 14 rfl rfl)
theorem dX4_stepTo_40 : decode cX4_stepTo 40 = .ok (.ifCond .eq 35, 3) := dk_153 0 35 (dk_at dksX4_stepTo_1 17 rfl rfl)
theorem dX4_stepTo_43 : decode cX4_stepTo 43 = .ok (.aload_n 0, 1) := dk_42 (dk_at dksX4_stepTo_1 20 rfl rfl)
theorem dX4_stepTo_44 : decode cX4_stepTo 44 = .ok (.getfield 16, 3) := dk_180 0 16 (dk_at dksX4_stepTo_1 21 rfl rfl)
theorem dX4_stepTo_47 : decode cX4_stepTo 47 = .ok (.bipush 8, 2) := dk_16 8 (dk_at dksX4_stepTo_2 0 rfl rfl)
theorem dX4_stepTo_49 : decode cX4_stepTo 49 = .ok (.iload_n 1, 1) := dk_27 (dk_at dksX4_stepTo_2 2 rfl rfl)
theorem dX4_stepTo_50 : decode cX4_stepTo 50 = .ok (.imul, 1) := dk_104 (dk_at dksX4_stepTo_2 3 rfl rfl)
theorem dX4_stepTo_51 : decode cX4_stepTo 51 = .ok (.iload_n 3, 1) := dk_29 (dk_at dksX4_stepTo_2 4 rfl rfl)
theorem dX4_stepTo_52 : decode cX4_stepTo 52 = .ok (.iadd, 1) := dk_96 (dk_at dksX4_stepTo_2 5 rfl rfl)
theorem dX4_stepTo_53 : decode cX4_stepTo 53 = .ok (.iaload, 1) := dk_46 (dk_at dksX4_stepTo_2 6 rfl rfl)
theorem dX4_stepTo_54 : decode cX4_stepTo 54 = .ok (.ifCond .lt 21, 3) := dk_155 0 21 (dk_at dksX4_stepTo_2 7 rfl rfl)
theorem dX4_stepTo_57 : decode cX4_stepTo 57 = .ok (.aload_n 0, 1) := dk_42 (dk_at dksX4_stepTo_2 10 rfl rfl)
theorem dX4_stepTo_58 : decode cX4_stepTo 58 = .ok (.getfield 16, 3) := dk_180 0 16 (dk_at dksX4_stepTo_2 11 rfl rfl)
theorem dX4_stepTo_61 : decode cX4_stepTo 61 = .ok (.bipush 8, 2) := dk_16 8 (dk_at dksX4_stepTo_2 14 rfl rfl)
theorem dX4_stepTo_63 : decode cX4_stepTo 63 = .ok (.iload_n 2, 1) := dk_28 (dk_at dksX4_stepTo_2 16 rfl rfl)
theorem dX4_stepTo_64 : decode cX4_stepTo 64 = .ok (.imul, 1) := dk_104 (dk_at dksX4_stepTo_2 17 rfl rfl)
theorem dX4_stepTo_65 : decode cX4_stepTo 65 = .ok (.iload_n 3, 1) := dk_29 (dk_at dksX4_stepTo_2 18 rfl rfl)
theorem dX4_stepTo_66 : decode cX4_stepTo 66 = .ok (.iadd, 1) := dk_96 (dk_at dksX4_stepTo_2 19 rfl rfl)
theorem dX4_stepTo_67 : decode cX4_stepTo 67 = .ok (.iaload, 1) := dk_46 (dk_at dksX4_stepTo_2 20 rfl rfl)
theorem dX4_stepTo_68 : decode cX4_stepTo 68 = .ok (.ifCond .lt 7, 3) := dk_155 0 7 (dk_at dksX4_stepTo_2 21 rfl rfl)
theorem dX4_stepTo_71 : decode cX4_stepTo 71 = .ok (.iconst 1, 1) := dk_4 (dk_at dksX4_stepTo_3 0 rfl rfl)
theorem dX4_stepTo_72 : decode cX4_stepTo 72 = .ok (.goto 4, 3) := dk_167 0 4 (dk_at dksX4_stepTo_3 1 rfl rfl)
theorem dX4_stepTo_75 : decode cX4_stepTo 75 = .ok (.iconst 0, 1) := dk_3 (dk_at dksX4_stepTo_3 4 rfl rfl)
theorem dX4_stepTo_76 : decode cX4_stepTo 76 = .ok (.istore 5, 2) := dk_54 5 (dk_at dksX4_stepTo_3 5 rfl rfl)
theorem dX4_stepTo_78 : decode cX4_stepTo 78 = .ok (.iload 5, 2) := dk_21 5 (dk_at dksX4_stepTo_3 7 rfl rfl)
theorem dX4_stepTo_80 : decode cX4_stepTo 80 = .ok (.ifCond .eq 32, 3) := dk_153 0 32 (dk_at dksX4_stepTo_3 9 rfl rfl)
theorem dX4_stepTo_83 : decode cX4_stepTo 83 = .ok (.bipush 60, 2) := dk_16 60 (dk_at dksX4_stepTo_3 12 rfl rfl)
theorem dX4_stepTo_85 : decode cX4_stepTo 85 = .ok (.aload_n 0, 1) := dk_42 (dk_at dksX4_stepTo_3 14 rfl rfl)
theorem dX4_stepTo_86 : decode cX4_stepTo 86 = .ok (.getfield 16, 3) := dk_180 0 16 (dk_at dksX4_stepTo_3 15 rfl rfl)
theorem dX4_stepTo_89 : decode cX4_stepTo 89 = .ok (.bipush 8, 2) := dk_16 8 (dk_at dksX4_stepTo_3 18 rfl rfl)
theorem dX4_stepTo_91 : decode cX4_stepTo 91 = .ok (.iload_n 1, 1) := dk_27 (dk_at dksX4_stepTo_3 20 rfl rfl)
theorem dX4_stepTo_92 : decode cX4_stepTo 92 = .ok (.imul, 1) := dk_104 (dk_at dksX4_stepTo_3 21 rfl rfl)
theorem dX4_stepTo_93 : decode cX4_stepTo 93 = .ok (.iload_n 3, 1) := dk_29 (dk_at dksX4_stepTo_3 22 rfl rfl)
theorem dX4_stepTo_94 : decode cX4_stepTo 94 = .ok (.iadd, 1) := dk_96 (dk_at dksX4_stepTo_3 23 rfl rfl)
theorem dX4_stepTo_95 : decode cX4_stepTo 95 = .ok (.iaload, 1) := dk_46 (dk_at dksX4_stepTo_4 0 rfl rfl)
theorem dX4_stepTo_96 : decode cX4_stepTo 96 = .ok (.imul, 1) := dk_104 (dk_at dksX4_stepTo_4 1 rfl rfl)
theorem dX4_stepTo_97 : decode cX4_stepTo 97 = .ok (.aload_n 0, 1) := dk_42 (dk_at dksX4_stepTo_4 2 rfl rfl)
theorem dX4_stepTo_98 : decode cX4_stepTo 98 = .ok (.getfield 16, 3) := dk_180 0 16 (dk_at dksX4_stepTo_4 3 rfl rfl)
theorem dX4_stepTo_101 : decode cX4_stepTo 101 = .ok (.bipush 8, 2) := dk_16 8 (dk_at dksX4_stepTo_4 6 rfl rfl)
theorem dX4_stepTo_103 : decode cX4_stepTo 103 = .ok (.iload_n 2, 1) := dk_28 (dk_at dksX4_stepTo_4 8 rfl rfl)
theorem dX4_stepTo_104 : decode cX4_stepTo 104 = .ok (.imul, 1) := dk_104 (dk_at dksX4_stepTo_4 9 rfl rfl)
theorem dX4_stepTo_105 : decode cX4_stepTo 105 = .ok (.iload_n 3, 1) := dk_29 (dk_at dksX4_stepTo_4 10 rfl rfl)
theorem dX4_stepTo_106 : decode cX4_stepTo 106 = .ok (.iadd, 1) := dk_96 (dk_at dksX4_stepTo_4 11 rfl rfl)
theorem dX4_stepTo_107 : decode cX4_stepTo 107 = .ok (.iaload, 1) := dk_46 (dk_at dksX4_stepTo_4 12 rfl rfl)
theorem dX4_stepTo_108 : decode cX4_stepTo 108 = .ok (.iadd, 1) := dk_96 (dk_at dksX4_stepTo_4 13 rfl rfl)
theorem dX4_stepTo_109 : decode cX4_stepTo 109 = .ok (.goto 5, 3) := dk_167 0 5 (dk_at dksX4_stepTo_4 14 rfl rfl)
theorem dX4_stepTo_112 : decode cX4_stepTo 112 = .ok (.bipush (-6), 2) := dk_16 250 (dk_at dksX4_stepTo_4 17 rfl rfl)
theorem dX4_stepTo_114 : decode cX4_stepTo 114 = .ok (.ireturn, 1) := dk_172 (dk_at dksX4_stepTo_4 19 rfl rfl)
theorem dX4_stepTo_115 : decode cX4_stepTo 115 = .ok (.iload_n 3, 1) := dk_29 (dk_at dksX4_stepTo_4 20 rfl rfl)
theorem dX4_stepTo_116 : decode cX4_stepTo 116 = .ok (.bipush 8, 2) := dk_16 8 (dk_at dksX4_stepTo_4 21 rfl rfl)
theorem dX4_stepTo_118 : decode cX4_stepTo 118 = .ok (.if_icmp .ne 38, 3) := dk_160 0 38 (dk_at dksX4_stepTo_5 0 rfl rfl)
theorem dX4_stepTo_121 : decode cX4_stepTo 121 = .ok (.iload 4, 2) := dk_21 4 (dk_at dksX4_stepTo_5 3 rfl rfl)
theorem dX4_stepTo_123 : decode cX4_stepTo 123 = .ok (.bipush 42, 2) := dk_16 42 (dk_at dksX4_stepTo_5 5 rfl rfl)
theorem dX4_stepTo_125 : decode cX4_stepTo 125 = .ok (.if_icmp .ne 28, 3) := dk_160 0 28 (dk_at dksX4_stepTo_5 7 rfl rfl)
theorem dX4_stepTo_128 : decode cX4_stepTo 128 = .ok (.bipush 60, 2) := dk_16 60 (dk_at dksX4_stepTo_5 10 rfl rfl)
theorem dX4_stepTo_130 : decode cX4_stepTo 130 = .ok (.aload_n 0, 1) := dk_42 (dk_at dksX4_stepTo_5 12 rfl rfl)
theorem dX4_stepTo_131 : decode cX4_stepTo 131 = .ok (.getfield 16, 3) := dk_180 0 16 (dk_at dksX4_stepTo_5 13 rfl rfl)
theorem dX4_stepTo_134 : decode cX4_stepTo 134 = .ok (.bipush 8, 2) := dk_16 8 (dk_at dksX4_stepTo_5 16 rfl rfl)
theorem dX4_stepTo_136 : decode cX4_stepTo 136 = .ok (.iload_n 1, 1) := dk_27 (dk_at dksX4_stepTo_5 18 rfl rfl)
theorem dX4_stepTo_137 : decode cX4_stepTo 137 = .ok (.imul, 1) := dk_104 (dk_at dksX4_stepTo_5 19 rfl rfl)
theorem dX4_stepTo_138 : decode cX4_stepTo 138 = .ok (.iaload, 1) := dk_46 (dk_at dksX4_stepTo_5 20 rfl rfl)
theorem dX4_stepTo_139 : decode cX4_stepTo 139 = .ok (.imul, 1) := dk_104 (dk_at dksX4_stepTo_5 21 rfl rfl)
theorem dX4_stepTo_140 : decode cX4_stepTo 140 = .ok (.aload_n 0, 1) := dk_42 (dk_at dksX4_stepTo_5 22 rfl rfl)
theorem dX4_stepTo_141 : decode cX4_stepTo 141 = .ok (.getfield 16, 3) := dk_180 0 16 (dk_at dksX4_stepTo_6 0 rfl rfl)
theorem dX4_stepTo_144 : decode cX4_stepTo 144 = .ok (.bipush 8, 2) := dk_16 8 (dk_at dksX4_stepTo_6 3 rfl rfl)
theorem dX4_stepTo_146 : decode cX4_stepTo 146 = .ok (.iload_n 2, 1) := dk_28 (dk_at dksX4_stepTo_6 5 rfl rfl)
theorem dX4_stepTo_147 : decode cX4_stepTo 147 = .ok (.imul, 1) := dk_104 (dk_at dksX4_stepTo_6 6 rfl rfl)
theorem dX4_stepTo_148 : decode cX4_stepTo 148 = .ok (.iaload, 1) := dk_46 (dk_at dksX4_stepTo_6 7 rfl rfl)
theorem dX4_stepTo_149 : decode cX4_stepTo 149 = .ok (.iadd, 1) := dk_96 (dk_at dksX4_stepTo_6 8 rfl rfl)
theorem dX4_stepTo_150 : decode cX4_stepTo 150 = .ok (.goto 5, 3) := dk_167 0 5 (dk_at dksX4_stepTo_6 9 rfl rfl)
theorem dX4_stepTo_153 : decode cX4_stepTo 153 = .ok (.bipush (-6), 2) := dk_16 250 (dk_at dksX4_stepTo_6 12 rfl rfl)
theorem dX4_stepTo_155 : decode cX4_stepTo 155 = .ok (.ireturn, 1) := dk_172 (dk_at dksX4_stepTo_6 14 rfl rfl)
theorem dX4_stepTo_156 : decode cX4_stepTo 156 = .ok (.iload 4, 2) := dk_21 4 (dk_at dksX4_stepTo_6 15 rfl rfl)
theorem dX4_stepTo_158 : decode cX4_stepTo 158 = .ok (.bipush 62, 2) := dk_16 62 (dk_at dksX4_stepTo_6 17 rfl rfl)
theorem dX4_stepTo_160 : decode cX4_stepTo 160 = .ok (.if_icmp .eq 6, 3) := dk_159 0 6 (dk_at dksX4_stepTo_6 19 rfl rfl)
theorem dX4_stepTo_163 : decode cX4_stepTo 163 = .ok (.bipush (-6), 2) := dk_16 250 (dk_at dksX4_stepTo_6 22 rfl rfl)
theorem dX4_stepTo_165 : decode cX4_stepTo 165 = .ok (.ireturn, 1) := dk_172 (dk_at dksX4_stepTo_7 0 rfl rfl)
theorem dX4_stepTo_166 : decode cX4_stepTo 166 = .ok (.iload_n 3, 1) := dk_29 (dk_at dksX4_stepTo_7 1 rfl rfl)
theorem dX4_stepTo_167 : decode cX4_stepTo 167 = .ok (.bipush 9, 2) := dk_16 9 (dk_at dksX4_stepTo_7 2 rfl rfl)
theorem dX4_stepTo_169 : decode cX4_stepTo 169 = .ok (.if_icmp .ne 28, 3) := dk_160 0 28 (dk_at dksX4_stepTo_7 4 rfl rfl)
theorem dX4_stepTo_172 : decode cX4_stepTo 172 = .ok (.bipush 60, 2) := dk_16 60 (dk_at dksX4_stepTo_7 7 rfl rfl)
theorem dX4_stepTo_174 : decode cX4_stepTo 174 = .ok (.aload_n 0, 1) := dk_42 (dk_at dksX4_stepTo_7 9 rfl rfl)
theorem dX4_stepTo_175 : decode cX4_stepTo 175 = .ok (.getfield 16, 3) := dk_180 0 16 (dk_at dksX4_stepTo_7 10 rfl rfl)
theorem dX4_stepTo_178 : decode cX4_stepTo 178 = .ok (.bipush 8, 2) := dk_16 8 (dk_at dksX4_stepTo_7 13 rfl rfl)
theorem dX4_stepTo_180 : decode cX4_stepTo 180 = .ok (.iload_n 2, 1) := dk_28 (dk_at dksX4_stepTo_7 15 rfl rfl)
theorem dX4_stepTo_181 : decode cX4_stepTo 181 = .ok (.imul, 1) := dk_104 (dk_at dksX4_stepTo_7 16 rfl rfl)
theorem dX4_stepTo_182 : decode cX4_stepTo 182 = .ok (.iaload, 1) := dk_46 (dk_at dksX4_stepTo_7 17 rfl rfl)
theorem dX4_stepTo_183 : decode cX4_stepTo 183 = .ok (.imul, 1) := dk_104 (dk_at dksX4_stepTo_7 18 rfl rfl)
theorem dX4_stepTo_184 : decode cX4_stepTo 184 = .ok (.aload_n 0, 1) := dk_42 (dk_at dksX4_stepTo_7 19 rfl rfl)
theorem dX4_stepTo_185 : decode cX4_stepTo 185 = .ok (.getfield 16, 3) := dk_180 0 16 (dk_at dksX4_stepTo_7 20 rfl rfl)
theorem dX4_stepTo_188 : decode cX4_stepTo 188 = .ok (.bipush 8, 2) := dk_16 8 (dk_at dksX4_stepTo_8 0 rfl rfl)
theorem dX4_stepTo_190 : decode cX4_stepTo 190 = .ok (.iload_n 1, 1) := dk_27 (dk_at dksX4_stepTo_8 2 rfl rfl)
theorem dX4_stepTo_191 : decode cX4_stepTo 191 = .ok (.imul, 1) := dk_104 (dk_at dksX4_stepTo_8 3 rfl rfl)
theorem dX4_stepTo_192 : decode cX4_stepTo 192 = .ok (.iaload, 1) := dk_46 (dk_at dksX4_stepTo_8 4 rfl rfl)
theorem dX4_stepTo_193 : decode cX4_stepTo 193 = .ok (.iadd, 1) := dk_96 (dk_at dksX4_stepTo_8 5 rfl rfl)
theorem dX4_stepTo_194 : decode cX4_stepTo 194 = .ok (.goto 29, 3) := dk_167 0 29 (dk_at dksX4_stepTo_8 6 rfl rfl)
theorem dX4_stepTo_197 : decode cX4_stepTo 197 = .ok (.bipush 60, 2) := dk_16 60 (dk_at dksX4_stepTo_8 9 rfl rfl)
theorem dX4_stepTo_199 : decode cX4_stepTo 199 = .ok (.aload_n 0, 1) := dk_42 (dk_at dksX4_stepTo_8 11 rfl rfl)
theorem dX4_stepTo_200 : decode cX4_stepTo 200 = .ok (.getfield 16, 3) := dk_180 0 16 (dk_at dksX4_stepTo_8 12 rfl rfl)
theorem dX4_stepTo_203 : decode cX4_stepTo 203 = .ok (.bipush 8, 2) := dk_16 8 (dk_at dksX4_stepTo_8 15 rfl rfl)
theorem dX4_stepTo_205 : decode cX4_stepTo 205 = .ok (.iload_n 1, 1) := dk_27 (dk_at dksX4_stepTo_8 17 rfl rfl)
theorem dX4_stepTo_206 : decode cX4_stepTo 206 = .ok (.imul, 1) := dk_104 (dk_at dksX4_stepTo_8 18 rfl rfl)
theorem dX4_stepTo_207 : decode cX4_stepTo 207 = .ok (.iconst 1, 1) := dk_4 (dk_at dksX4_stepTo_8 19 rfl rfl)
theorem dX4_stepTo_208 : decode cX4_stepTo 208 = .ok (.iadd, 1) := dk_96 (dk_at dksX4_stepTo_8 20 rfl rfl)
theorem dX4_stepTo_209 : decode cX4_stepTo 209 = .ok (.iaload, 1) := dk_46 (dk_at dksX4_stepTo_8 21 rfl rfl)
theorem dX4_stepTo_210 : decode cX4_stepTo 210 = .ok (.imul, 1) := dk_104 (dk_at dksX4_stepTo_8 22 rfl rfl)
theorem dX4_stepTo_211 : decode cX4_stepTo 211 = .ok (.aload_n 0, 1) := dk_42 (dk_at dksX4_stepTo_8 23 rfl rfl)
theorem dX4_stepTo_212 : decode cX4_stepTo 212 = .ok (.getfield 16, 3) := dk_180 0 16 (dk_at dksX4_stepTo_9 0 rfl rfl)
theorem dX4_stepTo_215 : decode cX4_stepTo 215 = .ok (.bipush 8, 2) := dk_16 8 (dk_at dksX4_stepTo_9 3 rfl rfl)
theorem dX4_stepTo_217 : decode cX4_stepTo 217 = .ok (.iload_n 2, 1) := dk_28 (dk_at dksX4_stepTo_9 5 rfl rfl)
theorem dX4_stepTo_218 : decode cX4_stepTo 218 = .ok (.imul, 1) := dk_104 (dk_at dksX4_stepTo_9 6 rfl rfl)
theorem dX4_stepTo_219 : decode cX4_stepTo 219 = .ok (.iconst 1, 1) := dk_4 (dk_at dksX4_stepTo_9 7 rfl rfl)
theorem dX4_stepTo_220 : decode cX4_stepTo 220 = .ok (.iadd, 1) := dk_96 (dk_at dksX4_stepTo_9 8 rfl rfl)
theorem dX4_stepTo_221 : decode cX4_stepTo 221 = .ok (.iaload, 1) := dk_46 (dk_at dksX4_stepTo_9 9 rfl rfl)
theorem dX4_stepTo_222 : decode cX4_stepTo 222 = .ok (.iadd, 1) := dk_96 (dk_at dksX4_stepTo_9 10 rfl rfl)
theorem dX4_stepTo_223 : decode cX4_stepTo 223 = .ok (.ireturn, 1) := dk_172 (dk_at dksX4_stepTo_9 11 rfl rfl)
abbrev cX4_way : ByteArray := prog_6_method_22_code
def yX4_way : MethodName := ⟨RX4, "way", "(III)I"⟩
def dkwX4_way_2 : List UInt8 := [167, 0, 10, 42, 27, 28, 29, 182, 0, 151, 172]
abbrev dktX4_way_2 : List UInt8 := dkwX4_way_2 ++ []
def dkwX4_way_1 : List UInt8 := [96, 51, 153, 0, 6, 16, 250, 172, 29, 2, 160, 0, 17, 42, 180, 0, 44, 16, 60, 27, 104, 28, 96, 46]
abbrev dktX4_way_1 : List UInt8 := dkwX4_way_1 ++ dktX4_way_2
def dkwX4_way_0 : List UInt8 := [42, 27, 28, 182, 0, 142, 154, 0, 5, 2, 172, 42, 182, 0, 145, 42, 180, 0, 40, 16, 60, 27, 104, 28]
abbrev dktX4_way_0 : List UInt8 := dkwX4_way_0 ++ dktX4_way_1
theorem dksX4_way_0 : cX4_way.data.toList.drop 0 = dktX4_way_0 := by decide +kernel
theorem dksX4_way_1 : cX4_way.data.toList.drop 24 = dktX4_way_1 := dk_seg dksX4_way_0 24 rfl rfl
theorem dksX4_way_2 : cX4_way.data.toList.drop 48 = dktX4_way_2 := dk_seg dksX4_way_1 24 rfl rfl
theorem dX4_way_0 : decode cX4_way 0 = .ok (.aload_n 0, 1) := dk_42 (dk_at dksX4_way_0 0 rfl rfl)
theorem dX4_way_1 : decode cX4_way 1 = .ok (.iload_n 1, 1) := dk_27 (dk_at dksX4_way_0 1 rfl rfl)
theorem dX4_way_2 : decode cX4_way 2 = .ok (.iload_n 2, 1) := dk_28 (dk_at dksX4_way_0 2 rfl rfl)
theorem dX4_way_3 : decode cX4_way 3 = .ok (.invokevirtual 142, 3) := dk_182 0 142 (dk_at dksX4_way_0 3 rfl rfl)
theorem dX4_way_6 : decode cX4_way 6 = .ok (.ifCond .ne 5, 3) := dk_154 0 5 (dk_at dksX4_way_0 6 rfl rfl)
theorem dX4_way_9 : decode cX4_way 9 = .ok (.iconst (-1), 1) := dk_2 (dk_at dksX4_way_0 9 rfl rfl)
theorem dX4_way_10 : decode cX4_way 10 = .ok (.ireturn, 1) := dk_172 (dk_at dksX4_way_0 10 rfl rfl)
theorem dX4_way_11 : decode cX4_way 11 = .ok (.aload_n 0, 1) := dk_42 (dk_at dksX4_way_0 11 rfl rfl)
theorem dX4_way_12 : decode cX4_way 12 = .ok (.invokevirtual 145, 3) := dk_182 0 145 (dk_at dksX4_way_0 12 rfl rfl)
theorem dX4_way_15 : decode cX4_way 15 = .ok (.aload_n 0, 1) := dk_42 (dk_at dksX4_way_0 15 rfl rfl)
theorem dX4_way_16 : decode cX4_way 16 = .ok (.getfield 40, 3) := dk_180 0 40 (dk_at dksX4_way_0 16 rfl rfl)
theorem dX4_way_19 : decode cX4_way 19 = .ok (.bipush 60, 2) := dk_16 60 (dk_at dksX4_way_0 19 rfl rfl)
theorem dX4_way_21 : decode cX4_way 21 = .ok (.iload_n 1, 1) := dk_27 (dk_at dksX4_way_0 21 rfl rfl)
theorem dX4_way_22 : decode cX4_way 22 = .ok (.imul, 1) := dk_104 (dk_at dksX4_way_0 22 rfl rfl)
theorem dX4_way_23 : decode cX4_way 23 = .ok (.iload_n 2, 1) := dk_28 (dk_at dksX4_way_0 23 rfl rfl)
theorem dX4_way_24 : decode cX4_way 24 = .ok (.iadd, 1) := dk_96 (dk_at dksX4_way_1 0 rfl rfl)
theorem dX4_way_25 : decode cX4_way 25 = .ok (.baload, 1) := dk_51 (dk_at dksX4_way_1 1 rfl rfl)
theorem dX4_way_26 : decode cX4_way 26 = .ok (.ifCond .eq 6, 3) := dk_153 0 6 (dk_at dksX4_way_1 2 rfl rfl)
theorem dX4_way_29 : decode cX4_way 29 = .ok (.bipush (-6), 2) := dk_16 250 (dk_at dksX4_way_1 5 rfl rfl)
theorem dX4_way_31 : decode cX4_way 31 = .ok (.ireturn, 1) := dk_172 (dk_at dksX4_way_1 7 rfl rfl)
theorem dX4_way_32 : decode cX4_way 32 = .ok (.iload_n 3, 1) := dk_29 (dk_at dksX4_way_1 8 rfl rfl)
theorem dX4_way_33 : decode cX4_way 33 = .ok (.iconst (-1), 1) := dk_2 (dk_at dksX4_way_1 9 rfl rfl)
theorem dX4_way_34 : decode cX4_way 34 = .ok (.if_icmp .ne 17, 3) := dk_160 0 17 (dk_at dksX4_way_1 10 rfl rfl)
theorem dX4_way_37 : decode cX4_way 37 = .ok (.aload_n 0, 1) := dk_42 (dk_at dksX4_way_1 13 rfl rfl)
theorem dX4_way_38 : decode cX4_way 38 = .ok (.getfield 44, 3) := dk_180 0 44 (dk_at dksX4_way_1 14 rfl rfl)
theorem dX4_way_41 : decode cX4_way 41 = .ok (.bipush 60, 2) := dk_16 60 (dk_at dksX4_way_1 17 rfl rfl)
theorem dX4_way_43 : decode cX4_way 43 = .ok (.iload_n 1, 1) := dk_27 (dk_at dksX4_way_1 19 rfl rfl)
theorem dX4_way_44 : decode cX4_way 44 = .ok (.imul, 1) := dk_104 (dk_at dksX4_way_1 20 rfl rfl)
theorem dX4_way_45 : decode cX4_way 45 = .ok (.iload_n 2, 1) := dk_28 (dk_at dksX4_way_1 21 rfl rfl)
theorem dX4_way_46 : decode cX4_way 46 = .ok (.iadd, 1) := dk_96 (dk_at dksX4_way_1 22 rfl rfl)
theorem dX4_way_47 : decode cX4_way 47 = .ok (.iaload, 1) := dk_46 (dk_at dksX4_way_1 23 rfl rfl)
theorem dX4_way_48 : decode cX4_way 48 = .ok (.goto 10, 3) := dk_167 0 10 (dk_at dksX4_way_2 0 rfl rfl)
theorem dX4_way_51 : decode cX4_way 51 = .ok (.aload_n 0, 1) := dk_42 (dk_at dksX4_way_2 3 rfl rfl)
theorem dX4_way_52 : decode cX4_way 52 = .ok (.iload_n 1, 1) := dk_27 (dk_at dksX4_way_2 4 rfl rfl)
theorem dX4_way_53 : decode cX4_way 53 = .ok (.iload_n 2, 1) := dk_28 (dk_at dksX4_way_2 5 rfl rfl)
theorem dX4_way_54 : decode cX4_way 54 = .ok (.iload_n 3, 1) := dk_29 (dk_at dksX4_way_2 6 rfl rfl)
theorem dX4_way_55 : decode cX4_way 55 = .ok (.invokevirtual 151, 3) := dk_182 0 151 (dk_at dksX4_way_2 7 rfl rfl)
theorem dX4_way_58 : decode cX4_way 58 = .ok (.ireturn, 1) := dk_172 (dk_at dksX4_way_2 10 rfl rfl)
abbrev cX4_follow : ByteArray := prog_6_method_21_code
def yX4_follow : MethodName := ⟨RX4, "follow", "(III)I"⟩
def dkwX4_follow_5 : List UInt8 := [42, 42, 21, 6, 21, 7, 21, 8, 182, 0, 138, 181, 0, 148, 167, 255, 143, 21, 4, 172]
abbrev dktX4_follow_5 : List UInt8 := dkwX4_follow_5 ++ []
def dkwX4_follow_4 : List UInt8 := [132, 8, 1, 167, 255, 211, 21, 5, 29, 160, 0, 8, 21, 8, 167, 0, 5, 21, 4, 54, 4, 132, 5, 1]
abbrev dktX4_follow_4 : List UInt8 := dkwX4_follow_4 ++ dktX4_follow_5
def dkwX4_follow_3 : List UInt8 := [21, 6, 21, 7, 21, 8, 182, 0, 138, 46, 42, 180, 0, 44, 42, 180, 0, 148, 46, 4, 100, 159, 0, 9]
abbrev dktX4_follow_3 : List UInt8 := dkwX4_follow_3 ++ dktX4_follow_4
def dkwX4_follow_2 : List UInt8 := [54, 7, 3, 54, 8, 42, 21, 6, 21, 7, 21, 8, 182, 0, 138, 155, 0, 32, 42, 180, 0, 44, 42]
abbrev dktX4_follow_2 : List UInt8 := dkwX4_follow_2 ++ dktX4_follow_3
def dkwX4_follow_1 : List UInt8 := [180, 0, 148, 46, 158, 0, 107, 42, 180, 0, 148, 16, 60, 108, 54, 6, 42, 180, 0, 148, 16, 60, 112]
abbrev dktX4_follow_1 : List UInt8 := dkwX4_follow_1 ++ dktX4_follow_2
def dkwX4_follow_0 : List UInt8 := [42, 16, 60, 27, 104, 28, 96, 181, 0, 148, 16, 250, 54, 4, 3, 54, 5, 42, 180, 0, 44, 42]
abbrev dktX4_follow_0 : List UInt8 := dkwX4_follow_0 ++ dktX4_follow_1
theorem dksX4_follow_0 : cX4_follow.data.toList.drop 0 = dktX4_follow_0 := by decide +kernel
theorem dksX4_follow_1 : cX4_follow.data.toList.drop 22 = dktX4_follow_1 := dk_seg dksX4_follow_0 22 rfl rfl
theorem dksX4_follow_2 : cX4_follow.data.toList.drop 45 = dktX4_follow_2 := dk_seg dksX4_follow_1 23 rfl rfl
theorem dksX4_follow_3 : cX4_follow.data.toList.drop 68 = dktX4_follow_3 := dk_seg dksX4_follow_2 23 rfl rfl
theorem dksX4_follow_4 : cX4_follow.data.toList.drop 92 = dktX4_follow_4 := dk_seg dksX4_follow_3 24 rfl rfl
theorem dksX4_follow_5 : cX4_follow.data.toList.drop 116 = dktX4_follow_5 := dk_seg dksX4_follow_4 24 rfl rfl
theorem dX4_follow_0 : decode cX4_follow 0 = .ok (.aload_n 0, 1) := dk_42 (dk_at dksX4_follow_0 0 rfl rfl)
theorem dX4_follow_1 : decode cX4_follow 1 = .ok (.bipush 60, 2) := dk_16 60 (dk_at dksX4_follow_0 1 rfl rfl)
theorem dX4_follow_3 : decode cX4_follow 3 = .ok (.iload_n 1, 1) := dk_27 (dk_at dksX4_follow_0 3 rfl rfl)
theorem dX4_follow_4 : decode cX4_follow 4 = .ok (.imul, 1) := dk_104 (dk_at dksX4_follow_0 4 rfl rfl)
theorem dX4_follow_5 : decode cX4_follow 5 = .ok (.iload_n 2, 1) := dk_28 (dk_at dksX4_follow_0 5 rfl rfl)
theorem dX4_follow_6 : decode cX4_follow 6 = .ok (.iadd, 1) := dk_96 (dk_at dksX4_follow_0 6 rfl rfl)
theorem dX4_follow_7 : decode cX4_follow 7 = .ok (.putfield 148, 3) := dk_181 0 148 (dk_at dksX4_follow_0 7 rfl rfl)
theorem dX4_follow_10 : decode cX4_follow 10 = .ok (.bipush (-6), 2) := dk_16 250 (dk_at dksX4_follow_0 10 rfl rfl)
theorem dX4_follow_12 : decode cX4_follow 12 = .ok (.istore 4, 2) := dk_54 4 (dk_at dksX4_follow_0 12 rfl rfl)
theorem dX4_follow_14 : decode cX4_follow 14 = .ok (.iconst 0, 1) := dk_3 (dk_at dksX4_follow_0 14 rfl rfl)
theorem dX4_follow_15 : decode cX4_follow 15 = .ok (.istore 5, 2) := dk_54 5 (dk_at dksX4_follow_0 15 rfl rfl)
theorem dX4_follow_17 : decode cX4_follow 17 = .ok (.aload_n 0, 1) := dk_42 (dk_at dksX4_follow_0 17 rfl rfl)
theorem dX4_follow_18 : decode cX4_follow 18 = .ok (.getfield 44, 3) := dk_180 0 44 (dk_at dksX4_follow_0 18 rfl rfl)
theorem dX4_follow_21 : decode cX4_follow 21 = .ok (.aload_n 0, 1) := dk_42 (dk_at dksX4_follow_0 21 rfl rfl)
theorem dX4_follow_22 : decode cX4_follow 22 = .ok (.getfield 148, 3) := dk_180 0 148 (dk_at dksX4_follow_1 0 rfl rfl)
theorem dX4_follow_25 : decode cX4_follow 25 = .ok (.iaload, 1) := dk_46 (dk_at dksX4_follow_1 3 rfl rfl)
theorem dX4_follow_26 : decode cX4_follow 26 = .ok (.ifCond .le 107, 3) := dk_158 0 107 (dk_at dksX4_follow_1 4 rfl rfl)
theorem dX4_follow_29 : decode cX4_follow 29 = .ok (.aload_n 0, 1) := dk_42 (dk_at dksX4_follow_1 7 rfl rfl)
theorem dX4_follow_30 : decode cX4_follow 30 = .ok (.getfield 148, 3) := dk_180 0 148 (dk_at dksX4_follow_1 8 rfl rfl)
theorem dX4_follow_33 : decode cX4_follow 33 = .ok (.bipush 60, 2) := dk_16 60 (dk_at dksX4_follow_1 11 rfl rfl)
theorem dX4_follow_35 : decode cX4_follow 35 = .ok (.idiv, 1) := dk_108 (dk_at dksX4_follow_1 13 rfl rfl)
theorem dX4_follow_36 : decode cX4_follow 36 = .ok (.istore 6, 2) := dk_54 6 (dk_at dksX4_follow_1 14 rfl rfl)
theorem dX4_follow_38 : decode cX4_follow 38 = .ok (.aload_n 0, 1) := dk_42 (dk_at dksX4_follow_1 16 rfl rfl)
theorem dX4_follow_39 : decode cX4_follow 39 = .ok (.getfield 148, 3) := dk_180 0 148 (dk_at dksX4_follow_1 17 rfl rfl)
theorem dX4_follow_42 : decode cX4_follow 42 = .ok (.bipush 60, 2) := dk_16 60 (dk_at dksX4_follow_1 20 rfl rfl)
theorem dX4_follow_44 : decode cX4_follow 44 = .ok (.irem, 1) := dk_112 (dk_at dksX4_follow_1 22 rfl rfl)
theorem dX4_follow_45 : decode cX4_follow 45 = .ok (.istore 7, 2) := dk_54 7 (dk_at dksX4_follow_2 0 rfl rfl)
theorem dX4_follow_47 : decode cX4_follow 47 = .ok (.iconst 0, 1) := dk_3 (dk_at dksX4_follow_2 2 rfl rfl)
theorem dX4_follow_48 : decode cX4_follow 48 = .ok (.istore 8, 2) := dk_54 8 (dk_at dksX4_follow_2 3 rfl rfl)
theorem dX4_follow_50 : decode cX4_follow 50 = .ok (.aload_n 0, 1) := dk_42 (dk_at dksX4_follow_2 5 rfl rfl)
theorem dX4_follow_51 : decode cX4_follow 51 = .ok (.iload 6, 2) := dk_21 6 (dk_at dksX4_follow_2 6 rfl rfl)
theorem dX4_follow_53 : decode cX4_follow 53 = .ok (.iload 7, 2) := dk_21 7 (dk_at dksX4_follow_2 8 rfl rfl)
theorem dX4_follow_55 : decode cX4_follow 55 = .ok (.iload 8, 2) := dk_21 8 (dk_at dksX4_follow_2 10 rfl rfl)
theorem dX4_follow_57 : decode cX4_follow 57 = .ok (.invokevirtual 138, 3) := dk_182 0 138 (dk_at dksX4_follow_2 12 rfl rfl)
theorem dX4_follow_60 : decode cX4_follow 60 = .ok (.ifCond .lt 32, 3) := dk_155 0 32 (dk_at dksX4_follow_2 15 rfl rfl)
theorem dX4_follow_63 : decode cX4_follow 63 = .ok (.aload_n 0, 1) := dk_42 (dk_at dksX4_follow_2 18 rfl rfl)
theorem dX4_follow_64 : decode cX4_follow 64 = .ok (.getfield 44, 3) := dk_180 0 44 (dk_at dksX4_follow_2 19 rfl rfl)
theorem dX4_follow_67 : decode cX4_follow 67 = .ok (.aload_n 0, 1) := dk_42 (dk_at dksX4_follow_2 22 rfl rfl)
theorem dX4_follow_68 : decode cX4_follow 68 = .ok (.iload 6, 2) := dk_21 6 (dk_at dksX4_follow_3 0 rfl rfl)
theorem dX4_follow_70 : decode cX4_follow 70 = .ok (.iload 7, 2) := dk_21 7 (dk_at dksX4_follow_3 2 rfl rfl)
theorem dX4_follow_72 : decode cX4_follow 72 = .ok (.iload 8, 2) := dk_21 8 (dk_at dksX4_follow_3 4 rfl rfl)
theorem dX4_follow_74 : decode cX4_follow 74 = .ok (.invokevirtual 138, 3) := dk_182 0 138 (dk_at dksX4_follow_3 6 rfl rfl)
theorem dX4_follow_77 : decode cX4_follow 77 = .ok (.iaload, 1) := dk_46 (dk_at dksX4_follow_3 9 rfl rfl)
theorem dX4_follow_78 : decode cX4_follow 78 = .ok (.aload_n 0, 1) := dk_42 (dk_at dksX4_follow_3 10 rfl rfl)
theorem dX4_follow_79 : decode cX4_follow 79 = .ok (.getfield 44, 3) := dk_180 0 44 (dk_at dksX4_follow_3 11 rfl rfl)
theorem dX4_follow_82 : decode cX4_follow 82 = .ok (.aload_n 0, 1) := dk_42 (dk_at dksX4_follow_3 14 rfl rfl)
theorem dX4_follow_83 : decode cX4_follow 83 = .ok (.getfield 148, 3) := dk_180 0 148 (dk_at dksX4_follow_3 15 rfl rfl)
theorem dX4_follow_86 : decode cX4_follow 86 = .ok (.iaload, 1) := dk_46 (dk_at dksX4_follow_3 18 rfl rfl)
theorem dX4_follow_87 : decode cX4_follow 87 = .ok (.iconst 1, 1) := dk_4 (dk_at dksX4_follow_3 19 rfl rfl)
theorem dX4_follow_88 : decode cX4_follow 88 = .ok (.isub, 1) := dk_100 (dk_at dksX4_follow_3 20 rfl rfl)
theorem dX4_follow_89 : decode cX4_follow 89 = .ok (.if_icmp .eq 9, 3) := dk_159 0 9 (dk_at dksX4_follow_3 21 rfl rfl)
theorem dX4_follow_92 : decode cX4_follow 92 = .ok (.iinc 8 1, 3) := dk_132 8 1 (dk_at dksX4_follow_4 0 rfl rfl)
theorem dX4_follow_95 : decode cX4_follow 95 = .ok (.goto (-45), 3) := dk_167 255 211 (dk_at dksX4_follow_4 3 rfl rfl)
theorem dX4_follow_98 : decode cX4_follow 98 = .ok (.iload 5, 2) := dk_21 5 (dk_at dksX4_follow_4 6 rfl rfl)
theorem dX4_follow_100 : decode cX4_follow 100 = .ok (.iload_n 3, 1) := dk_29 (dk_at dksX4_follow_4 8 rfl rfl)
theorem dX4_follow_101 : decode cX4_follow 101 = .ok (.if_icmp .ne 8, 3) := dk_160 0 8 (dk_at dksX4_follow_4 9 rfl rfl)
theorem dX4_follow_104 : decode cX4_follow 104 = .ok (.iload 8, 2) := dk_21 8 (dk_at dksX4_follow_4 12 rfl rfl)
theorem dX4_follow_106 : decode cX4_follow 106 = .ok (.goto 5, 3) := dk_167 0 5 (dk_at dksX4_follow_4 14 rfl rfl)
theorem dX4_follow_109 : decode cX4_follow 109 = .ok (.iload 4, 2) := dk_21 4 (dk_at dksX4_follow_4 17 rfl rfl)
theorem dX4_follow_111 : decode cX4_follow 111 = .ok (.istore 4, 2) := dk_54 4 (dk_at dksX4_follow_4 19 rfl rfl)
theorem dX4_follow_113 : decode cX4_follow 113 = .ok (.iinc 5 1, 3) := dk_132 5 1 (dk_at dksX4_follow_4 21 rfl rfl)
theorem dX4_follow_116 : decode cX4_follow 116 = .ok (.aload_n 0, 1) := dk_42 (dk_at dksX4_follow_5 0 rfl rfl)
theorem dX4_follow_117 : decode cX4_follow 117 = .ok (.aload_n 0, 1) := dk_42 (dk_at dksX4_follow_5 1 rfl rfl)
theorem dX4_follow_118 : decode cX4_follow 118 = .ok (.iload 6, 2) := dk_21 6 (dk_at dksX4_follow_5 2 rfl rfl)
theorem dX4_follow_120 : decode cX4_follow 120 = .ok (.iload 7, 2) := dk_21 7 (dk_at dksX4_follow_5 4 rfl rfl)
theorem dX4_follow_122 : decode cX4_follow 122 = .ok (.iload 8, 2) := dk_21 8 (dk_at dksX4_follow_5 6 rfl rfl)
theorem dX4_follow_124 : decode cX4_follow 124 = .ok (.invokevirtual 138, 3) := dk_182 0 138 (dk_at dksX4_follow_5 8 rfl rfl)
theorem dX4_follow_127 : decode cX4_follow 127 = .ok (.putfield 148, 3) := dk_181 0 148 (dk_at dksX4_follow_5 11 rfl rfl)
theorem dX4_follow_130 : decode cX4_follow 130 = .ok (.goto (-113), 3) := dk_167 255 143 (dk_at dksX4_follow_5 14 rfl rfl)
theorem dX4_follow_133 : decode cX4_follow 133 = .ok (.iload 4, 2) := dk_21 4 (dk_at dksX4_follow_5 17 rfl rfl)
theorem dX4_follow_135 : decode cX4_follow 135 = .ok (.ireturn, 1) := dk_172 (dk_at dksX4_follow_5 19 rfl rfl)
abbrev cX4_end : ByteArray := prog_6_method_23_code
def yX4_end : MethodName := ⟨RX4, "end", "(II)I"⟩
def dkwX4_end_2 : List UInt8 := [16, 60, 108, 104, 42, 180, 0, 148, 16, 60, 112, 96, 172]
abbrev dktX4_end_2 : List UInt8 := dkwX4_end_2 ++ []
def dkwX4_end_1 : List UInt8 := [96, 51, 153, 0, 6, 16, 250, 172, 42, 27, 28, 16, 250, 182, 0, 151, 87, 16, 100, 42, 180, 0, 148]
abbrev dktX4_end_1 : List UInt8 := dkwX4_end_1 ++ dktX4_end_2
def dkwX4_end_0 : List UInt8 := [42, 27, 28, 182, 0, 142, 154, 0, 5, 2, 172, 42, 182, 0, 145, 42, 180, 0, 40, 16, 60, 27, 104, 28]
abbrev dktX4_end_0 : List UInt8 := dkwX4_end_0 ++ dktX4_end_1
theorem dksX4_end_0 : cX4_end.data.toList.drop 0 = dktX4_end_0 := by decide +kernel
theorem dksX4_end_1 : cX4_end.data.toList.drop 24 = dktX4_end_1 := dk_seg dksX4_end_0 24 rfl rfl
theorem dksX4_end_2 : cX4_end.data.toList.drop 47 = dktX4_end_2 := dk_seg dksX4_end_1 23 rfl rfl
theorem dX4_end_0 : decode cX4_end 0 = .ok (.aload_n 0, 1) := dk_42 (dk_at dksX4_end_0 0 rfl rfl)
theorem dX4_end_1 : decode cX4_end 1 = .ok (.iload_n 1, 1) := dk_27 (dk_at dksX4_end_0 1 rfl rfl)
theorem dX4_end_2 : decode cX4_end 2 = .ok (.iload_n 2, 1) := dk_28 (dk_at dksX4_end_0 2 rfl rfl)
theorem dX4_end_3 : decode cX4_end 3 = .ok (.invokevirtual 142, 3) := dk_182 0 142 (dk_at dksX4_end_0 3 rfl rfl)
theorem dX4_end_6 : decode cX4_end 6 = .ok (.ifCond .ne 5, 3) := dk_154 0 5 (dk_at dksX4_end_0 6 rfl rfl)
theorem dX4_end_9 : decode cX4_end 9 = .ok (.iconst (-1), 1) := dk_2 (dk_at dksX4_end_0 9 rfl rfl)
theorem dX4_end_10 : decode cX4_end 10 = .ok (.ireturn, 1) := dk_172 (dk_at dksX4_end_0 10 rfl rfl)
theorem dX4_end_11 : decode cX4_end 11 = .ok (.aload_n 0, 1) := dk_42 (dk_at dksX4_end_0 11 rfl rfl)
theorem dX4_end_12 : decode cX4_end 12 = .ok (.invokevirtual 145, 3) := dk_182 0 145 (dk_at dksX4_end_0 12 rfl rfl)
theorem dX4_end_15 : decode cX4_end 15 = .ok (.aload_n 0, 1) := dk_42 (dk_at dksX4_end_0 15 rfl rfl)
theorem dX4_end_16 : decode cX4_end 16 = .ok (.getfield 40, 3) := dk_180 0 40 (dk_at dksX4_end_0 16 rfl rfl)
theorem dX4_end_19 : decode cX4_end 19 = .ok (.bipush 60, 2) := dk_16 60 (dk_at dksX4_end_0 19 rfl rfl)
theorem dX4_end_21 : decode cX4_end 21 = .ok (.iload_n 1, 1) := dk_27 (dk_at dksX4_end_0 21 rfl rfl)
theorem dX4_end_22 : decode cX4_end 22 = .ok (.imul, 1) := dk_104 (dk_at dksX4_end_0 22 rfl rfl)
theorem dX4_end_23 : decode cX4_end 23 = .ok (.iload_n 2, 1) := dk_28 (dk_at dksX4_end_0 23 rfl rfl)
theorem dX4_end_24 : decode cX4_end 24 = .ok (.iadd, 1) := dk_96 (dk_at dksX4_end_1 0 rfl rfl)
theorem dX4_end_25 : decode cX4_end 25 = .ok (.baload, 1) := dk_51 (dk_at dksX4_end_1 1 rfl rfl)
theorem dX4_end_26 : decode cX4_end 26 = .ok (.ifCond .eq 6, 3) := dk_153 0 6 (dk_at dksX4_end_1 2 rfl rfl)
theorem dX4_end_29 : decode cX4_end 29 = .ok (.bipush (-6), 2) := dk_16 250 (dk_at dksX4_end_1 5 rfl rfl)
theorem dX4_end_31 : decode cX4_end 31 = .ok (.ireturn, 1) := dk_172 (dk_at dksX4_end_1 7 rfl rfl)
theorem dX4_end_32 : decode cX4_end 32 = .ok (.aload_n 0, 1) := dk_42 (dk_at dksX4_end_1 8 rfl rfl)
theorem dX4_end_33 : decode cX4_end 33 = .ok (.iload_n 1, 1) := dk_27 (dk_at dksX4_end_1 9 rfl rfl)
theorem dX4_end_34 : decode cX4_end 34 = .ok (.iload_n 2, 1) := dk_28 (dk_at dksX4_end_1 10 rfl rfl)
theorem dX4_end_35 : decode cX4_end 35 = .ok (.bipush (-6), 2) := dk_16 250 (dk_at dksX4_end_1 11 rfl rfl)
theorem dX4_end_37 : decode cX4_end 37 = .ok (.invokevirtual 151, 3) := dk_182 0 151 (dk_at dksX4_end_1 13 rfl rfl)
theorem dX4_end_40 : decode cX4_end 40 = .ok (.pop, 1) := dk_87 (dk_at dksX4_end_1 16 rfl rfl)
theorem dX4_end_41 : decode cX4_end 41 = .ok (.bipush 100, 2) := dk_16 100 (dk_at dksX4_end_1 17 rfl rfl)
theorem dX4_end_43 : decode cX4_end 43 = .ok (.aload_n 0, 1) := dk_42 (dk_at dksX4_end_1 19 rfl rfl)
theorem dX4_end_44 : decode cX4_end 44 = .ok (.getfield 148, 3) := dk_180 0 148 (dk_at dksX4_end_1 20 rfl rfl)
theorem dX4_end_47 : decode cX4_end 47 = .ok (.bipush 60, 2) := dk_16 60 (dk_at dksX4_end_2 0 rfl rfl)
theorem dX4_end_49 : decode cX4_end 49 = .ok (.idiv, 1) := dk_108 (dk_at dksX4_end_2 2 rfl rfl)
theorem dX4_end_50 : decode cX4_end 50 = .ok (.imul, 1) := dk_104 (dk_at dksX4_end_2 3 rfl rfl)
theorem dX4_end_51 : decode cX4_end 51 = .ok (.aload_n 0, 1) := dk_42 (dk_at dksX4_end_2 4 rfl rfl)
theorem dX4_end_52 : decode cX4_end 52 = .ok (.getfield 148, 3) := dk_180 0 148 (dk_at dksX4_end_2 5 rfl rfl)
theorem dX4_end_55 : decode cX4_end 55 = .ok (.bipush 60, 2) := dk_16 60 (dk_at dksX4_end_2 8 rfl rfl)
theorem dX4_end_57 : decode cX4_end 57 = .ok (.irem, 1) := dk_112 (dk_at dksX4_end_2 10 rfl rfl)
theorem dX4_end_58 : decode cX4_end 58 = .ok (.iadd, 1) := dk_96 (dk_at dksX4_end_2 11 rfl rfl)
theorem dX4_end_59 : decode cX4_end 59 = .ok (.ireturn, 1) := dk_172 (dk_at dksX4_end_2 12 rfl rfl)
abbrev cX4_alike : ByteArray := prog_6_method_25_code
def yX4_alike : MethodName := ⟨RX4, "alike", "(II)I"⟩
def dkwX4_alike_1 : List UInt8 := [4, 167, 0, 4, 3, 172]
abbrev dktX4_alike_1 : List UInt8 := dkwX4_alike_1 ++ []
def dkwX4_alike_0 : List UInt8 := [42, 27, 28, 182, 0, 142, 154, 0, 5, 2, 172, 42, 182, 0, 145, 42, 27, 28, 182, 0, 154, 153, 0, 7]
abbrev dktX4_alike_0 : List UInt8 := dkwX4_alike_0 ++ dktX4_alike_1
theorem dksX4_alike_0 : cX4_alike.data.toList.drop 0 = dktX4_alike_0 := by decide +kernel
theorem dksX4_alike_1 : cX4_alike.data.toList.drop 24 = dktX4_alike_1 := dk_seg dksX4_alike_0 24 rfl rfl
theorem dX4_alike_0 : decode cX4_alike 0 = .ok (.aload_n 0, 1) := dk_42 (dk_at dksX4_alike_0 0 rfl rfl)
theorem dX4_alike_1 : decode cX4_alike 1 = .ok (.iload_n 1, 1) := dk_27 (dk_at dksX4_alike_0 1 rfl rfl)
theorem dX4_alike_2 : decode cX4_alike 2 = .ok (.iload_n 2, 1) := dk_28 (dk_at dksX4_alike_0 2 rfl rfl)
theorem dX4_alike_3 : decode cX4_alike 3 = .ok (.invokevirtual 142, 3) := dk_182 0 142 (dk_at dksX4_alike_0 3 rfl rfl)
theorem dX4_alike_6 : decode cX4_alike 6 = .ok (.ifCond .ne 5, 3) := dk_154 0 5 (dk_at dksX4_alike_0 6 rfl rfl)
theorem dX4_alike_9 : decode cX4_alike 9 = .ok (.iconst (-1), 1) := dk_2 (dk_at dksX4_alike_0 9 rfl rfl)
theorem dX4_alike_10 : decode cX4_alike 10 = .ok (.ireturn, 1) := dk_172 (dk_at dksX4_alike_0 10 rfl rfl)
theorem dX4_alike_11 : decode cX4_alike 11 = .ok (.aload_n 0, 1) := dk_42 (dk_at dksX4_alike_0 11 rfl rfl)
theorem dX4_alike_12 : decode cX4_alike 12 = .ok (.invokevirtual 145, 3) := dk_182 0 145 (dk_at dksX4_alike_0 12 rfl rfl)
theorem dX4_alike_15 : decode cX4_alike 15 = .ok (.aload_n 0, 1) := dk_42 (dk_at dksX4_alike_0 15 rfl rfl)
theorem dX4_alike_16 : decode cX4_alike 16 = .ok (.iload_n 1, 1) := dk_27 (dk_at dksX4_alike_0 16 rfl rfl)
theorem dX4_alike_17 : decode cX4_alike 17 = .ok (.iload_n 2, 1) := dk_28 (dk_at dksX4_alike_0 17 rfl rfl)
theorem dX4_alike_18 : decode cX4_alike 18 = .ok (.invokevirtual 154, 3) := dk_182 0 154 (dk_at dksX4_alike_0 18 rfl rfl)
theorem dX4_alike_21 : decode cX4_alike 21 = .ok (.ifCond .eq 7, 3) := dk_153 0 7 (dk_at dksX4_alike_0 21 rfl rfl)
theorem dX4_alike_24 : decode cX4_alike 24 = .ok (.iconst 1, 1) := dk_4 (dk_at dksX4_alike_1 0 rfl rfl)
theorem dX4_alike_25 : decode cX4_alike 25 = .ok (.goto 4, 3) := dk_167 0 4 (dk_at dksX4_alike_1 1 rfl rfl)
theorem dX4_alike_28 : decode cX4_alike 28 = .ok (.iconst 0, 1) := dk_3 (dk_at dksX4_alike_1 4 rfl rfl)
theorem dX4_alike_29 : decode cX4_alike 29 = .ok (.ireturn, 1) := dk_172 (dk_at dksX4_alike_1 5 rfl rfl)
abbrev cX4_areAlike : ByteArray := prog_6_method_24_code
def yX4_areAlike : MethodName := ⟨RX4, "areAlike", "(II)Z"⟩
def dkwX4_areAlike_1 : List UInt8 := [51, 153, 0, 7, 4, 167, 0, 4, 3, 172]
abbrev dktX4_areAlike_1 : List UInt8 := dkwX4_areAlike_1 ++ []
def dkwX4_areAlike_0 : List UInt8 := [42, 180, 0, 40, 16, 60, 27, 104, 28, 96, 51, 153, 0, 21, 42, 180, 0, 40, 16, 60, 28, 104, 27, 96]
abbrev dktX4_areAlike_0 : List UInt8 := dkwX4_areAlike_0 ++ dktX4_areAlike_1
theorem dksX4_areAlike_0 : cX4_areAlike.data.toList.drop 0 = dktX4_areAlike_0 := by decide +kernel
theorem dksX4_areAlike_1 : cX4_areAlike.data.toList.drop 24 = dktX4_areAlike_1 := dk_seg dksX4_areAlike_0 24 rfl rfl
theorem dX4_areAlike_0 : decode cX4_areAlike 0 = .ok (.aload_n 0, 1) := dk_42 (dk_at dksX4_areAlike_0 0 rfl rfl)
theorem dX4_areAlike_1 : decode cX4_areAlike 1 = .ok (.getfield 40, 3) := dk_180 0 40 (dk_at dksX4_areAlike_0 1 rfl rfl)
theorem dX4_areAlike_4 : decode cX4_areAlike 4 = .ok (.bipush 60, 2) := dk_16 60 (dk_at dksX4_areAlike_0 4 rfl rfl)
theorem dX4_areAlike_6 : decode cX4_areAlike 6 = .ok (.iload_n 1, 1) := dk_27 (dk_at dksX4_areAlike_0 6 rfl rfl)
theorem dX4_areAlike_7 : decode cX4_areAlike 7 = .ok (.imul, 1) := dk_104 (dk_at dksX4_areAlike_0 7 rfl rfl)
theorem dX4_areAlike_8 : decode cX4_areAlike 8 = .ok (.iload_n 2, 1) := dk_28 (dk_at dksX4_areAlike_0 8 rfl rfl)
theorem dX4_areAlike_9 : decode cX4_areAlike 9 = .ok (.iadd, 1) := dk_96 (dk_at dksX4_areAlike_0 9 rfl rfl)
theorem dX4_areAlike_10 : decode cX4_areAlike 10 = .ok (.baload, 1) := dk_51 (dk_at dksX4_areAlike_0 10 rfl rfl)
theorem dX4_areAlike_11 : decode cX4_areAlike 11 = .ok (.ifCond .eq 21, 3) := dk_153 0 21 (dk_at dksX4_areAlike_0 11 rfl rfl)
theorem dX4_areAlike_14 : decode cX4_areAlike 14 = .ok (.aload_n 0, 1) := dk_42 (dk_at dksX4_areAlike_0 14 rfl rfl)
theorem dX4_areAlike_15 : decode cX4_areAlike 15 = .ok (.getfield 40, 3) := dk_180 0 40 (dk_at dksX4_areAlike_0 15 rfl rfl)
theorem dX4_areAlike_18 : decode cX4_areAlike 18 = .ok (.bipush 60, 2) := dk_16 60 (dk_at dksX4_areAlike_0 18 rfl rfl)
theorem dX4_areAlike_20 : decode cX4_areAlike 20 = .ok (.iload_n 2, 1) := dk_28 (dk_at dksX4_areAlike_0 20 rfl rfl)
theorem dX4_areAlike_21 : decode cX4_areAlike 21 = .ok (.imul, 1) := dk_104 (dk_at dksX4_areAlike_0 21 rfl rfl)
theorem dX4_areAlike_22 : decode cX4_areAlike 22 = .ok (.iload_n 1, 1) := dk_27 (dk_at dksX4_areAlike_0 22 rfl rfl)
theorem dX4_areAlike_23 : decode cX4_areAlike 23 = .ok (.iadd, 1) := dk_96 (dk_at dksX4_areAlike_0 23 rfl rfl)
theorem dX4_areAlike_24 : decode cX4_areAlike 24 = .ok (.baload, 1) := dk_51 (dk_at dksX4_areAlike_1 0 rfl rfl)
theorem dX4_areAlike_25 : decode cX4_areAlike 25 = .ok (.ifCond .eq 7, 3) := dk_153 0 7 (dk_at dksX4_areAlike_1 1 rfl rfl)
theorem dX4_areAlike_28 : decode cX4_areAlike 28 = .ok (.iconst 1, 1) := dk_4 (dk_at dksX4_areAlike_1 4 rfl rfl)
theorem dX4_areAlike_29 : decode cX4_areAlike 29 = .ok (.goto 4, 3) := dk_167 0 4 (dk_at dksX4_areAlike_1 5 rfl rfl)
theorem dX4_areAlike_32 : decode cX4_areAlike 32 = .ok (.iconst 0, 1) := dk_3 (dk_at dksX4_areAlike_1 8 rfl rfl)
theorem dX4_areAlike_33 : decode cX4_areAlike 33 = .ok (.ireturn, 1) := dk_172 (dk_at dksX4_areAlike_1 9 rfl rfl)
abbrev cX4_pieces : ByteArray := prog_6_method_26_code
def yX4_pieces : MethodName := ⟨RX4, "pieces", "(I)I"⟩
def dkwX4_pieces_9 : List UInt8 := [167, 0, 4, 3, 96, 61, 132, 3, 1, 167, 255, 177, 28, 172]
abbrev dktX4_pieces_9 : List UInt8 := dkwX4_pieces_9 ++ []
def dkwX4_pieces_8 : List UInt8 := [154, 0, 7, 4, 167, 0, 4, 3, 54, 4, 132, 5, 1, 167, 255, 215, 28, 21, 4, 153, 0, 7, 4]
abbrev dktX4_pieces_8 : List UInt8 := dkwX4_pieces_8 ++ dktX4_pieces_9
def dkwX4_pieces_7 : List UInt8 := [21, 4, 153, 0, 36, 42, 180, 0, 47, 21, 5, 51, 153, 0, 13, 42, 21, 5, 29, 182, 0, 154]
abbrev dktX4_pieces_7 : List UInt8 := dkwX4_pieces_7 ++ dktX4_pieces_8
def dkwX4_pieces_6 : List UInt8 := [180, 0, 116, 162, 0, 77, 42, 180, 0, 47, 29, 51, 54, 4, 3, 54, 5, 21, 5, 29, 162, 0, 41]
abbrev dktX4_pieces_6 : List UInt8 := dkwX4_pieces_6 ++ dktX4_pieces_7
def dkwX4_pieces_5 : List UInt8 := [132, 4, 1, 167, 255, 204, 132, 3, 1, 167, 255, 187, 132, 2, 1, 167, 255, 171, 3, 61, 3, 62, 29, 42]
abbrev dktX4_pieces_5 : List UInt8 := dkwX4_pieces_5 ++ dktX4_pieces_6
def dkwX4_pieces_4 : List UInt8 := [96, 46, 155, 0, 21, 42, 180, 0, 47, 42, 180, 0, 16, 16, 8, 29, 104, 21, 4, 96, 46, 4, 84]
abbrev dktX4_pieces_4 : List UInt8 := dkwX4_pieces_4 ++ dktX4_pieces_5
def dkwX4_pieces_3 : List UInt8 := [16, 8, 162, 0, 51, 42, 180, 0, 47, 29, 51, 153, 0, 42, 42, 180, 0, 16, 16, 8, 29, 104, 21, 4]
abbrev dktX4_pieces_3 : List UInt8 := dkwX4_pieces_3 ++ dktX4_pieces_4
def dkwX4_pieces_2 : List UInt8 := [28, 42, 180, 0, 116, 162, 0, 83, 3, 62, 29, 42, 180, 0, 116, 162, 0, 67, 3, 54, 4, 21, 4]
abbrev dktX4_pieces_2 : List UInt8 := dkwX4_pieces_2 ++ dktX4_pieces_3
def dkwX4_pieces_1 : List UInt8 := [42, 180, 0, 47, 28, 28, 27, 160, 0, 7, 4, 167, 0, 4, 3, 84, 132, 2, 1, 167, 255, 229, 3, 61]
abbrev dktX4_pieces_1 : List UInt8 := dkwX4_pieces_1 ++ dktX4_pieces_2
def dkwX4_pieces_0 : List UInt8 := [42, 27, 182, 0, 123, 154, 0, 5, 2, 172, 42, 182, 0, 145, 3, 61, 28, 42, 180, 0, 116, 162, 0, 25]
abbrev dktX4_pieces_0 : List UInt8 := dkwX4_pieces_0 ++ dktX4_pieces_1
theorem dksX4_pieces_0 : cX4_pieces.data.toList.drop 0 = dktX4_pieces_0 := by decide +kernel
theorem dksX4_pieces_1 : cX4_pieces.data.toList.drop 24 = dktX4_pieces_1 := dk_seg dksX4_pieces_0 24 rfl rfl
theorem dksX4_pieces_2 : cX4_pieces.data.toList.drop 48 = dktX4_pieces_2 := dk_seg dksX4_pieces_1 24 rfl rfl
theorem dksX4_pieces_3 : cX4_pieces.data.toList.drop 71 = dktX4_pieces_3 := dk_seg dksX4_pieces_2 23 rfl rfl
theorem dksX4_pieces_4 : cX4_pieces.data.toList.drop 95 = dktX4_pieces_4 := dk_seg dksX4_pieces_3 24 rfl rfl
theorem dksX4_pieces_5 : cX4_pieces.data.toList.drop 118 = dktX4_pieces_5 := dk_seg dksX4_pieces_4 23 rfl rfl
theorem dksX4_pieces_6 : cX4_pieces.data.toList.drop 142 = dktX4_pieces_6 := dk_seg dksX4_pieces_5 24 rfl rfl
theorem dksX4_pieces_7 : cX4_pieces.data.toList.drop 165 = dktX4_pieces_7 := dk_seg dksX4_pieces_6 23 rfl rfl
theorem dksX4_pieces_8 : cX4_pieces.data.toList.drop 187 = dktX4_pieces_8 := dk_seg dksX4_pieces_7 22 rfl rfl
theorem dksX4_pieces_9 : cX4_pieces.data.toList.drop 210 = dktX4_pieces_9 := dk_seg dksX4_pieces_8 23 rfl rfl
theorem dX4_pieces_0 : decode cX4_pieces 0 = .ok (.aload_n 0, 1) := dk_42 (dk_at dksX4_pieces_0 0 rfl rfl)
theorem dX4_pieces_1 : decode cX4_pieces 1 = .ok (.iload_n 1, 1) := dk_27 (dk_at dksX4_pieces_0 1 rfl rfl)
theorem dX4_pieces_2 : decode cX4_pieces 2 = .ok (.invokevirtual 123, 3) := dk_182 0 123 (dk_at dksX4_pieces_0 2 rfl rfl)
theorem dX4_pieces_5 : decode cX4_pieces 5 = .ok (.ifCond .ne 5, 3) := dk_154 0 5 (dk_at dksX4_pieces_0 5 rfl rfl)
theorem dX4_pieces_8 : decode cX4_pieces 8 = .ok (.iconst (-1), 1) := dk_2 (dk_at dksX4_pieces_0 8 rfl rfl)
theorem dX4_pieces_9 : decode cX4_pieces 9 = .ok (.ireturn, 1) := dk_172 (dk_at dksX4_pieces_0 9 rfl rfl)
theorem dX4_pieces_10 : decode cX4_pieces 10 = .ok (.aload_n 0, 1) := dk_42 (dk_at dksX4_pieces_0 10 rfl rfl)
theorem dX4_pieces_11 : decode cX4_pieces 11 = .ok (.invokevirtual 145, 3) := dk_182 0 145 (dk_at dksX4_pieces_0 11 rfl rfl)
theorem dX4_pieces_14 : decode cX4_pieces 14 = .ok (.iconst 0, 1) := dk_3 (dk_at dksX4_pieces_0 14 rfl rfl)
theorem dX4_pieces_15 : decode cX4_pieces 15 = .ok (.istore_n 2, 1) := dk_61 (dk_at dksX4_pieces_0 15 rfl rfl)
theorem dX4_pieces_16 : decode cX4_pieces 16 = .ok (.iload_n 2, 1) := dk_28 (dk_at dksX4_pieces_0 16 rfl rfl)
theorem dX4_pieces_17 : decode cX4_pieces 17 = .ok (.aload_n 0, 1) := dk_42 (dk_at dksX4_pieces_0 17 rfl rfl)
theorem dX4_pieces_18 : decode cX4_pieces 18 = .ok (.getfield 116, 3) := dk_180 0 116 (dk_at dksX4_pieces_0 18 rfl rfl)
theorem dX4_pieces_21 : decode cX4_pieces 21 = .ok (.if_icmp .ge 25, 3) := dk_162 0 25 (dk_at dksX4_pieces_0 21 rfl rfl)
theorem dX4_pieces_24 : decode cX4_pieces 24 = .ok (.aload_n 0, 1) := dk_42 (dk_at dksX4_pieces_1 0 rfl rfl)
theorem dX4_pieces_25 : decode cX4_pieces 25 = .ok (.getfield 47, 3) := dk_180 0 47 (dk_at dksX4_pieces_1 1 rfl rfl)
theorem dX4_pieces_28 : decode cX4_pieces 28 = .ok (.iload_n 2, 1) := dk_28 (dk_at dksX4_pieces_1 4 rfl rfl)
theorem dX4_pieces_29 : decode cX4_pieces 29 = .ok (.iload_n 2, 1) := dk_28 (dk_at dksX4_pieces_1 5 rfl rfl)
theorem dX4_pieces_30 : decode cX4_pieces 30 = .ok (.iload_n 1, 1) := dk_27 (dk_at dksX4_pieces_1 6 rfl rfl)
theorem dX4_pieces_31 : decode cX4_pieces 31 = .ok (.if_icmp .ne 7, 3) := dk_160 0 7 (dk_at dksX4_pieces_1 7 rfl rfl)
theorem dX4_pieces_34 : decode cX4_pieces 34 = .ok (.iconst 1, 1) := dk_4 (dk_at dksX4_pieces_1 10 rfl rfl)
theorem dX4_pieces_35 : decode cX4_pieces 35 = .ok (.goto 4, 3) := dk_167 0 4 (dk_at dksX4_pieces_1 11 rfl rfl)
theorem dX4_pieces_38 : decode cX4_pieces 38 = .ok (.iconst 0, 1) := dk_3 (dk_at dksX4_pieces_1 14 rfl rfl)
theorem dX4_pieces_39 : decode cX4_pieces 39 = .ok (.bastore, 1) := dk_84 (dk_at dksX4_pieces_1 15 rfl rfl)
theorem dX4_pieces_40 : decode cX4_pieces 40 = .ok (.iinc 2 1, 3) := dk_132 2 1 (dk_at dksX4_pieces_1 16 rfl rfl)
theorem dX4_pieces_43 : decode cX4_pieces 43 = .ok (.goto (-27), 3) := dk_167 255 229 (dk_at dksX4_pieces_1 19 rfl rfl)
theorem dX4_pieces_46 : decode cX4_pieces 46 = .ok (.iconst 0, 1) := dk_3 (dk_at dksX4_pieces_1 22 rfl rfl)
theorem dX4_pieces_47 : decode cX4_pieces 47 = .ok (.istore_n 2, 1) := dk_61 (dk_at dksX4_pieces_1 23 rfl rfl)
theorem dX4_pieces_48 : decode cX4_pieces 48 = .ok (.iload_n 2, 1) := dk_28 (dk_at dksX4_pieces_2 0 rfl rfl)
theorem dX4_pieces_49 : decode cX4_pieces 49 = .ok (.aload_n 0, 1) := dk_42 (dk_at dksX4_pieces_2 1 rfl rfl)
theorem dX4_pieces_50 : decode cX4_pieces 50 = .ok (.getfield 116, 3) := dk_180 0 116 (dk_at dksX4_pieces_2 2 rfl rfl)
theorem dX4_pieces_53 : decode cX4_pieces 53 = .ok (.if_icmp .ge 83, 3) := dk_162 0 83 (dk_at dksX4_pieces_2 5 rfl rfl)
theorem dX4_pieces_56 : decode cX4_pieces 56 = .ok (.iconst 0, 1) := dk_3 (dk_at dksX4_pieces_2 8 rfl rfl)
theorem dX4_pieces_57 : decode cX4_pieces 57 = .ok (.istore_n 3, 1) := dk_62 (dk_at dksX4_pieces_2 9 rfl rfl)
theorem dX4_pieces_58 : decode cX4_pieces 58 = .ok (.iload_n 3, 1) := dk_29 (dk_at dksX4_pieces_2 10 rfl rfl)
theorem dX4_pieces_59 : decode cX4_pieces 59 = .ok (.aload_n 0, 1) := dk_42 (dk_at dksX4_pieces_2 11 rfl rfl)
theorem dX4_pieces_60 : decode cX4_pieces 60 = .ok (.getfield 116, 3) := dk_180 0 116 (dk_at dksX4_pieces_2 12 rfl rfl)
theorem dX4_pieces_63 : decode cX4_pieces 63 = .ok (.if_icmp .ge 67, 3) := dk_162 0 67 (dk_at dksX4_pieces_2 15 rfl rfl)
theorem dX4_pieces_66 : decode cX4_pieces 66 = .ok (.iconst 0, 1) := dk_3 (dk_at dksX4_pieces_2 18 rfl rfl)
theorem dX4_pieces_67 : decode cX4_pieces 67 = .ok (.istore 4, 2) := dk_54 4 (dk_at dksX4_pieces_2 19 rfl rfl)
theorem dX4_pieces_69 : decode cX4_pieces 69 = .ok (.iload 4, 2) := dk_21 4 (dk_at dksX4_pieces_2 21 rfl rfl)
theorem dX4_pieces_71 : decode cX4_pieces 71 = .ok (.bipush 8, 2) := dk_16 8 (dk_at dksX4_pieces_3 0 rfl rfl)
theorem dX4_pieces_73 : decode cX4_pieces 73 = .ok (.if_icmp .ge 51, 3) := dk_162 0 51 (dk_at dksX4_pieces_3 2 rfl rfl)
theorem dX4_pieces_76 : decode cX4_pieces 76 = .ok (.aload_n 0, 1) := dk_42 (dk_at dksX4_pieces_3 5 rfl rfl)
theorem dX4_pieces_77 : decode cX4_pieces 77 = .ok (.getfield 47, 3) := dk_180 0 47 (dk_at dksX4_pieces_3 6 rfl rfl)
theorem dX4_pieces_80 : decode cX4_pieces 80 = .ok (.iload_n 3, 1) := dk_29 (dk_at dksX4_pieces_3 9 rfl rfl)
theorem dX4_pieces_81 : decode cX4_pieces 81 = .ok (.baload, 1) := dk_51 (dk_at dksX4_pieces_3 10 rfl rfl)
theorem dX4_pieces_82 : decode cX4_pieces 82 = .ok (.ifCond .eq 42, 3) := dk_153 0 42 (dk_at dksX4_pieces_3 11 rfl rfl)
theorem dX4_pieces_85 : decode cX4_pieces 85 = .ok (.aload_n 0, 1) := dk_42 (dk_at dksX4_pieces_3 14 rfl rfl)
theorem dX4_pieces_86 : decode cX4_pieces 86 = .ok (.getfield 16, 3) := dk_180 0 16 (dk_at dksX4_pieces_3 15 rfl rfl)
theorem dX4_pieces_89 : decode cX4_pieces 89 = .ok (.bipush 8, 2) := dk_16 8 (dk_at dksX4_pieces_3 18 rfl rfl)
theorem dX4_pieces_91 : decode cX4_pieces 91 = .ok (.iload_n 3, 1) := dk_29 (dk_at dksX4_pieces_3 20 rfl rfl)
theorem dX4_pieces_92 : decode cX4_pieces 92 = .ok (.imul, 1) := dk_104 (dk_at dksX4_pieces_3 21 rfl rfl)
theorem dX4_pieces_93 : decode cX4_pieces 93 = .ok (.iload 4, 2) := dk_21 4 (dk_at dksX4_pieces_3 22 rfl rfl)
theorem dX4_pieces_95 : decode cX4_pieces 95 = .ok (.iadd, 1) := dk_96 (dk_at dksX4_pieces_4 0 rfl rfl)
theorem dX4_pieces_96 : decode cX4_pieces 96 = .ok (.iaload, 1) := dk_46 (dk_at dksX4_pieces_4 1 rfl rfl)
theorem dX4_pieces_97 : decode cX4_pieces 97 = .ok (.ifCond .lt 21, 3) := dk_155 0 21 (dk_at dksX4_pieces_4 2 rfl rfl)
theorem dX4_pieces_100 : decode cX4_pieces 100 = .ok (.aload_n 0, 1) := dk_42 (dk_at dksX4_pieces_4 5 rfl rfl)
theorem dX4_pieces_101 : decode cX4_pieces 101 = .ok (.getfield 47, 3) := dk_180 0 47 (dk_at dksX4_pieces_4 6 rfl rfl)
theorem dX4_pieces_104 : decode cX4_pieces 104 = .ok (.aload_n 0, 1) := dk_42 (dk_at dksX4_pieces_4 9 rfl rfl)
theorem dX4_pieces_105 : decode cX4_pieces 105 = .ok (.getfield 16, 3) := dk_180 0 16 (dk_at dksX4_pieces_4 10 rfl rfl)
theorem dX4_pieces_108 : decode cX4_pieces 108 = .ok (.bipush 8, 2) := dk_16 8 (dk_at dksX4_pieces_4 13 rfl rfl)
theorem dX4_pieces_110 : decode cX4_pieces 110 = .ok (.iload_n 3, 1) := dk_29 (dk_at dksX4_pieces_4 15 rfl rfl)
theorem dX4_pieces_111 : decode cX4_pieces 111 = .ok (.imul, 1) := dk_104 (dk_at dksX4_pieces_4 16 rfl rfl)
theorem dX4_pieces_112 : decode cX4_pieces 112 = .ok (.iload 4, 2) := dk_21 4 (dk_at dksX4_pieces_4 17 rfl rfl)
theorem dX4_pieces_114 : decode cX4_pieces 114 = .ok (.iadd, 1) := dk_96 (dk_at dksX4_pieces_4 19 rfl rfl)
theorem dX4_pieces_115 : decode cX4_pieces 115 = .ok (.iaload, 1) := dk_46 (dk_at dksX4_pieces_4 20 rfl rfl)
theorem dX4_pieces_116 : decode cX4_pieces 116 = .ok (.iconst 1, 1) := dk_4 (dk_at dksX4_pieces_4 21 rfl rfl)
theorem dX4_pieces_117 : decode cX4_pieces 117 = .ok (.bastore, 1) := dk_84 (dk_at dksX4_pieces_4 22 rfl rfl)
theorem dX4_pieces_118 : decode cX4_pieces 118 = .ok (.iinc 4 1, 3) := dk_132 4 1 (dk_at dksX4_pieces_5 0 rfl rfl)
theorem dX4_pieces_121 : decode cX4_pieces 121 = .ok (.goto (-52), 3) := dk_167 255 204 (dk_at dksX4_pieces_5 3 rfl rfl)
theorem dX4_pieces_124 : decode cX4_pieces 124 = .ok (.iinc 3 1, 3) := dk_132 3 1 (dk_at dksX4_pieces_5 6 rfl rfl)
theorem dX4_pieces_127 : decode cX4_pieces 127 = .ok (.goto (-69), 3) := dk_167 255 187 (dk_at dksX4_pieces_5 9 rfl rfl)
theorem dX4_pieces_130 : decode cX4_pieces 130 = .ok (.iinc 2 1, 3) := dk_132 2 1 (dk_at dksX4_pieces_5 12 rfl rfl)
theorem dX4_pieces_133 : decode cX4_pieces 133 = .ok (.goto (-85), 3) := dk_167 255 171 (dk_at dksX4_pieces_5 15 rfl rfl)
theorem dX4_pieces_136 : decode cX4_pieces 136 = .ok (.iconst 0, 1) := dk_3 (dk_at dksX4_pieces_5 18 rfl rfl)
theorem dX4_pieces_137 : decode cX4_pieces 137 = .ok (.istore_n 2, 1) := dk_61 (dk_at dksX4_pieces_5 19 rfl rfl)
theorem dX4_pieces_138 : decode cX4_pieces 138 = .ok (.iconst 0, 1) := dk_3 (dk_at dksX4_pieces_5 20 rfl rfl)
theorem dX4_pieces_139 : decode cX4_pieces 139 = .ok (.istore_n 3, 1) := dk_62 (dk_at dksX4_pieces_5 21 rfl rfl)
theorem dX4_pieces_140 : decode cX4_pieces 140 = .ok (.iload_n 3, 1) := dk_29 (dk_at dksX4_pieces_5 22 rfl rfl)
theorem dX4_pieces_141 : decode cX4_pieces 141 = .ok (.aload_n 0, 1) := dk_42 (dk_at dksX4_pieces_5 23 rfl rfl)
theorem dX4_pieces_142 : decode cX4_pieces 142 = .ok (.getfield 116, 3) := dk_180 0 116 (dk_at dksX4_pieces_6 0 rfl rfl)
theorem dX4_pieces_145 : decode cX4_pieces 145 = .ok (.if_icmp .ge 77, 3) := dk_162 0 77 (dk_at dksX4_pieces_6 3 rfl rfl)
theorem dX4_pieces_148 : decode cX4_pieces 148 = .ok (.aload_n 0, 1) := dk_42 (dk_at dksX4_pieces_6 6 rfl rfl)
theorem dX4_pieces_149 : decode cX4_pieces 149 = .ok (.getfield 47, 3) := dk_180 0 47 (dk_at dksX4_pieces_6 7 rfl rfl)
theorem dX4_pieces_152 : decode cX4_pieces 152 = .ok (.iload_n 3, 1) := dk_29 (dk_at dksX4_pieces_6 10 rfl rfl)
theorem dX4_pieces_153 : decode cX4_pieces 153 = .ok (.baload, 1) := dk_51 (dk_at dksX4_pieces_6 11 rfl rfl)
theorem dX4_pieces_154 : decode cX4_pieces 154 = .ok (.istore 4, 2) := dk_54 4 (dk_at dksX4_pieces_6 12 rfl rfl)
theorem dX4_pieces_156 : decode cX4_pieces 156 = .ok (.iconst 0, 1) := dk_3 (dk_at dksX4_pieces_6 14 rfl rfl)
theorem dX4_pieces_157 : decode cX4_pieces 157 = .ok (.istore 5, 2) := dk_54 5 (dk_at dksX4_pieces_6 15 rfl rfl)
theorem dX4_pieces_159 : decode cX4_pieces 159 = .ok (.iload 5, 2) := dk_21 5 (dk_at dksX4_pieces_6 17 rfl rfl)
theorem dX4_pieces_161 : decode cX4_pieces 161 = .ok (.iload_n 3, 1) := dk_29 (dk_at dksX4_pieces_6 19 rfl rfl)
theorem dX4_pieces_162 : decode cX4_pieces 162 = .ok (.if_icmp .ge 41, 3) := dk_162 0 41 (dk_at dksX4_pieces_6 20 rfl rfl)
theorem dX4_pieces_165 : decode cX4_pieces 165 = .ok (.iload 4, 2) := dk_21 4 (dk_at dksX4_pieces_7 0 rfl rfl)
theorem dX4_pieces_167 : decode cX4_pieces 167 = .ok (.ifCond .eq 36, 3) := dk_153 0 36 (dk_at dksX4_pieces_7 2 rfl rfl)
theorem dX4_pieces_170 : decode cX4_pieces 170 = .ok (.aload_n 0, 1) := dk_42 (dk_at dksX4_pieces_7 5 rfl rfl)
theorem dX4_pieces_171 : decode cX4_pieces 171 = .ok (.getfield 47, 3) := dk_180 0 47 (dk_at dksX4_pieces_7 6 rfl rfl)
theorem dX4_pieces_174 : decode cX4_pieces 174 = .ok (.iload 5, 2) := dk_21 5 (dk_at dksX4_pieces_7 9 rfl rfl)
theorem dX4_pieces_176 : decode cX4_pieces 176 = .ok (.baload, 1) := dk_51 (dk_at dksX4_pieces_7 11 rfl rfl)
theorem dX4_pieces_177 : decode cX4_pieces 177 = .ok (.ifCond .eq 13, 3) := dk_153 0 13 (dk_at dksX4_pieces_7 12 rfl rfl)
theorem dX4_pieces_180 : decode cX4_pieces 180 = .ok (.aload_n 0, 1) := dk_42 (dk_at dksX4_pieces_7 15 rfl rfl)
theorem dX4_pieces_181 : decode cX4_pieces 181 = .ok (.iload 5, 2) := dk_21 5 (dk_at dksX4_pieces_7 16 rfl rfl)
theorem dX4_pieces_183 : decode cX4_pieces 183 = .ok (.iload_n 3, 1) := dk_29 (dk_at dksX4_pieces_7 18 rfl rfl)
theorem dX4_pieces_184 : decode cX4_pieces 184 = .ok (.invokevirtual 154, 3) := dk_182 0 154 (dk_at dksX4_pieces_7 19 rfl rfl)
theorem dX4_pieces_187 : decode cX4_pieces 187 = .ok (.ifCond .ne 7, 3) := dk_154 0 7 (dk_at dksX4_pieces_8 0 rfl rfl)
theorem dX4_pieces_190 : decode cX4_pieces 190 = .ok (.iconst 1, 1) := dk_4 (dk_at dksX4_pieces_8 3 rfl rfl)
theorem dX4_pieces_191 : decode cX4_pieces 191 = .ok (.goto 4, 3) := dk_167 0 4 (dk_at dksX4_pieces_8 4 rfl rfl)
theorem dX4_pieces_194 : decode cX4_pieces 194 = .ok (.iconst 0, 1) := dk_3 (dk_at dksX4_pieces_8 7 rfl rfl)
theorem dX4_pieces_195 : decode cX4_pieces 195 = .ok (.istore 4, 2) := dk_54 4 (dk_at dksX4_pieces_8 8 rfl rfl)
theorem dX4_pieces_197 : decode cX4_pieces 197 = .ok (.iinc 5 1, 3) := dk_132 5 1 (dk_at dksX4_pieces_8 10 rfl rfl)
theorem dX4_pieces_200 : decode cX4_pieces 200 = .ok (.goto (-41), 3) := dk_167 255 215 (dk_at dksX4_pieces_8 13 rfl rfl)
theorem dX4_pieces_203 : decode cX4_pieces 203 = .ok (.iload_n 2, 1) := dk_28 (dk_at dksX4_pieces_8 16 rfl rfl)
theorem dX4_pieces_204 : decode cX4_pieces 204 = .ok (.iload 4, 2) := dk_21 4 (dk_at dksX4_pieces_8 17 rfl rfl)
theorem dX4_pieces_206 : decode cX4_pieces 206 = .ok (.ifCond .eq 7, 3) := dk_153 0 7 (dk_at dksX4_pieces_8 19 rfl rfl)
theorem dX4_pieces_209 : decode cX4_pieces 209 = .ok (.iconst 1, 1) := dk_4 (dk_at dksX4_pieces_8 22 rfl rfl)
theorem dX4_pieces_210 : decode cX4_pieces 210 = .ok (.goto 4, 3) := dk_167 0 4 (dk_at dksX4_pieces_9 0 rfl rfl)
theorem dX4_pieces_213 : decode cX4_pieces 213 = .ok (.iconst 0, 1) := dk_3 (dk_at dksX4_pieces_9 3 rfl rfl)
theorem dX4_pieces_214 : decode cX4_pieces 214 = .ok (.iadd, 1) := dk_96 (dk_at dksX4_pieces_9 4 rfl rfl)
theorem dX4_pieces_215 : decode cX4_pieces 215 = .ok (.istore_n 2, 1) := dk_61 (dk_at dksX4_pieces_9 5 rfl rfl)
theorem dX4_pieces_216 : decode cX4_pieces 216 = .ok (.iinc 3 1, 3) := dk_132 3 1 (dk_at dksX4_pieces_9 6 rfl rfl)
theorem dX4_pieces_219 : decode cX4_pieces 219 = .ok (.goto (-79), 3) := dk_167 255 177 (dk_at dksX4_pieces_9 9 rfl rfl)
theorem dX4_pieces_222 : decode cX4_pieces 222 = .ok (.iload_n 2, 1) := dk_28 (dk_at dksX4_pieces_9 12 rfl rfl)
theorem dX4_pieces_223 : decode cX4_pieces 223 = .ok (.ireturn, 1) := dk_172 (dk_at dksX4_pieces_9 13 rfl rfl)
abbrev cX4_join : ByteArray := prog_6_method_30_code
def yX4_join : MethodName := ⟨RX4, "join", "(III)I"⟩
def dkwX4_join_10 : List UInt8 := [164, 0, 14, 42, 21, 4, 181, 0, 116, 42, 3, 181, 0, 119, 21, 5, 172]
abbrev dktX4_join_10 : List UInt8 := dkwX4_join_10 ++ []
def dkwX4_join_9 : List UInt8 := [54, 5, 167, 0, 12, 42, 180, 0, 16, 21, 7, 21, 10, 79, 167, 255, 107, 21, 4, 42, 180, 0, 116]
abbrev dktX4_join_9 : List UInt8 := dkwX4_join_9 ++ dktX4_join_10
def dkwX4_join_8 : List UInt8 := [132, 4, 1, 42, 21, 8, 21, 9, 21, 6, 5, 112, 21, 10, 182, 0, 166, 21, 7, 156, 0, 10, 21, 10]
abbrev dktX4_join_8 : List UInt8 := dkwX4_join_8 ++ dktX4_join_9
def dkwX4_join_7 : List UInt8 := [21, 4, 16, 60, 160, 0, 6, 16, 252, 172, 21, 4, 54, 10, 42, 180, 0, 50, 21, 6, 21, 10, 79]
abbrev dktX4_join_7 : List UInt8 := dkwX4_join_7 ++ dktX4_join_8
def dkwX4_join_6 : List UInt8 := [182, 0, 163, 54, 10, 21, 10, 156, 0, 12, 42, 180, 0, 50, 21, 6, 46, 54, 10, 21, 10, 156, 0, 43]
abbrev dktX4_join_6 : List UInt8 := dkwX4_join_6 ++ dktX4_join_7
def dkwX4_join_5 : List UInt8 := [16, 120, 108, 54, 8, 21, 6, 5, 108, 16, 60, 112, 54, 9, 42, 21, 8, 21, 9, 21, 6, 5, 112]
abbrev dktX4_join_5 : List UInt8 := dkwX4_join_5 ++ dktX4_join_6
def dkwX4_join_4 : List UInt8 := [180, 0, 53, 42, 180, 0, 157, 46, 54, 6, 42, 180, 0, 56, 42, 180, 0, 157, 46, 54, 7, 21, 6]
abbrev dktX4_join_4 : List UInt8 := dkwX4_join_4 ++ dktX4_join_5
def dkwX4_join_3 : List UInt8 := [16, 250, 54, 5, 42, 180, 0, 157, 158, 0, 148, 42, 89, 180, 0, 157, 4, 100, 181, 0, 157, 42]
abbrev dktX4_join_3 : List UInt8 := dkwX4_join_3 ++ dktX4_join_4
def dkwX4_join_2 : List UInt8 := [21, 5, 16, 250, 79, 132, 5, 1, 167, 255, 236, 42, 3, 181, 0, 157, 42, 27, 28, 29, 2, 182, 0, 160]
abbrev dktX4_join_2 : List UInt8 := dkwX4_join_2 ++ dktX4_join_3
def dkwX4_join_1 : List UInt8 := [182, 0, 145, 42, 180, 0, 116, 54, 4, 3, 54, 5, 21, 5, 17, 28, 32, 162, 0, 18, 42, 180, 0, 50]
abbrev dktX4_join_1 : List UInt8 := dkwX4_join_1 ++ dktX4_join_2
def dkwX4_join_0 : List UInt8 := [42, 27, 28, 182, 0, 142, 154, 0, 5, 2, 172, 29, 3, 4, 184, 0, 84, 154, 0, 6, 16, 254, 172, 42]
abbrev dktX4_join_0 : List UInt8 := dkwX4_join_0 ++ dktX4_join_1
theorem dksX4_join_0 : cX4_join.data.toList.drop 0 = dktX4_join_0 := by decide +kernel
theorem dksX4_join_1 : cX4_join.data.toList.drop 24 = dktX4_join_1 := dk_seg dksX4_join_0 24 rfl rfl
theorem dksX4_join_2 : cX4_join.data.toList.drop 48 = dktX4_join_2 := dk_seg dksX4_join_1 24 rfl rfl
theorem dksX4_join_3 : cX4_join.data.toList.drop 72 = dktX4_join_3 := dk_seg dksX4_join_2 24 rfl rfl
theorem dksX4_join_4 : cX4_join.data.toList.drop 94 = dktX4_join_4 := dk_seg dksX4_join_3 22 rfl rfl
theorem dksX4_join_5 : cX4_join.data.toList.drop 117 = dktX4_join_5 := dk_seg dksX4_join_4 23 rfl rfl
theorem dksX4_join_6 : cX4_join.data.toList.drop 140 = dktX4_join_6 := dk_seg dksX4_join_5 23 rfl rfl
theorem dksX4_join_7 : cX4_join.data.toList.drop 164 = dktX4_join_7 := dk_seg dksX4_join_6 24 rfl rfl
theorem dksX4_join_8 : cX4_join.data.toList.drop 187 = dktX4_join_8 := dk_seg dksX4_join_7 23 rfl rfl
theorem dksX4_join_9 : cX4_join.data.toList.drop 211 = dktX4_join_9 := dk_seg dksX4_join_8 24 rfl rfl
theorem dksX4_join_10 : cX4_join.data.toList.drop 234 = dktX4_join_10 := dk_seg dksX4_join_9 23 rfl rfl
theorem dX4_join_0 : decode cX4_join 0 = .ok (.aload_n 0, 1) := dk_42 (dk_at dksX4_join_0 0 rfl rfl)
theorem dX4_join_1 : decode cX4_join 1 = .ok (.iload_n 1, 1) := dk_27 (dk_at dksX4_join_0 1 rfl rfl)
theorem dX4_join_2 : decode cX4_join 2 = .ok (.iload_n 2, 1) := dk_28 (dk_at dksX4_join_0 2 rfl rfl)
theorem dX4_join_3 : decode cX4_join 3 = .ok (.invokevirtual 142, 3) := dk_182 0 142 (dk_at dksX4_join_0 3 rfl rfl)
theorem dX4_join_6 : decode cX4_join 6 = .ok (.ifCond .ne 5, 3) := dk_154 0 5 (dk_at dksX4_join_0 6 rfl rfl)
theorem dX4_join_9 : decode cX4_join 9 = .ok (.iconst (-1), 1) := dk_2 (dk_at dksX4_join_0 9 rfl rfl)
theorem dX4_join_10 : decode cX4_join 10 = .ok (.ireturn, 1) := dk_172 (dk_at dksX4_join_0 10 rfl rfl)
theorem dX4_join_11 : decode cX4_join 11 = .ok (.iload_n 3, 1) := dk_29 (dk_at dksX4_join_0 11 rfl rfl)
theorem dX4_join_12 : decode cX4_join 12 = .ok (.iconst 0, 1) := dk_3 (dk_at dksX4_join_0 12 rfl rfl)
theorem dX4_join_13 : decode cX4_join 13 = .ok (.iconst 1, 1) := dk_4 (dk_at dksX4_join_0 13 rfl rfl)
theorem dX4_join_14 : decode cX4_join 14 = .ok (.invokestatic 84, 3) := dk_184 0 84 (dk_at dksX4_join_0 14 rfl rfl)
theorem dX4_join_17 : decode cX4_join 17 = .ok (.ifCond .ne 6, 3) := dk_154 0 6 (dk_at dksX4_join_0 17 rfl rfl)
theorem dX4_join_20 : decode cX4_join 20 = .ok (.bipush (-2), 2) := dk_16 254 (dk_at dksX4_join_0 20 rfl rfl)
theorem dX4_join_22 : decode cX4_join 22 = .ok (.ireturn, 1) := dk_172 (dk_at dksX4_join_0 22 rfl rfl)
theorem dX4_join_23 : decode cX4_join 23 = .ok (.aload_n 0, 1) := dk_42 (dk_at dksX4_join_0 23 rfl rfl)
theorem dX4_join_24 : decode cX4_join 24 = .ok (.invokevirtual 145, 3) := dk_182 0 145 (dk_at dksX4_join_1 0 rfl rfl)
theorem dX4_join_27 : decode cX4_join 27 = .ok (.aload_n 0, 1) := dk_42 (dk_at dksX4_join_1 3 rfl rfl)
theorem dX4_join_28 : decode cX4_join 28 = .ok (.getfield 116, 3) := dk_180 0 116 (dk_at dksX4_join_1 4 rfl rfl)
theorem dX4_join_31 : decode cX4_join 31 = .ok (.istore 4, 2) := dk_54 4 (dk_at dksX4_join_1 7 rfl rfl)
theorem dX4_join_33 : decode cX4_join 33 = .ok (.iconst 0, 1) := dk_3 (dk_at dksX4_join_1 9 rfl rfl)
theorem dX4_join_34 : decode cX4_join 34 = .ok (.istore 5, 2) := dk_54 5 (dk_at dksX4_join_1 10 rfl rfl)
theorem dX4_join_36 : decode cX4_join 36 = .ok (.iload 5, 2) := dk_21 5 (dk_at dksX4_join_1 12 rfl rfl)
theorem dX4_join_38 : decode cX4_join 38 = .ok (.sipush 7200, 3) := dk_17 28 32 (dk_at dksX4_join_1 14 rfl rfl)
theorem dX4_join_41 : decode cX4_join 41 = .ok (.if_icmp .ge 18, 3) := dk_162 0 18 (dk_at dksX4_join_1 17 rfl rfl)
theorem dX4_join_44 : decode cX4_join 44 = .ok (.aload_n 0, 1) := dk_42 (dk_at dksX4_join_1 20 rfl rfl)
theorem dX4_join_45 : decode cX4_join 45 = .ok (.getfield 50, 3) := dk_180 0 50 (dk_at dksX4_join_1 21 rfl rfl)
theorem dX4_join_48 : decode cX4_join 48 = .ok (.iload 5, 2) := dk_21 5 (dk_at dksX4_join_2 0 rfl rfl)
theorem dX4_join_50 : decode cX4_join 50 = .ok (.bipush (-6), 2) := dk_16 250 (dk_at dksX4_join_2 2 rfl rfl)
theorem dX4_join_52 : decode cX4_join 52 = .ok (.iastore, 1) := dk_79 (dk_at dksX4_join_2 4 rfl rfl)
theorem dX4_join_53 : decode cX4_join 53 = .ok (.iinc 5 1, 3) := dk_132 5 1 (dk_at dksX4_join_2 5 rfl rfl)
theorem dX4_join_56 : decode cX4_join 56 = .ok (.goto (-20), 3) := dk_167 255 236 (dk_at dksX4_join_2 8 rfl rfl)
theorem dX4_join_59 : decode cX4_join 59 = .ok (.aload_n 0, 1) := dk_42 (dk_at dksX4_join_2 11 rfl rfl)
theorem dX4_join_60 : decode cX4_join 60 = .ok (.iconst 0, 1) := dk_3 (dk_at dksX4_join_2 12 rfl rfl)
theorem dX4_join_61 : decode cX4_join 61 = .ok (.putfield 157, 3) := dk_181 0 157 (dk_at dksX4_join_2 13 rfl rfl)
theorem dX4_join_64 : decode cX4_join 64 = .ok (.aload_n 0, 1) := dk_42 (dk_at dksX4_join_2 16 rfl rfl)
theorem dX4_join_65 : decode cX4_join 65 = .ok (.iload_n 1, 1) := dk_27 (dk_at dksX4_join_2 17 rfl rfl)
theorem dX4_join_66 : decode cX4_join 66 = .ok (.iload_n 2, 1) := dk_28 (dk_at dksX4_join_2 18 rfl rfl)
theorem dX4_join_67 : decode cX4_join 67 = .ok (.iload_n 3, 1) := dk_29 (dk_at dksX4_join_2 19 rfl rfl)
theorem dX4_join_68 : decode cX4_join 68 = .ok (.iconst (-1), 1) := dk_2 (dk_at dksX4_join_2 20 rfl rfl)
theorem dX4_join_69 : decode cX4_join 69 = .ok (.invokevirtual 160, 3) := dk_182 0 160 (dk_at dksX4_join_2 21 rfl rfl)
theorem dX4_join_72 : decode cX4_join 72 = .ok (.bipush (-6), 2) := dk_16 250 (dk_at dksX4_join_3 0 rfl rfl)
theorem dX4_join_74 : decode cX4_join 74 = .ok (.istore 5, 2) := dk_54 5 (dk_at dksX4_join_3 2 rfl rfl)
theorem dX4_join_76 : decode cX4_join 76 = .ok (.aload_n 0, 1) := dk_42 (dk_at dksX4_join_3 4 rfl rfl)
theorem dX4_join_77 : decode cX4_join 77 = .ok (.getfield 157, 3) := dk_180 0 157 (dk_at dksX4_join_3 5 rfl rfl)
theorem dX4_join_80 : decode cX4_join 80 = .ok (.ifCond .le 148, 3) := dk_158 0 148 (dk_at dksX4_join_3 8 rfl rfl)
theorem dX4_join_83 : decode cX4_join 83 = .ok (.aload_n 0, 1) := dk_42 (dk_at dksX4_join_3 11 rfl rfl)
theorem dX4_join_84 : decode cX4_join 84 = .ok (.dup, 1) := dk_89 (dk_at dksX4_join_3 12 rfl rfl)
theorem dX4_join_85 : decode cX4_join 85 = .ok (.getfield 157, 3) := dk_180 0 157 (dk_at dksX4_join_3 13 rfl rfl)
theorem dX4_join_88 : decode cX4_join 88 = .ok (.iconst 1, 1) := dk_4 (dk_at dksX4_join_3 16 rfl rfl)
theorem dX4_join_89 : decode cX4_join 89 = .ok (.isub, 1) := dk_100 (dk_at dksX4_join_3 17 rfl rfl)
theorem dX4_join_90 : decode cX4_join 90 = .ok (.putfield 157, 3) := dk_181 0 157 (dk_at dksX4_join_3 18 rfl rfl)
theorem dX4_join_93 : decode cX4_join 93 = .ok (.aload_n 0, 1) := dk_42 (dk_at dksX4_join_3 21 rfl rfl)
theorem dX4_join_94 : decode cX4_join 94 = .ok (.getfield 53, 3) := dk_180 0 53 (dk_at dksX4_join_4 0 rfl rfl)
theorem dX4_join_97 : decode cX4_join 97 = .ok (.aload_n 0, 1) := dk_42 (dk_at dksX4_join_4 3 rfl rfl)
theorem dX4_join_98 : decode cX4_join 98 = .ok (.getfield 157, 3) := dk_180 0 157 (dk_at dksX4_join_4 4 rfl rfl)
theorem dX4_join_101 : decode cX4_join 101 = .ok (.iaload, 1) := dk_46 (dk_at dksX4_join_4 7 rfl rfl)
theorem dX4_join_102 : decode cX4_join 102 = .ok (.istore 6, 2) := dk_54 6 (dk_at dksX4_join_4 8 rfl rfl)
theorem dX4_join_104 : decode cX4_join 104 = .ok (.aload_n 0, 1) := dk_42 (dk_at dksX4_join_4 10 rfl rfl)
theorem dX4_join_105 : decode cX4_join 105 = .ok (.getfield 56, 3) := dk_180 0 56 (dk_at dksX4_join_4 11 rfl rfl)
theorem dX4_join_108 : decode cX4_join 108 = .ok (.aload_n 0, 1) := dk_42 (dk_at dksX4_join_4 14 rfl rfl)
theorem dX4_join_109 : decode cX4_join 109 = .ok (.getfield 157, 3) := dk_180 0 157 (dk_at dksX4_join_4 15 rfl rfl)
theorem dX4_join_112 : decode cX4_join 112 = .ok (.iaload, 1) := dk_46 (dk_at dksX4_join_4 18 rfl rfl)
theorem dX4_join_113 : decode cX4_join 113 = .ok (.istore 7, 2) := dk_54 7 (dk_at dksX4_join_4 19 rfl rfl)
theorem dX4_join_115 : decode cX4_join 115 = .ok (.iload 6, 2) := dk_21 6 (dk_at dksX4_join_4 21 rfl rfl)
theorem dX4_join_117 : decode cX4_join 117 = .ok (.bipush 120, 2) := dk_16 120 (dk_at dksX4_join_5 0 rfl rfl)
theorem dX4_join_119 : decode cX4_join 119 = .ok (.idiv, 1) := dk_108 (dk_at dksX4_join_5 2 rfl rfl)
theorem dX4_join_120 : decode cX4_join 120 = .ok (.istore 8, 2) := dk_54 8 (dk_at dksX4_join_5 3 rfl rfl)
theorem dX4_join_122 : decode cX4_join 122 = .ok (.iload 6, 2) := dk_21 6 (dk_at dksX4_join_5 5 rfl rfl)
theorem dX4_join_124 : decode cX4_join 124 = .ok (.iconst 2, 1) := dk_5 (dk_at dksX4_join_5 7 rfl rfl)
theorem dX4_join_125 : decode cX4_join 125 = .ok (.idiv, 1) := dk_108 (dk_at dksX4_join_5 8 rfl rfl)
theorem dX4_join_126 : decode cX4_join 126 = .ok (.bipush 60, 2) := dk_16 60 (dk_at dksX4_join_5 9 rfl rfl)
theorem dX4_join_128 : decode cX4_join 128 = .ok (.irem, 1) := dk_112 (dk_at dksX4_join_5 11 rfl rfl)
theorem dX4_join_129 : decode cX4_join 129 = .ok (.istore 9, 2) := dk_54 9 (dk_at dksX4_join_5 12 rfl rfl)
theorem dX4_join_131 : decode cX4_join 131 = .ok (.aload_n 0, 1) := dk_42 (dk_at dksX4_join_5 14 rfl rfl)
theorem dX4_join_132 : decode cX4_join 132 = .ok (.iload 8, 2) := dk_21 8 (dk_at dksX4_join_5 15 rfl rfl)
theorem dX4_join_134 : decode cX4_join 134 = .ok (.iload 9, 2) := dk_21 9 (dk_at dksX4_join_5 17 rfl rfl)
theorem dX4_join_136 : decode cX4_join 136 = .ok (.iload 6, 2) := dk_21 6 (dk_at dksX4_join_5 19 rfl rfl)
theorem dX4_join_138 : decode cX4_join 138 = .ok (.iconst 2, 1) := dk_5 (dk_at dksX4_join_5 21 rfl rfl)
theorem dX4_join_139 : decode cX4_join 139 = .ok (.irem, 1) := dk_112 (dk_at dksX4_join_5 22 rfl rfl)
theorem dX4_join_140 : decode cX4_join 140 = .ok (.invokevirtual 163, 3) := dk_182 0 163 (dk_at dksX4_join_6 0 rfl rfl)
theorem dX4_join_143 : decode cX4_join 143 = .ok (.istore 10, 2) := dk_54 10 (dk_at dksX4_join_6 3 rfl rfl)
theorem dX4_join_145 : decode cX4_join 145 = .ok (.iload 10, 2) := dk_21 10 (dk_at dksX4_join_6 5 rfl rfl)
theorem dX4_join_147 : decode cX4_join 147 = .ok (.ifCond .ge 12, 3) := dk_156 0 12 (dk_at dksX4_join_6 7 rfl rfl)
theorem dX4_join_150 : decode cX4_join 150 = .ok (.aload_n 0, 1) := dk_42 (dk_at dksX4_join_6 10 rfl rfl)
theorem dX4_join_151 : decode cX4_join 151 = .ok (.getfield 50, 3) := dk_180 0 50 (dk_at dksX4_join_6 11 rfl rfl)
theorem dX4_join_154 : decode cX4_join 154 = .ok (.iload 6, 2) := dk_21 6 (dk_at dksX4_join_6 14 rfl rfl)
theorem dX4_join_156 : decode cX4_join 156 = .ok (.iaload, 1) := dk_46 (dk_at dksX4_join_6 16 rfl rfl)
theorem dX4_join_157 : decode cX4_join 157 = .ok (.istore 10, 2) := dk_54 10 (dk_at dksX4_join_6 17 rfl rfl)
theorem dX4_join_159 : decode cX4_join 159 = .ok (.iload 10, 2) := dk_21 10 (dk_at dksX4_join_6 19 rfl rfl)
theorem dX4_join_161 : decode cX4_join 161 = .ok (.ifCond .ge 43, 3) := dk_156 0 43 (dk_at dksX4_join_6 21 rfl rfl)
theorem dX4_join_164 : decode cX4_join 164 = .ok (.iload 4, 2) := dk_21 4 (dk_at dksX4_join_7 0 rfl rfl)
theorem dX4_join_166 : decode cX4_join 166 = .ok (.bipush 60, 2) := dk_16 60 (dk_at dksX4_join_7 2 rfl rfl)
theorem dX4_join_168 : decode cX4_join 168 = .ok (.if_icmp .ne 6, 3) := dk_160 0 6 (dk_at dksX4_join_7 4 rfl rfl)
theorem dX4_join_171 : decode cX4_join 171 = .ok (.bipush (-4), 2) := dk_16 252 (dk_at dksX4_join_7 7 rfl rfl)
theorem dX4_join_173 : decode cX4_join 173 = .ok (.ireturn, 1) := dk_172 (dk_at dksX4_join_7 9 rfl rfl)
theorem dX4_join_174 : decode cX4_join 174 = .ok (.iload 4, 2) := dk_21 4 (dk_at dksX4_join_7 10 rfl rfl)
theorem dX4_join_176 : decode cX4_join 176 = .ok (.istore 10, 2) := dk_54 10 (dk_at dksX4_join_7 12 rfl rfl)
theorem dX4_join_178 : decode cX4_join 178 = .ok (.aload_n 0, 1) := dk_42 (dk_at dksX4_join_7 14 rfl rfl)
theorem dX4_join_179 : decode cX4_join 179 = .ok (.getfield 50, 3) := dk_180 0 50 (dk_at dksX4_join_7 15 rfl rfl)
theorem dX4_join_182 : decode cX4_join 182 = .ok (.iload 6, 2) := dk_21 6 (dk_at dksX4_join_7 18 rfl rfl)
theorem dX4_join_184 : decode cX4_join 184 = .ok (.iload 10, 2) := dk_21 10 (dk_at dksX4_join_7 20 rfl rfl)
theorem dX4_join_186 : decode cX4_join 186 = .ok (.iastore, 1) := dk_79 (dk_at dksX4_join_7 22 rfl rfl)
theorem dX4_join_187 : decode cX4_join 187 = .ok (.iinc 4 1, 3) := dk_132 4 1 (dk_at dksX4_join_8 0 rfl rfl)
theorem dX4_join_190 : decode cX4_join 190 = .ok (.aload_n 0, 1) := dk_42 (dk_at dksX4_join_8 3 rfl rfl)
theorem dX4_join_191 : decode cX4_join 191 = .ok (.iload 8, 2) := dk_21 8 (dk_at dksX4_join_8 4 rfl rfl)
theorem dX4_join_193 : decode cX4_join 193 = .ok (.iload 9, 2) := dk_21 9 (dk_at dksX4_join_8 6 rfl rfl)
theorem dX4_join_195 : decode cX4_join 195 = .ok (.iload 6, 2) := dk_21 6 (dk_at dksX4_join_8 8 rfl rfl)
theorem dX4_join_197 : decode cX4_join 197 = .ok (.iconst 2, 1) := dk_5 (dk_at dksX4_join_8 10 rfl rfl)
theorem dX4_join_198 : decode cX4_join 198 = .ok (.irem, 1) := dk_112 (dk_at dksX4_join_8 11 rfl rfl)
theorem dX4_join_199 : decode cX4_join 199 = .ok (.iload 10, 2) := dk_21 10 (dk_at dksX4_join_8 12 rfl rfl)
theorem dX4_join_201 : decode cX4_join 201 = .ok (.invokevirtual 166, 3) := dk_182 0 166 (dk_at dksX4_join_8 14 rfl rfl)
theorem dX4_join_204 : decode cX4_join 204 = .ok (.iload 7, 2) := dk_21 7 (dk_at dksX4_join_8 17 rfl rfl)
theorem dX4_join_206 : decode cX4_join 206 = .ok (.ifCond .ge 10, 3) := dk_156 0 10 (dk_at dksX4_join_8 19 rfl rfl)
theorem dX4_join_209 : decode cX4_join 209 = .ok (.iload 10, 2) := dk_21 10 (dk_at dksX4_join_8 22 rfl rfl)
theorem dX4_join_211 : decode cX4_join 211 = .ok (.istore 5, 2) := dk_54 5 (dk_at dksX4_join_9 0 rfl rfl)
theorem dX4_join_213 : decode cX4_join 213 = .ok (.goto 12, 3) := dk_167 0 12 (dk_at dksX4_join_9 2 rfl rfl)
theorem dX4_join_216 : decode cX4_join 216 = .ok (.aload_n 0, 1) := dk_42 (dk_at dksX4_join_9 5 rfl rfl)
theorem dX4_join_217 : decode cX4_join 217 = .ok (.getfield 16, 3) := dk_180 0 16 (dk_at dksX4_join_9 6 rfl rfl)
theorem dX4_join_220 : decode cX4_join 220 = .ok (.iload 7, 2) := dk_21 7 (dk_at dksX4_join_9 9 rfl rfl)
theorem dX4_join_222 : decode cX4_join 222 = .ok (.iload 10, 2) := dk_21 10 (dk_at dksX4_join_9 11 rfl rfl)
theorem dX4_join_224 : decode cX4_join 224 = .ok (.iastore, 1) := dk_79 (dk_at dksX4_join_9 13 rfl rfl)
theorem dX4_join_225 : decode cX4_join 225 = .ok (.goto (-149), 3) := dk_167 255 107 (dk_at dksX4_join_9 14 rfl rfl)
theorem dX4_join_228 : decode cX4_join 228 = .ok (.iload 4, 2) := dk_21 4 (dk_at dksX4_join_9 17 rfl rfl)
theorem dX4_join_230 : decode cX4_join 230 = .ok (.aload_n 0, 1) := dk_42 (dk_at dksX4_join_9 19 rfl rfl)
theorem dX4_join_231 : decode cX4_join 231 = .ok (.getfield 116, 3) := dk_180 0 116 (dk_at dksX4_join_9 20 rfl rfl)
theorem dX4_join_234 : decode cX4_join 234 = .ok (.if_icmp .le 14, 3) := dk_164 0 14 (dk_at dksX4_join_10 0 rfl rfl)
theorem dX4_join_237 : decode cX4_join 237 = .ok (.aload_n 0, 1) := dk_42 (dk_at dksX4_join_10 3 rfl rfl)
theorem dX4_join_238 : decode cX4_join 238 = .ok (.iload 4, 2) := dk_21 4 (dk_at dksX4_join_10 4 rfl rfl)
theorem dX4_join_240 : decode cX4_join 240 = .ok (.putfield 116, 3) := dk_181 0 116 (dk_at dksX4_join_10 6 rfl rfl)
theorem dX4_join_243 : decode cX4_join 243 = .ok (.aload_n 0, 1) := dk_42 (dk_at dksX4_join_10 9 rfl rfl)
theorem dX4_join_244 : decode cX4_join 244 = .ok (.iconst 0, 1) := dk_3 (dk_at dksX4_join_10 10 rfl rfl)
theorem dX4_join_245 : decode cX4_join 245 = .ok (.putfield 119, 3) := dk_181 0 119 (dk_at dksX4_join_10 11 rfl rfl)
theorem dX4_join_248 : decode cX4_join 248 = .ok (.iload 5, 2) := dk_21 5 (dk_at dksX4_join_10 14 rfl rfl)
theorem dX4_join_250 : decode cX4_join 250 = .ok (.ireturn, 1) := dk_172 (dk_at dksX4_join_10 16 rfl rfl)
abbrev cX4_waitFor : ByteArray := prog_6_method_28_code
def yX4_waitFor : MethodName := ⟨RX4, "waitFor", "(IIII)V"⟩
def dkwX4_waitFor_1 : List UInt8 := [180, 0, 157, 21, 4, 79, 42, 89, 180, 0, 157, 4, 96, 181, 0, 157, 177]
abbrev dktX4_waitFor_1 : List UInt8 := dkwX4_waitFor_1 ++ []
def dkwX4_waitFor_0 : List UInt8 := [42, 180, 0, 53, 42, 180, 0, 157, 5, 16, 60, 27, 104, 28, 96, 104, 29, 96, 79, 42, 180, 0, 56, 42]
abbrev dktX4_waitFor_0 : List UInt8 := dkwX4_waitFor_0 ++ dktX4_waitFor_1
theorem dksX4_waitFor_0 : cX4_waitFor.data.toList.drop 0 = dktX4_waitFor_0 := by decide +kernel
theorem dksX4_waitFor_1 : cX4_waitFor.data.toList.drop 24 = dktX4_waitFor_1 := dk_seg dksX4_waitFor_0 24 rfl rfl
theorem dX4_waitFor_0 : decode cX4_waitFor 0 = .ok (.aload_n 0, 1) := dk_42 (dk_at dksX4_waitFor_0 0 rfl rfl)
theorem dX4_waitFor_1 : decode cX4_waitFor 1 = .ok (.getfield 53, 3) := dk_180 0 53 (dk_at dksX4_waitFor_0 1 rfl rfl)
theorem dX4_waitFor_4 : decode cX4_waitFor 4 = .ok (.aload_n 0, 1) := dk_42 (dk_at dksX4_waitFor_0 4 rfl rfl)
theorem dX4_waitFor_5 : decode cX4_waitFor 5 = .ok (.getfield 157, 3) := dk_180 0 157 (dk_at dksX4_waitFor_0 5 rfl rfl)
theorem dX4_waitFor_8 : decode cX4_waitFor 8 = .ok (.iconst 2, 1) := dk_5 (dk_at dksX4_waitFor_0 8 rfl rfl)
theorem dX4_waitFor_9 : decode cX4_waitFor 9 = .ok (.bipush 60, 2) := dk_16 60 (dk_at dksX4_waitFor_0 9 rfl rfl)
theorem dX4_waitFor_11 : decode cX4_waitFor 11 = .ok (.iload_n 1, 1) := dk_27 (dk_at dksX4_waitFor_0 11 rfl rfl)
theorem dX4_waitFor_12 : decode cX4_waitFor 12 = .ok (.imul, 1) := dk_104 (dk_at dksX4_waitFor_0 12 rfl rfl)
theorem dX4_waitFor_13 : decode cX4_waitFor 13 = .ok (.iload_n 2, 1) := dk_28 (dk_at dksX4_waitFor_0 13 rfl rfl)
theorem dX4_waitFor_14 : decode cX4_waitFor 14 = .ok (.iadd, 1) := dk_96 (dk_at dksX4_waitFor_0 14 rfl rfl)
theorem dX4_waitFor_15 : decode cX4_waitFor 15 = .ok (.imul, 1) := dk_104 (dk_at dksX4_waitFor_0 15 rfl rfl)
theorem dX4_waitFor_16 : decode cX4_waitFor 16 = .ok (.iload_n 3, 1) := dk_29 (dk_at dksX4_waitFor_0 16 rfl rfl)
theorem dX4_waitFor_17 : decode cX4_waitFor 17 = .ok (.iadd, 1) := dk_96 (dk_at dksX4_waitFor_0 17 rfl rfl)
theorem dX4_waitFor_18 : decode cX4_waitFor 18 = .ok (.iastore, 1) := dk_79 (dk_at dksX4_waitFor_0 18 rfl rfl)
theorem dX4_waitFor_19 : decode cX4_waitFor 19 = .ok (.aload_n 0, 1) := dk_42 (dk_at dksX4_waitFor_0 19 rfl rfl)
theorem dX4_waitFor_20 : decode cX4_waitFor 20 = .ok (.getfield 56, 3) := dk_180 0 56 (dk_at dksX4_waitFor_0 20 rfl rfl)
theorem dX4_waitFor_23 : decode cX4_waitFor 23 = .ok (.aload_n 0, 1) := dk_42 (dk_at dksX4_waitFor_0 23 rfl rfl)
theorem dX4_waitFor_24 : decode cX4_waitFor 24 = .ok (.getfield 157, 3) := dk_180 0 157 (dk_at dksX4_waitFor_1 0 rfl rfl)
theorem dX4_waitFor_27 : decode cX4_waitFor 27 = .ok (.iload 4, 2) := dk_21 4 (dk_at dksX4_waitFor_1 3 rfl rfl)
theorem dX4_waitFor_29 : decode cX4_waitFor 29 = .ok (.iastore, 1) := dk_79 (dk_at dksX4_waitFor_1 5 rfl rfl)
theorem dX4_waitFor_30 : decode cX4_waitFor 30 = .ok (.aload_n 0, 1) := dk_42 (dk_at dksX4_waitFor_1 6 rfl rfl)
theorem dX4_waitFor_31 : decode cX4_waitFor 31 = .ok (.dup, 1) := dk_89 (dk_at dksX4_waitFor_1 7 rfl rfl)
theorem dX4_waitFor_32 : decode cX4_waitFor 32 = .ok (.getfield 157, 3) := dk_180 0 157 (dk_at dksX4_waitFor_1 8 rfl rfl)
theorem dX4_waitFor_35 : decode cX4_waitFor 35 = .ok (.iconst 1, 1) := dk_4 (dk_at dksX4_waitFor_1 11 rfl rfl)
theorem dX4_waitFor_36 : decode cX4_waitFor 36 = .ok (.iadd, 1) := dk_96 (dk_at dksX4_waitFor_1 12 rfl rfl)
theorem dX4_waitFor_37 : decode cX4_waitFor 37 = .ok (.putfield 157, 3) := dk_181 0 157 (dk_at dksX4_waitFor_1 13 rfl rfl)
theorem dX4_waitFor_40 : decode cX4_waitFor 40 = .ok (.return_, 1) := dk_177 (dk_at dksX4_waitFor_1 16 rfl rfl)
abbrev cX4_plain : ByteArray := prog_6_method_27_code
def yX4_plain : MethodName := ⟨RX4, "plain", "(III)I"⟩
def dkwX4_plain_3 : List UInt8 := [28, 167, 0, 5, 16, 250, 172]
abbrev dktX4_plain_3 : List UInt8 := dkwX4_plain_3 ++ []
def dkwX4_plain_2 : List UInt8 := [154, 0, 7, 28, 167, 0, 26, 27, 167, 0, 22, 21, 5, 153, 0, 15, 29, 154, 0, 7, 27, 167, 0, 9]
abbrev dktX4_plain_2 : List UInt8 := dkwX4_plain_2 ++ dktX4_plain_3
def dkwX4_plain_1 : List UInt8 := [54, 5, 21, 4, 153, 0, 12, 21, 5, 153, 0, 7, 27, 167, 0, 39, 21, 4, 153, 0, 15, 29]
abbrev dktX4_plain_1 : List UInt8 := dkwX4_plain_1 ++ dktX4_plain_2
def dkwX4_plain_0 : List UInt8 := [42, 180, 0, 40, 16, 60, 27, 104, 28, 96, 51, 54, 4, 42, 180, 0, 40, 16, 60, 28, 104, 27, 96, 51]
abbrev dktX4_plain_0 : List UInt8 := dkwX4_plain_0 ++ dktX4_plain_1
theorem dksX4_plain_0 : cX4_plain.data.toList.drop 0 = dktX4_plain_0 := by decide +kernel
theorem dksX4_plain_1 : cX4_plain.data.toList.drop 24 = dktX4_plain_1 := dk_seg dksX4_plain_0 24 rfl rfl
theorem dksX4_plain_2 : cX4_plain.data.toList.drop 46 = dktX4_plain_2 := dk_seg dksX4_plain_1 22 rfl rfl
theorem dksX4_plain_3 : cX4_plain.data.toList.drop 70 = dktX4_plain_3 := dk_seg dksX4_plain_2 24 rfl rfl
theorem dX4_plain_0 : decode cX4_plain 0 = .ok (.aload_n 0, 1) := dk_42 (dk_at dksX4_plain_0 0 rfl rfl)
theorem dX4_plain_1 : decode cX4_plain 1 = .ok (.getfield 40, 3) := dk_180 0 40 (dk_at dksX4_plain_0 1 rfl rfl)
theorem dX4_plain_4 : decode cX4_plain 4 = .ok (.bipush 60, 2) := dk_16 60 (dk_at dksX4_plain_0 4 rfl rfl)
theorem dX4_plain_6 : decode cX4_plain 6 = .ok (.iload_n 1, 1) := dk_27 (dk_at dksX4_plain_0 6 rfl rfl)
theorem dX4_plain_7 : decode cX4_plain 7 = .ok (.imul, 1) := dk_104 (dk_at dksX4_plain_0 7 rfl rfl)
theorem dX4_plain_8 : decode cX4_plain 8 = .ok (.iload_n 2, 1) := dk_28 (dk_at dksX4_plain_0 8 rfl rfl)
theorem dX4_plain_9 : decode cX4_plain 9 = .ok (.iadd, 1) := dk_96 (dk_at dksX4_plain_0 9 rfl rfl)
theorem dX4_plain_10 : decode cX4_plain 10 = .ok (.baload, 1) := dk_51 (dk_at dksX4_plain_0 10 rfl rfl)
theorem dX4_plain_11 : decode cX4_plain 11 = .ok (.istore 4, 2) := dk_54 4 (dk_at dksX4_plain_0 11 rfl rfl)
theorem dX4_plain_13 : decode cX4_plain 13 = .ok (.aload_n 0, 1) := dk_42 (dk_at dksX4_plain_0 13 rfl rfl)
theorem dX4_plain_14 : decode cX4_plain 14 = .ok (.getfield 40, 3) := dk_180 0 40 (dk_at dksX4_plain_0 14 rfl rfl)
theorem dX4_plain_17 : decode cX4_plain 17 = .ok (.bipush 60, 2) := dk_16 60 (dk_at dksX4_plain_0 17 rfl rfl)
theorem dX4_plain_19 : decode cX4_plain 19 = .ok (.iload_n 2, 1) := dk_28 (dk_at dksX4_plain_0 19 rfl rfl)
theorem dX4_plain_20 : decode cX4_plain 20 = .ok (.imul, 1) := dk_104 (dk_at dksX4_plain_0 20 rfl rfl)
theorem dX4_plain_21 : decode cX4_plain 21 = .ok (.iload_n 1, 1) := dk_27 (dk_at dksX4_plain_0 21 rfl rfl)
theorem dX4_plain_22 : decode cX4_plain 22 = .ok (.iadd, 1) := dk_96 (dk_at dksX4_plain_0 22 rfl rfl)
theorem dX4_plain_23 : decode cX4_plain 23 = .ok (.baload, 1) := dk_51 (dk_at dksX4_plain_0 23 rfl rfl)
theorem dX4_plain_24 : decode cX4_plain 24 = .ok (.istore 5, 2) := dk_54 5 (dk_at dksX4_plain_1 0 rfl rfl)
theorem dX4_plain_26 : decode cX4_plain 26 = .ok (.iload 4, 2) := dk_21 4 (dk_at dksX4_plain_1 2 rfl rfl)
theorem dX4_plain_28 : decode cX4_plain 28 = .ok (.ifCond .eq 12, 3) := dk_153 0 12 (dk_at dksX4_plain_1 4 rfl rfl)
theorem dX4_plain_31 : decode cX4_plain 31 = .ok (.iload 5, 2) := dk_21 5 (dk_at dksX4_plain_1 7 rfl rfl)
theorem dX4_plain_33 : decode cX4_plain 33 = .ok (.ifCond .eq 7, 3) := dk_153 0 7 (dk_at dksX4_plain_1 9 rfl rfl)
theorem dX4_plain_36 : decode cX4_plain 36 = .ok (.iload_n 1, 1) := dk_27 (dk_at dksX4_plain_1 12 rfl rfl)
theorem dX4_plain_37 : decode cX4_plain 37 = .ok (.goto 39, 3) := dk_167 0 39 (dk_at dksX4_plain_1 13 rfl rfl)
theorem dX4_plain_40 : decode cX4_plain 40 = .ok (.iload 4, 2) := dk_21 4 (dk_at dksX4_plain_1 16 rfl rfl)
theorem dX4_plain_42 : decode cX4_plain 42 = .ok (.ifCond .eq 15, 3) := dk_153 0 15 (dk_at dksX4_plain_1 18 rfl rfl)
theorem dX4_plain_45 : decode cX4_plain 45 = .ok (.iload_n 3, 1) := dk_29 (dk_at dksX4_plain_1 21 rfl rfl)
theorem dX4_plain_46 : decode cX4_plain 46 = .ok (.ifCond .ne 7, 3) := dk_154 0 7 (dk_at dksX4_plain_2 0 rfl rfl)
theorem dX4_plain_49 : decode cX4_plain 49 = .ok (.iload_n 2, 1) := dk_28 (dk_at dksX4_plain_2 3 rfl rfl)
theorem dX4_plain_50 : decode cX4_plain 50 = .ok (.goto 26, 3) := dk_167 0 26 (dk_at dksX4_plain_2 4 rfl rfl)
theorem dX4_plain_53 : decode cX4_plain 53 = .ok (.iload_n 1, 1) := dk_27 (dk_at dksX4_plain_2 7 rfl rfl)
theorem dX4_plain_54 : decode cX4_plain 54 = .ok (.goto 22, 3) := dk_167 0 22 (dk_at dksX4_plain_2 8 rfl rfl)
theorem dX4_plain_57 : decode cX4_plain 57 = .ok (.iload 5, 2) := dk_21 5 (dk_at dksX4_plain_2 11 rfl rfl)
theorem dX4_plain_59 : decode cX4_plain 59 = .ok (.ifCond .eq 15, 3) := dk_153 0 15 (dk_at dksX4_plain_2 13 rfl rfl)
theorem dX4_plain_62 : decode cX4_plain 62 = .ok (.iload_n 3, 1) := dk_29 (dk_at dksX4_plain_2 16 rfl rfl)
theorem dX4_plain_63 : decode cX4_plain 63 = .ok (.ifCond .ne 7, 3) := dk_154 0 7 (dk_at dksX4_plain_2 17 rfl rfl)
theorem dX4_plain_66 : decode cX4_plain 66 = .ok (.iload_n 1, 1) := dk_27 (dk_at dksX4_plain_2 20 rfl rfl)
theorem dX4_plain_67 : decode cX4_plain 67 = .ok (.goto 9, 3) := dk_167 0 9 (dk_at dksX4_plain_2 21 rfl rfl)
theorem dX4_plain_70 : decode cX4_plain 70 = .ok (.iload_n 2, 1) := dk_28 (dk_at dksX4_plain_3 0 rfl rfl)
theorem dX4_plain_71 : decode cX4_plain 71 = .ok (.goto 5, 3) := dk_167 0 5 (dk_at dksX4_plain_3 1 rfl rfl)
theorem dX4_plain_74 : decode cX4_plain 74 = .ok (.bipush (-6), 2) := dk_16 250 (dk_at dksX4_plain_3 4 rfl rfl)
theorem dX4_plain_76 : decode cX4_plain 76 = .ok (.ireturn, 1) := dk_172 (dk_at dksX4_plain_3 6 rfl rfl)
abbrev cX4_shape : ByteArray := prog_6_method_29_code
def yX4_shape : MethodName := ⟨RX4, "shape", "(IIII)V"⟩
def dkwX4_shape_15 : List UInt8 := [21, 9, 155, 0, 8, 21, 9, 167, 0, 5, 21, 10, 79, 132, 8, 255, 167, 255, 160, 177]
abbrev dktX4_shape_15 : List UInt8 := dkwX4_shape_15 ++ []
def dkwX4_shape_14 : List UInt8 := [182, 0, 160, 167, 0, 33, 21, 7, 153, 0, 28, 42, 180, 0, 16, 16, 8, 21, 4, 104, 21, 8, 96]
abbrev dktX4_shape_14 : List UInt8 := dkwX4_shape_14 ++ dktX4_shape_15
def dkwX4_shape_13 : List UInt8 := [21, 9, 155, 0, 28, 21, 10, 155, 0, 23, 42, 21, 9, 21, 10, 29, 16, 8, 21, 4, 104, 21, 8, 96]
abbrev dktX4_shape_13 : List UInt8 := dkwX4_shape_13 ++ dktX4_shape_14
def dkwX4_shape_12 : List UInt8 := [16, 8, 27, 104, 21, 8, 96, 46, 54, 9, 42, 180, 0, 16, 16, 8, 28, 104, 21, 8, 96, 46, 54, 10]
abbrev dktX4_shape_12 : List UInt8 := dkwX4_shape_12 ++ dktX4_shape_13
def dkwX4_shape_11 : List UInt8 := [160, 0, 7, 4, 167, 0, 4, 3, 54, 7, 16, 7, 54, 8, 21, 8, 155, 0, 97, 42, 180, 0, 16]
abbrev dktX4_shape_11 : List UInt8 := dkwX4_shape_11 ++ dktX4_shape_12
def dkwX4_shape_10 : List UInt8 := [153, 0, 137, 21, 5, 16, 91, 160, 0, 7, 4, 167, 0, 4, 3, 29, 154, 0, 7, 4, 167, 0, 4, 3]
abbrev dktX4_shape_10 : List UInt8 := dkwX4_shape_10 ++ dktX4_shape_11
def dkwX4_shape_9 : List UInt8 := [180, 0, 16, 16, 8, 28, 104, 46, 4, 29, 100, 16, 8, 21, 4, 104, 182, 0, 160, 167, 0, 142, 21, 6]
abbrev dktX4_shape_9 : List UInt8 := dkwX4_shape_9 ++ dktX4_shape_10
def dkwX4_shape_8 : List UInt8 := [96, 46, 29, 16, 8, 21, 4, 104, 4, 96, 182, 0, 160, 42, 42, 180, 0, 16, 16, 8, 27, 104, 46, 42]
abbrev dktX4_shape_8 : List UInt8 := dkwX4_shape_8 ++ dktX4_shape_9
def dkwX4_shape_7 : List UInt8 := [160, 0, 70, 42, 42, 180, 0, 16, 16, 8, 27, 104, 4, 96, 46, 42, 180, 0, 16, 16, 8, 28, 104, 4]
abbrev dktX4_shape_7 : List UInt8 := dkwX4_shape_7 ++ dktX4_shape_8
def dkwX4_shape_6 : List UInt8 := [180, 0, 16, 16, 8, 28, 104, 46, 29, 16, 8, 21, 4, 104, 182, 0, 160, 167, 0, 216, 21, 5, 16, 62]
abbrev dktX4_shape_6 : List UInt8 := dkwX4_shape_6 ++ dktX4_shape_7
def dkwX4_shape_5 : List UInt8 := [132, 7, 1, 167, 255, 231, 21, 5, 16, 42, 160, 0, 34, 42, 42, 180, 0, 16, 16, 8, 27, 104, 46, 42]
abbrev dktX4_shape_5 : List UInt8 := dkwX4_shape_5 ++ dktX4_shape_6
def dkwX4_shape_4 : List UInt8 := [21, 7, 16, 8, 162, 0, 24, 42, 180, 0, 16, 16, 8, 21, 4, 104, 21, 7, 96, 16, 250, 79]
abbrev dktX4_shape_4 : List UInt8 := dkwX4_shape_4 ++ dktX4_shape_5
def dkwX4_shape_3 : List UInt8 := [153, 0, 8, 21, 5, 167, 0, 14, 29, 154, 0, 8, 16, 46, 167, 0, 5, 16, 33, 79, 3, 54, 7]
abbrev dktX4_shape_3 : List UInt8 := dkwX4_shape_3 ++ dktX4_shape_4
def dkwX4_shape_2 : List UInt8 := [21, 5, 16, 62, 160, 0, 7, 4, 167, 0, 4, 3, 54, 6, 42, 180, 0, 13, 21, 4, 21, 6]
abbrev dktX4_shape_2 : List UInt8 := dkwX4_shape_2 ++ dktX4_shape_3
def dkwX4_shape_1 : List UInt8 := [3, 54, 5, 21, 5, 16, 123, 159, 0, 24, 21, 5, 16, 91, 159, 0, 17, 21, 5, 16, 42, 159, 0, 10]
abbrev dktX4_shape_1 : List UInt8 := dkwX4_shape_1 ++ dktX4_shape_2
def dkwX4_shape_0 : List UInt8 := [42, 180, 0, 13, 27, 46, 42, 180, 0, 13, 28, 46, 160, 0, 12, 42, 180, 0, 13, 27, 46, 167, 0, 4]
abbrev dktX4_shape_0 : List UInt8 := dkwX4_shape_0 ++ dktX4_shape_1
theorem dksX4_shape_0 : cX4_shape.data.toList.drop 0 = dktX4_shape_0 := by decide +kernel
theorem dksX4_shape_1 : cX4_shape.data.toList.drop 24 = dktX4_shape_1 := dk_seg dksX4_shape_0 24 rfl rfl
theorem dksX4_shape_2 : cX4_shape.data.toList.drop 48 = dktX4_shape_2 := dk_seg dksX4_shape_1 24 rfl rfl
theorem dksX4_shape_3 : cX4_shape.data.toList.drop 70 = dktX4_shape_3 := dk_seg dksX4_shape_2 22 rfl rfl
theorem dksX4_shape_4 : cX4_shape.data.toList.drop 93 = dktX4_shape_4 := dk_seg dksX4_shape_3 23 rfl rfl
theorem dksX4_shape_5 : cX4_shape.data.toList.drop 115 = dktX4_shape_5 := dk_seg dksX4_shape_4 22 rfl rfl
theorem dksX4_shape_6 : cX4_shape.data.toList.drop 139 = dktX4_shape_6 := dk_seg dksX4_shape_5 24 rfl rfl
theorem dksX4_shape_7 : cX4_shape.data.toList.drop 163 = dktX4_shape_7 := dk_seg dksX4_shape_6 24 rfl rfl
theorem dksX4_shape_8 : cX4_shape.data.toList.drop 187 = dktX4_shape_8 := dk_seg dksX4_shape_7 24 rfl rfl
theorem dksX4_shape_9 : cX4_shape.data.toList.drop 211 = dktX4_shape_9 := dk_seg dksX4_shape_8 24 rfl rfl
theorem dksX4_shape_10 : cX4_shape.data.toList.drop 235 = dktX4_shape_10 := dk_seg dksX4_shape_9 24 rfl rfl
theorem dksX4_shape_11 : cX4_shape.data.toList.drop 259 = dktX4_shape_11 := dk_seg dksX4_shape_10 24 rfl rfl
theorem dksX4_shape_12 : cX4_shape.data.toList.drop 282 = dktX4_shape_12 := dk_seg dksX4_shape_11 23 rfl rfl
theorem dksX4_shape_13 : cX4_shape.data.toList.drop 306 = dktX4_shape_13 := dk_seg dksX4_shape_12 24 rfl rfl
theorem dksX4_shape_14 : cX4_shape.data.toList.drop 330 = dktX4_shape_14 := dk_seg dksX4_shape_13 24 rfl rfl
theorem dksX4_shape_15 : cX4_shape.data.toList.drop 353 = dktX4_shape_15 := dk_seg dksX4_shape_14 23 rfl rfl
theorem dX4_shape_0 : decode cX4_shape 0 = .ok (.aload_n 0, 1) := dk_42 (dk_at dksX4_shape_0 0 rfl rfl)
theorem dX4_shape_1 : decode cX4_shape 1 = .ok (.getfield 13, 3) := dk_180 0 13 (dk_at dksX4_shape_0 1 rfl rfl)
theorem dX4_shape_4 : decode cX4_shape 4 = .ok (.iload_n 1, 1) := dk_27 (dk_at dksX4_shape_0 4 rfl rfl)
theorem dX4_shape_5 : decode cX4_shape 5 = .ok (.iaload, 1) := dk_46 (dk_at dksX4_shape_0 5 rfl rfl)
theorem dX4_shape_6 : decode cX4_shape 6 = .ok (.aload_n 0, 1) := dk_42 (dk_at dksX4_shape_0 6 rfl rfl)
theorem dX4_shape_7 : decode cX4_shape 7 = .ok (.getfield 13, 3) := dk_180 0 13 (dk_at dksX4_shape_0 7 rfl rfl)
theorem dX4_shape_10 : decode cX4_shape 10 = .ok (.iload_n 2, 1) := dk_28 (dk_at dksX4_shape_0 10 rfl rfl)
theorem dX4_shape_11 : decode cX4_shape 11 = .ok (.iaload, 1) := dk_46 (dk_at dksX4_shape_0 11 rfl rfl)
theorem dX4_shape_12 : decode cX4_shape 12 = .ok (.if_icmp .ne 12, 3) := dk_160 0 12 (dk_at dksX4_shape_0 12 rfl rfl)
theorem dX4_shape_15 : decode cX4_shape 15 = .ok (.aload_n 0, 1) := dk_42 (dk_at dksX4_shape_0 15 rfl rfl)
theorem dX4_shape_16 : decode cX4_shape 16 = .ok (.getfield 13, 3) := dk_180 0 13 (dk_at dksX4_shape_0 16 rfl rfl)
theorem dX4_shape_19 : decode cX4_shape 19 = .ok (.iload_n 1, 1) := dk_27 (dk_at dksX4_shape_0 19 rfl rfl)
theorem dX4_shape_20 : decode cX4_shape 20 = .ok (.iaload, 1) := dk_46 (dk_at dksX4_shape_0 20 rfl rfl)
theorem dX4_shape_21 : decode cX4_shape 21 = .ok (.goto 4, 3) := dk_167 0 4 (dk_at dksX4_shape_0 21 rfl rfl)
theorem dX4_shape_24 : decode cX4_shape 24 = .ok (.iconst 0, 1) := dk_3 (dk_at dksX4_shape_1 0 rfl rfl)
theorem dX4_shape_25 : decode cX4_shape 25 = .ok (.istore 5, 2) := dk_54 5 (dk_at dksX4_shape_1 1 rfl rfl)
theorem dX4_shape_27 : decode cX4_shape 27 = .ok (.iload 5, 2) := dk_21 5 (dk_at dksX4_shape_1 3 rfl rfl)
theorem dX4_shape_29 : decode cX4_shape 29 = .ok (.bipush 123, 2) := dk_16 123 (dk_at dksX4_shape_1 5 rfl rfl)
theorem dX4_shape_31 : decode cX4_shape 31 = .ok (.if_icmp .eq 24, 3) := dk_159 0 24 (dk_at dksX4_shape_1 7 rfl rfl)
theorem dX4_shape_34 : decode cX4_shape 34 = .ok (.iload 5, 2) := dk_21 5 (dk_at dksX4_shape_1 10 rfl rfl)
theorem dX4_shape_36 : decode cX4_shape 36 = .ok (.bipush 91, 2) := dk_16 91 (dk_at dksX4_shape_1 12 rfl rfl)
theorem dX4_shape_38 : decode cX4_shape 38 = .ok (.if_icmp .eq 17, 3) := dk_159 0 17 (dk_at dksX4_shape_1 14 rfl rfl)
theorem dX4_shape_41 : decode cX4_shape 41 = .ok (.iload 5, 2) := dk_21 5 (dk_at dksX4_shape_1 17 rfl rfl)
theorem dX4_shape_43 : decode cX4_shape 43 = .ok (.bipush 42, 2) := dk_16 42 (dk_at dksX4_shape_1 19 rfl rfl)
theorem dX4_shape_45 : decode cX4_shape 45 = .ok (.if_icmp .eq 10, 3) := dk_159 0 10 (dk_at dksX4_shape_1 21 rfl rfl)
theorem dX4_shape_48 : decode cX4_shape 48 = .ok (.iload 5, 2) := dk_21 5 (dk_at dksX4_shape_2 0 rfl rfl)
theorem dX4_shape_50 : decode cX4_shape 50 = .ok (.bipush 62, 2) := dk_16 62 (dk_at dksX4_shape_2 2 rfl rfl)
theorem dX4_shape_52 : decode cX4_shape 52 = .ok (.if_icmp .ne 7, 3) := dk_160 0 7 (dk_at dksX4_shape_2 4 rfl rfl)
theorem dX4_shape_55 : decode cX4_shape 55 = .ok (.iconst 1, 1) := dk_4 (dk_at dksX4_shape_2 7 rfl rfl)
theorem dX4_shape_56 : decode cX4_shape 56 = .ok (.goto 4, 3) := dk_167 0 4 (dk_at dksX4_shape_2 8 rfl rfl)
theorem dX4_shape_59 : decode cX4_shape 59 = .ok (.iconst 0, 1) := dk_3 (dk_at dksX4_shape_2 11 rfl rfl)
theorem dX4_shape_60 : decode cX4_shape 60 = .ok (.istore 6, 2) := dk_54 6 (dk_at dksX4_shape_2 12 rfl rfl)
theorem dX4_shape_62 : decode cX4_shape 62 = .ok (.aload_n 0, 1) := dk_42 (dk_at dksX4_shape_2 14 rfl rfl)
theorem dX4_shape_63 : decode cX4_shape 63 = .ok (.getfield 13, 3) := dk_180 0 13 (dk_at dksX4_shape_2 15 rfl rfl)
theorem dX4_shape_66 : decode cX4_shape 66 = .ok (.iload 4, 2) := dk_21 4 (dk_at dksX4_shape_2 18 rfl rfl)
theorem dX4_shape_68 : decode cX4_shape 68 = .ok (.iload 6, 2) := dk_21 6 (dk_at dksX4_shape_2 20 rfl rfl)
theorem dX4_shape_70 : decode cX4_shape 70 = .ok (.ifCond .eq 8, 3) := dk_153 0 8 (dk_at dksX4_shape_3 0 rfl rfl)
theorem dX4_shape_73 : decode cX4_shape 73 = .ok (.iload 5, 2) := dk_21 5 (dk_at dksX4_shape_3 3 rfl rfl)
theorem dX4_shape_75 : decode cX4_shape 75 = .ok (.goto 14, 3) := dk_167 0 14 (dk_at dksX4_shape_3 5 rfl rfl)
theorem dX4_shape_78 : decode cX4_shape 78 = .ok (.iload_n 3, 1) := dk_29 (dk_at dksX4_shape_3 8 rfl rfl)
theorem dX4_shape_79 : decode cX4_shape 79 = .ok (.ifCond .ne 8, 3) := dk_154 0 8 (dk_at dksX4_shape_3 9 rfl rfl)
theorem dX4_shape_82 : decode cX4_shape 82 = .ok (.bipush 46, 2) := dk_16 46 (dk_at dksX4_shape_3 12 rfl rfl)
theorem dX4_shape_84 : decode cX4_shape 84 = .ok (.goto 5, 3) := dk_167 0 5 (dk_at dksX4_shape_3 14 rfl rfl)
theorem dX4_shape_87 : decode cX4_shape 87 = .ok (.bipush 33, 2) := dk_16 33 (dk_at dksX4_shape_3 17 rfl rfl)
theorem dX4_shape_89 : decode cX4_shape 89 = .ok (.iastore, 1) := dk_79 (dk_at dksX4_shape_3 19 rfl rfl)
theorem dX4_shape_90 : decode cX4_shape 90 = .ok (.iconst 0, 1) := dk_3 (dk_at dksX4_shape_3 20 rfl rfl)
theorem dX4_shape_91 : decode cX4_shape 91 = .ok (.istore 7, 2) := dk_54 7 (dk_at dksX4_shape_3 21 rfl rfl)
theorem dX4_shape_93 : decode cX4_shape 93 = .ok (.iload 7, 2) := dk_21 7 (dk_at dksX4_shape_4 0 rfl rfl)
theorem dX4_shape_95 : decode cX4_shape 95 = .ok (.bipush 8, 2) := dk_16 8 (dk_at dksX4_shape_4 2 rfl rfl)
theorem dX4_shape_97 : decode cX4_shape 97 = .ok (.if_icmp .ge 24, 3) := dk_162 0 24 (dk_at dksX4_shape_4 4 rfl rfl)
theorem dX4_shape_100 : decode cX4_shape 100 = .ok (.aload_n 0, 1) := dk_42 (dk_at dksX4_shape_4 7 rfl rfl)
theorem dX4_shape_101 : decode cX4_shape 101 = .ok (.getfield 16, 3) := dk_180 0 16 (dk_at dksX4_shape_4 8 rfl rfl)
theorem dX4_shape_104 : decode cX4_shape 104 = .ok (.bipush 8, 2) := dk_16 8 (dk_at dksX4_shape_4 11 rfl rfl)
theorem dX4_shape_106 : decode cX4_shape 106 = .ok (.iload 4, 2) := dk_21 4 (dk_at dksX4_shape_4 13 rfl rfl)
theorem dX4_shape_108 : decode cX4_shape 108 = .ok (.imul, 1) := dk_104 (dk_at dksX4_shape_4 15 rfl rfl)
theorem dX4_shape_109 : decode cX4_shape 109 = .ok (.iload 7, 2) := dk_21 7 (dk_at dksX4_shape_4 16 rfl rfl)
theorem dX4_shape_111 : decode cX4_shape 111 = .ok (.iadd, 1) := dk_96 (dk_at dksX4_shape_4 18 rfl rfl)
theorem dX4_shape_112 : decode cX4_shape 112 = .ok (.bipush (-6), 2) := dk_16 250 (dk_at dksX4_shape_4 19 rfl rfl)
theorem dX4_shape_114 : decode cX4_shape 114 = .ok (.iastore, 1) := dk_79 (dk_at dksX4_shape_4 21 rfl rfl)
theorem dX4_shape_115 : decode cX4_shape 115 = .ok (.iinc 7 1, 3) := dk_132 7 1 (dk_at dksX4_shape_5 0 rfl rfl)
theorem dX4_shape_118 : decode cX4_shape 118 = .ok (.goto (-25), 3) := dk_167 255 231 (dk_at dksX4_shape_5 3 rfl rfl)
theorem dX4_shape_121 : decode cX4_shape 121 = .ok (.iload 5, 2) := dk_21 5 (dk_at dksX4_shape_5 6 rfl rfl)
theorem dX4_shape_123 : decode cX4_shape 123 = .ok (.bipush 42, 2) := dk_16 42 (dk_at dksX4_shape_5 8 rfl rfl)
theorem dX4_shape_125 : decode cX4_shape 125 = .ok (.if_icmp .ne 34, 3) := dk_160 0 34 (dk_at dksX4_shape_5 10 rfl rfl)
theorem dX4_shape_128 : decode cX4_shape 128 = .ok (.aload_n 0, 1) := dk_42 (dk_at dksX4_shape_5 13 rfl rfl)
theorem dX4_shape_129 : decode cX4_shape 129 = .ok (.aload_n 0, 1) := dk_42 (dk_at dksX4_shape_5 14 rfl rfl)
theorem dX4_shape_130 : decode cX4_shape 130 = .ok (.getfield 16, 3) := dk_180 0 16 (dk_at dksX4_shape_5 15 rfl rfl)
theorem dX4_shape_133 : decode cX4_shape 133 = .ok (.bipush 8, 2) := dk_16 8 (dk_at dksX4_shape_5 18 rfl rfl)
theorem dX4_shape_135 : decode cX4_shape 135 = .ok (.iload_n 1, 1) := dk_27 (dk_at dksX4_shape_5 20 rfl rfl)
theorem dX4_shape_136 : decode cX4_shape 136 = .ok (.imul, 1) := dk_104 (dk_at dksX4_shape_5 21 rfl rfl)
theorem dX4_shape_137 : decode cX4_shape 137 = .ok (.iaload, 1) := dk_46 (dk_at dksX4_shape_5 22 rfl rfl)
theorem dX4_shape_138 : decode cX4_shape 138 = .ok (.aload_n 0, 1) := dk_42 (dk_at dksX4_shape_5 23 rfl rfl)
theorem dX4_shape_139 : decode cX4_shape 139 = .ok (.getfield 16, 3) := dk_180 0 16 (dk_at dksX4_shape_6 0 rfl rfl)
theorem dX4_shape_142 : decode cX4_shape 142 = .ok (.bipush 8, 2) := dk_16 8 (dk_at dksX4_shape_6 3 rfl rfl)
theorem dX4_shape_144 : decode cX4_shape 144 = .ok (.iload_n 2, 1) := dk_28 (dk_at dksX4_shape_6 5 rfl rfl)
theorem dX4_shape_145 : decode cX4_shape 145 = .ok (.imul, 1) := dk_104 (dk_at dksX4_shape_6 6 rfl rfl)
theorem dX4_shape_146 : decode cX4_shape 146 = .ok (.iaload, 1) := dk_46 (dk_at dksX4_shape_6 7 rfl rfl)
theorem dX4_shape_147 : decode cX4_shape 147 = .ok (.iload_n 3, 1) := dk_29 (dk_at dksX4_shape_6 8 rfl rfl)
theorem dX4_shape_148 : decode cX4_shape 148 = .ok (.bipush 8, 2) := dk_16 8 (dk_at dksX4_shape_6 9 rfl rfl)
theorem dX4_shape_150 : decode cX4_shape 150 = .ok (.iload 4, 2) := dk_21 4 (dk_at dksX4_shape_6 11 rfl rfl)
theorem dX4_shape_152 : decode cX4_shape 152 = .ok (.imul, 1) := dk_104 (dk_at dksX4_shape_6 13 rfl rfl)
theorem dX4_shape_153 : decode cX4_shape 153 = .ok (.invokevirtual 160, 3) := dk_182 0 160 (dk_at dksX4_shape_6 14 rfl rfl)
theorem dX4_shape_156 : decode cX4_shape 156 = .ok (.goto 216, 3) := dk_167 0 216 (dk_at dksX4_shape_6 17 rfl rfl)
theorem dX4_shape_159 : decode cX4_shape 159 = .ok (.iload 5, 2) := dk_21 5 (dk_at dksX4_shape_6 20 rfl rfl)
theorem dX4_shape_161 : decode cX4_shape 161 = .ok (.bipush 62, 2) := dk_16 62 (dk_at dksX4_shape_6 22 rfl rfl)
theorem dX4_shape_163 : decode cX4_shape 163 = .ok (.if_icmp .ne 70, 3) := dk_160 0 70 (dk_at dksX4_shape_7 0 rfl rfl)
theorem dX4_shape_166 : decode cX4_shape 166 = .ok (.aload_n 0, 1) := dk_42 (dk_at dksX4_shape_7 3 rfl rfl)
theorem dX4_shape_167 : decode cX4_shape 167 = .ok (.aload_n 0, 1) := dk_42 (dk_at dksX4_shape_7 4 rfl rfl)
theorem dX4_shape_168 : decode cX4_shape 168 = .ok (.getfield 16, 3) := dk_180 0 16 (dk_at dksX4_shape_7 5 rfl rfl)
theorem dX4_shape_171 : decode cX4_shape 171 = .ok (.bipush 8, 2) := dk_16 8 (dk_at dksX4_shape_7 8 rfl rfl)
theorem dX4_shape_173 : decode cX4_shape 173 = .ok (.iload_n 1, 1) := dk_27 (dk_at dksX4_shape_7 10 rfl rfl)
theorem dX4_shape_174 : decode cX4_shape 174 = .ok (.imul, 1) := dk_104 (dk_at dksX4_shape_7 11 rfl rfl)
theorem dX4_shape_175 : decode cX4_shape 175 = .ok (.iconst 1, 1) := dk_4 (dk_at dksX4_shape_7 12 rfl rfl)
theorem dX4_shape_176 : decode cX4_shape 176 = .ok (.iadd, 1) := dk_96 (dk_at dksX4_shape_7 13 rfl rfl)
theorem dX4_shape_177 : decode cX4_shape 177 = .ok (.iaload, 1) := dk_46 (dk_at dksX4_shape_7 14 rfl rfl)
theorem dX4_shape_178 : decode cX4_shape 178 = .ok (.aload_n 0, 1) := dk_42 (dk_at dksX4_shape_7 15 rfl rfl)
theorem dX4_shape_179 : decode cX4_shape 179 = .ok (.getfield 16, 3) := dk_180 0 16 (dk_at dksX4_shape_7 16 rfl rfl)
theorem dX4_shape_182 : decode cX4_shape 182 = .ok (.bipush 8, 2) := dk_16 8 (dk_at dksX4_shape_7 19 rfl rfl)
theorem dX4_shape_184 : decode cX4_shape 184 = .ok (.iload_n 2, 1) := dk_28 (dk_at dksX4_shape_7 21 rfl rfl)
theorem dX4_shape_185 : decode cX4_shape 185 = .ok (.imul, 1) := dk_104 (dk_at dksX4_shape_7 22 rfl rfl)
theorem dX4_shape_186 : decode cX4_shape 186 = .ok (.iconst 1, 1) := dk_4 (dk_at dksX4_shape_7 23 rfl rfl)
theorem dX4_shape_187 : decode cX4_shape 187 = .ok (.iadd, 1) := dk_96 (dk_at dksX4_shape_8 0 rfl rfl)
theorem dX4_shape_188 : decode cX4_shape 188 = .ok (.iaload, 1) := dk_46 (dk_at dksX4_shape_8 1 rfl rfl)
theorem dX4_shape_189 : decode cX4_shape 189 = .ok (.iload_n 3, 1) := dk_29 (dk_at dksX4_shape_8 2 rfl rfl)
theorem dX4_shape_190 : decode cX4_shape 190 = .ok (.bipush 8, 2) := dk_16 8 (dk_at dksX4_shape_8 3 rfl rfl)
theorem dX4_shape_192 : decode cX4_shape 192 = .ok (.iload 4, 2) := dk_21 4 (dk_at dksX4_shape_8 5 rfl rfl)
theorem dX4_shape_194 : decode cX4_shape 194 = .ok (.imul, 1) := dk_104 (dk_at dksX4_shape_8 7 rfl rfl)
theorem dX4_shape_195 : decode cX4_shape 195 = .ok (.iconst 1, 1) := dk_4 (dk_at dksX4_shape_8 8 rfl rfl)
theorem dX4_shape_196 : decode cX4_shape 196 = .ok (.iadd, 1) := dk_96 (dk_at dksX4_shape_8 9 rfl rfl)
theorem dX4_shape_197 : decode cX4_shape 197 = .ok (.invokevirtual 160, 3) := dk_182 0 160 (dk_at dksX4_shape_8 10 rfl rfl)
theorem dX4_shape_200 : decode cX4_shape 200 = .ok (.aload_n 0, 1) := dk_42 (dk_at dksX4_shape_8 13 rfl rfl)
theorem dX4_shape_201 : decode cX4_shape 201 = .ok (.aload_n 0, 1) := dk_42 (dk_at dksX4_shape_8 14 rfl rfl)
theorem dX4_shape_202 : decode cX4_shape 202 = .ok (.getfield 16, 3) := dk_180 0 16 (dk_at dksX4_shape_8 15 rfl rfl)
theorem dX4_shape_205 : decode cX4_shape 205 = .ok (.bipush 8, 2) := dk_16 8 (dk_at dksX4_shape_8 18 rfl rfl)
theorem dX4_shape_207 : decode cX4_shape 207 = .ok (.iload_n 1, 1) := dk_27 (dk_at dksX4_shape_8 20 rfl rfl)
theorem dX4_shape_208 : decode cX4_shape 208 = .ok (.imul, 1) := dk_104 (dk_at dksX4_shape_8 21 rfl rfl)
theorem dX4_shape_209 : decode cX4_shape 209 = .ok (.iaload, 1) := dk_46 (dk_at dksX4_shape_8 22 rfl rfl)
theorem dX4_shape_210 : decode cX4_shape 210 = .ok (.aload_n 0, 1) := dk_42 (dk_at dksX4_shape_8 23 rfl rfl)
theorem dX4_shape_211 : decode cX4_shape 211 = .ok (.getfield 16, 3) := dk_180 0 16 (dk_at dksX4_shape_9 0 rfl rfl)
theorem dX4_shape_214 : decode cX4_shape 214 = .ok (.bipush 8, 2) := dk_16 8 (dk_at dksX4_shape_9 3 rfl rfl)
theorem dX4_shape_216 : decode cX4_shape 216 = .ok (.iload_n 2, 1) := dk_28 (dk_at dksX4_shape_9 5 rfl rfl)
theorem dX4_shape_217 : decode cX4_shape 217 = .ok (.imul, 1) := dk_104 (dk_at dksX4_shape_9 6 rfl rfl)
theorem dX4_shape_218 : decode cX4_shape 218 = .ok (.iaload, 1) := dk_46 (dk_at dksX4_shape_9 7 rfl rfl)
theorem dX4_shape_219 : decode cX4_shape 219 = .ok (.iconst 1, 1) := dk_4 (dk_at dksX4_shape_9 8 rfl rfl)
theorem dX4_shape_220 : decode cX4_shape 220 = .ok (.iload_n 3, 1) := dk_29 (dk_at dksX4_shape_9 9 rfl rfl)
theorem dX4_shape_221 : decode cX4_shape 221 = .ok (.isub, 1) := dk_100 (dk_at dksX4_shape_9 10 rfl rfl)
theorem dX4_shape_222 : decode cX4_shape 222 = .ok (.bipush 8, 2) := dk_16 8 (dk_at dksX4_shape_9 11 rfl rfl)
theorem dX4_shape_224 : decode cX4_shape 224 = .ok (.iload 4, 2) := dk_21 4 (dk_at dksX4_shape_9 13 rfl rfl)
theorem dX4_shape_226 : decode cX4_shape 226 = .ok (.imul, 1) := dk_104 (dk_at dksX4_shape_9 15 rfl rfl)
theorem dX4_shape_227 : decode cX4_shape 227 = .ok (.invokevirtual 160, 3) := dk_182 0 160 (dk_at dksX4_shape_9 16 rfl rfl)
theorem dX4_shape_230 : decode cX4_shape 230 = .ok (.goto 142, 3) := dk_167 0 142 (dk_at dksX4_shape_9 19 rfl rfl)
theorem dX4_shape_233 : decode cX4_shape 233 = .ok (.iload 6, 2) := dk_21 6 (dk_at dksX4_shape_9 22 rfl rfl)
theorem dX4_shape_235 : decode cX4_shape 235 = .ok (.ifCond .eq 137, 3) := dk_153 0 137 (dk_at dksX4_shape_10 0 rfl rfl)
theorem dX4_shape_238 : decode cX4_shape 238 = .ok (.iload 5, 2) := dk_21 5 (dk_at dksX4_shape_10 3 rfl rfl)
theorem dX4_shape_240 : decode cX4_shape 240 = .ok (.bipush 91, 2) := dk_16 91 (dk_at dksX4_shape_10 5 rfl rfl)
theorem dX4_shape_242 : decode cX4_shape 242 = .ok (.if_icmp .ne 7, 3) := dk_160 0 7 (dk_at dksX4_shape_10 7 rfl rfl)
theorem dX4_shape_245 : decode cX4_shape 245 = .ok (.iconst 1, 1) := dk_4 (dk_at dksX4_shape_10 10 rfl rfl)
theorem dX4_shape_246 : decode cX4_shape 246 = .ok (.goto 4, 3) := dk_167 0 4 (dk_at dksX4_shape_10 11 rfl rfl)
theorem dX4_shape_249 : decode cX4_shape 249 = .ok (.iconst 0, 1) := dk_3 (dk_at dksX4_shape_10 14 rfl rfl)
theorem dX4_shape_250 : decode cX4_shape 250 = .ok (.iload_n 3, 1) := dk_29 (dk_at dksX4_shape_10 15 rfl rfl)
theorem dX4_shape_251 : decode cX4_shape 251 = .ok (.ifCond .ne 7, 3) := dk_154 0 7 (dk_at dksX4_shape_10 16 rfl rfl)
theorem dX4_shape_254 : decode cX4_shape 254 = .ok (.iconst 1, 1) := dk_4 (dk_at dksX4_shape_10 19 rfl rfl)
theorem dX4_shape_255 : decode cX4_shape 255 = .ok (.goto 4, 3) := dk_167 0 4 (dk_at dksX4_shape_10 20 rfl rfl)
theorem dX4_shape_258 : decode cX4_shape 258 = .ok (.iconst 0, 1) := dk_3 (dk_at dksX4_shape_10 23 rfl rfl)
theorem dX4_shape_259 : decode cX4_shape 259 = .ok (.if_icmp .ne 7, 3) := dk_160 0 7 (dk_at dksX4_shape_11 0 rfl rfl)
theorem dX4_shape_262 : decode cX4_shape 262 = .ok (.iconst 1, 1) := dk_4 (dk_at dksX4_shape_11 3 rfl rfl)
theorem dX4_shape_263 : decode cX4_shape 263 = .ok (.goto 4, 3) := dk_167 0 4 (dk_at dksX4_shape_11 4 rfl rfl)
theorem dX4_shape_266 : decode cX4_shape 266 = .ok (.iconst 0, 1) := dk_3 (dk_at dksX4_shape_11 7 rfl rfl)
theorem dX4_shape_267 : decode cX4_shape 267 = .ok (.istore 7, 2) := dk_54 7 (dk_at dksX4_shape_11 8 rfl rfl)
theorem dX4_shape_269 : decode cX4_shape 269 = .ok (.bipush 7, 2) := dk_16 7 (dk_at dksX4_shape_11 10 rfl rfl)
theorem dX4_shape_271 : decode cX4_shape 271 = .ok (.istore 8, 2) := dk_54 8 (dk_at dksX4_shape_11 12 rfl rfl)
theorem dX4_shape_273 : decode cX4_shape 273 = .ok (.iload 8, 2) := dk_21 8 (dk_at dksX4_shape_11 14 rfl rfl)
theorem dX4_shape_275 : decode cX4_shape 275 = .ok (.ifCond .lt 97, 3) := dk_155 0 97 (dk_at dksX4_shape_11 16 rfl rfl)
theorem dX4_shape_278 : decode cX4_shape 278 = .ok (.aload_n 0, 1) := dk_42 (dk_at dksX4_shape_11 19 rfl rfl)
theorem dX4_shape_279 : decode cX4_shape 279 = .ok (.getfield 16, 3) := dk_180 0 16 (dk_at dksX4_shape_11 20 rfl rfl)
theorem dX4_shape_282 : decode cX4_shape 282 = .ok (.bipush 8, 2) := dk_16 8 (dk_at dksX4_shape_12 0 rfl rfl)
theorem dX4_shape_284 : decode cX4_shape 284 = .ok (.iload_n 1, 1) := dk_27 (dk_at dksX4_shape_12 2 rfl rfl)
theorem dX4_shape_285 : decode cX4_shape 285 = .ok (.imul, 1) := dk_104 (dk_at dksX4_shape_12 3 rfl rfl)
theorem dX4_shape_286 : decode cX4_shape 286 = .ok (.iload 8, 2) := dk_21 8 (dk_at dksX4_shape_12 4 rfl rfl)
theorem dX4_shape_288 : decode cX4_shape 288 = .ok (.iadd, 1) := dk_96 (dk_at dksX4_shape_12 6 rfl rfl)
theorem dX4_shape_289 : decode cX4_shape 289 = .ok (.iaload, 1) := dk_46 (dk_at dksX4_shape_12 7 rfl rfl)
theorem dX4_shape_290 : decode cX4_shape 290 = .ok (.istore 9, 2) := dk_54 9 (dk_at dksX4_shape_12 8 rfl rfl)
theorem dX4_shape_292 : decode cX4_shape 292 = .ok (.aload_n 0, 1) := dk_42 (dk_at dksX4_shape_12 10 rfl rfl)
theorem dX4_shape_293 : decode cX4_shape 293 = .ok (.getfield 16, 3) := dk_180 0 16 (dk_at dksX4_shape_12 11 rfl rfl)
theorem dX4_shape_296 : decode cX4_shape 296 = .ok (.bipush 8, 2) := dk_16 8 (dk_at dksX4_shape_12 14 rfl rfl)
theorem dX4_shape_298 : decode cX4_shape 298 = .ok (.iload_n 2, 1) := dk_28 (dk_at dksX4_shape_12 16 rfl rfl)
theorem dX4_shape_299 : decode cX4_shape 299 = .ok (.imul, 1) := dk_104 (dk_at dksX4_shape_12 17 rfl rfl)
theorem dX4_shape_300 : decode cX4_shape 300 = .ok (.iload 8, 2) := dk_21 8 (dk_at dksX4_shape_12 18 rfl rfl)
theorem dX4_shape_302 : decode cX4_shape 302 = .ok (.iadd, 1) := dk_96 (dk_at dksX4_shape_12 20 rfl rfl)
theorem dX4_shape_303 : decode cX4_shape 303 = .ok (.iaload, 1) := dk_46 (dk_at dksX4_shape_12 21 rfl rfl)
theorem dX4_shape_304 : decode cX4_shape 304 = .ok (.istore 10, 2) := dk_54 10 (dk_at dksX4_shape_12 22 rfl rfl)
theorem dX4_shape_306 : decode cX4_shape 306 = .ok (.iload 9, 2) := dk_21 9 (dk_at dksX4_shape_13 0 rfl rfl)
theorem dX4_shape_308 : decode cX4_shape 308 = .ok (.ifCond .lt 28, 3) := dk_155 0 28 (dk_at dksX4_shape_13 2 rfl rfl)
theorem dX4_shape_311 : decode cX4_shape 311 = .ok (.iload 10, 2) := dk_21 10 (dk_at dksX4_shape_13 5 rfl rfl)
theorem dX4_shape_313 : decode cX4_shape 313 = .ok (.ifCond .lt 23, 3) := dk_155 0 23 (dk_at dksX4_shape_13 7 rfl rfl)
theorem dX4_shape_316 : decode cX4_shape 316 = .ok (.aload_n 0, 1) := dk_42 (dk_at dksX4_shape_13 10 rfl rfl)
theorem dX4_shape_317 : decode cX4_shape 317 = .ok (.iload 9, 2) := dk_21 9 (dk_at dksX4_shape_13 11 rfl rfl)
theorem dX4_shape_319 : decode cX4_shape 319 = .ok (.iload 10, 2) := dk_21 10 (dk_at dksX4_shape_13 13 rfl rfl)
theorem dX4_shape_321 : decode cX4_shape 321 = .ok (.iload_n 3, 1) := dk_29 (dk_at dksX4_shape_13 15 rfl rfl)
theorem dX4_shape_322 : decode cX4_shape 322 = .ok (.bipush 8, 2) := dk_16 8 (dk_at dksX4_shape_13 16 rfl rfl)
theorem dX4_shape_324 : decode cX4_shape 324 = .ok (.iload 4, 2) := dk_21 4 (dk_at dksX4_shape_13 18 rfl rfl)
theorem dX4_shape_326 : decode cX4_shape 326 = .ok (.imul, 1) := dk_104 (dk_at dksX4_shape_13 20 rfl rfl)
theorem dX4_shape_327 : decode cX4_shape 327 = .ok (.iload 8, 2) := dk_21 8 (dk_at dksX4_shape_13 21 rfl rfl)
theorem dX4_shape_329 : decode cX4_shape 329 = .ok (.iadd, 1) := dk_96 (dk_at dksX4_shape_13 23 rfl rfl)
theorem dX4_shape_330 : decode cX4_shape 330 = .ok (.invokevirtual 160, 3) := dk_182 0 160 (dk_at dksX4_shape_14 0 rfl rfl)
theorem dX4_shape_333 : decode cX4_shape 333 = .ok (.goto 33, 3) := dk_167 0 33 (dk_at dksX4_shape_14 3 rfl rfl)
theorem dX4_shape_336 : decode cX4_shape 336 = .ok (.iload 7, 2) := dk_21 7 (dk_at dksX4_shape_14 6 rfl rfl)
theorem dX4_shape_338 : decode cX4_shape 338 = .ok (.ifCond .eq 28, 3) := dk_153 0 28 (dk_at dksX4_shape_14 8 rfl rfl)
theorem dX4_shape_341 : decode cX4_shape 341 = .ok (.aload_n 0, 1) := dk_42 (dk_at dksX4_shape_14 11 rfl rfl)
theorem dX4_shape_342 : decode cX4_shape 342 = .ok (.getfield 16, 3) := dk_180 0 16 (dk_at dksX4_shape_14 12 rfl rfl)
theorem dX4_shape_345 : decode cX4_shape 345 = .ok (.bipush 8, 2) := dk_16 8 (dk_at dksX4_shape_14 15 rfl rfl)
theorem dX4_shape_347 : decode cX4_shape 347 = .ok (.iload 4, 2) := dk_21 4 (dk_at dksX4_shape_14 17 rfl rfl)
theorem dX4_shape_349 : decode cX4_shape 349 = .ok (.imul, 1) := dk_104 (dk_at dksX4_shape_14 19 rfl rfl)
theorem dX4_shape_350 : decode cX4_shape 350 = .ok (.iload 8, 2) := dk_21 8 (dk_at dksX4_shape_14 20 rfl rfl)
theorem dX4_shape_352 : decode cX4_shape 352 = .ok (.iadd, 1) := dk_96 (dk_at dksX4_shape_14 22 rfl rfl)
theorem dX4_shape_353 : decode cX4_shape 353 = .ok (.iload 9, 2) := dk_21 9 (dk_at dksX4_shape_15 0 rfl rfl)
theorem dX4_shape_355 : decode cX4_shape 355 = .ok (.ifCond .lt 8, 3) := dk_155 0 8 (dk_at dksX4_shape_15 2 rfl rfl)
theorem dX4_shape_358 : decode cX4_shape 358 = .ok (.iload 9, 2) := dk_21 9 (dk_at dksX4_shape_15 5 rfl rfl)
theorem dX4_shape_360 : decode cX4_shape 360 = .ok (.goto 5, 3) := dk_167 0 5 (dk_at dksX4_shape_15 7 rfl rfl)
theorem dX4_shape_363 : decode cX4_shape 363 = .ok (.iload 10, 2) := dk_21 10 (dk_at dksX4_shape_15 10 rfl rfl)
theorem dX4_shape_365 : decode cX4_shape 365 = .ok (.iastore, 1) := dk_79 (dk_at dksX4_shape_15 12 rfl rfl)
theorem dX4_shape_366 : decode cX4_shape 366 = .ok (.iinc 8 (-1), 3) := dk_132 8 255 (dk_at dksX4_shape_15 13 rfl rfl)
theorem dX4_shape_369 : decode cX4_shape 369 = .ok (.goto (-96), 3) := dk_167 255 160 (dk_at dksX4_shape_15 16 rfl rfl)
theorem dX4_shape_372 : decode cX4_shape 372 = .ok (.return_, 1) := dk_177 (dk_at dksX4_shape_15 19 rfl rfl)
abbrev cX4_slip : ByteArray := prog_6_method_32_code
def yX4_slip : MethodName := ⟨RX4, "slip", "()I"⟩
theorem dX4_slip_0 : decode cX4_slip 0 = .ok (.aload_n 0, 1) := by decide +kernel
theorem dX4_slip_1 : decode cX4_slip 1 = .ok (.invokevirtual 175, 3) := by decide +kernel
theorem dX4_slip_4 : decode cX4_slip 4 = .ok (.ireturn, 1) := by decide +kernel
abbrev cX4_slipOf : ByteArray := prog_6_method_31_code
def yX4_slipOf : MethodName := ⟨RX4, "slipOf", "()I"⟩
def dkwX4_slipOf_19 : List UInt8 := [16, 250, 167, 0, 7, 42, 180, 0, 88, 172]
abbrev dktX4_slipOf_19 : List UInt8 := dkwX4_slipOf_19 ++ []
def dkwX4_slipOf_18 : List UInt8 := [54, 4, 21, 4, 156, 0, 5, 28, 172, 21, 4, 60, 132, 2, 1, 167, 254, 99, 27, 16, 6, 160, 0, 8]
abbrev dktX4_slipOf_18 : List UInt8 := dkwX4_slipOf_18 ++ dktX4_slipOf_19
def dkwX4_slipOf_17 : List UInt8 := [167, 0, 24, 42, 180, 0, 59, 42, 180, 0, 172, 4, 100, 46, 16, 91, 160, 0, 7, 7, 167, 0, 4, 8]
abbrev dktX4_slipOf_17 : List UInt8 := dkwX4_slipOf_17 ++ dktX4_slipOf_18
def dkwX4_slipOf_16 : List UInt8 := [16, 6, 167, 0, 44, 42, 180, 0, 59, 42, 180, 0, 172, 4, 100, 46, 16, 123, 160, 0, 7, 5]
abbrev dktX4_slipOf_16 : List UInt8 := dkwX4_slipOf_16 ++ dktX4_slipOf_17
def dkwX4_slipOf_15 : List UInt8 := [180, 0, 172, 4, 100, 181, 0, 172, 4, 54, 5, 21, 5, 153, 0, 58, 42, 180, 0, 172, 154, 0, 8]
abbrev dktX4_slipOf_15 : List UInt8 := dkwX4_slipOf_15 ++ dktX4_slipOf_16
def dkwX4_slipOf_14 : List UInt8 := [167, 0, 5, 16, 250, 54, 4, 167, 0, 27, 27, 7, 160, 0, 22, 29, 16, 93, 160, 0, 16, 42, 89]
abbrev dktX4_slipOf_14 : List UInt8 := dkwX4_slipOf_14 ++ dktX4_slipOf_15
def dkwX4_slipOf_13 : List UInt8 := [54, 5, 167, 0, 54, 27, 6, 160, 0, 25, 29, 16, 97, 16, 104, 184, 0, 84, 153, 0, 7, 3]
abbrev dktX4_slipOf_13 : List UInt8 := dkwX4_slipOf_13 ++ dktX4_slipOf_14
def dkwX4_slipOf_12 : List UInt8 := [3, 54, 4, 167, 0, 76, 29, 16, 125, 160, 0, 70, 42, 89, 180, 0, 172, 4, 100, 181, 0, 172, 4]
abbrev dktX4_slipOf_12 : List UInt8 := dkwX4_slipOf_12 ++ dktX4_slipOf_13
def dkwX4_slipOf_11 : List UInt8 := [180, 0, 172, 4, 100, 46, 164, 0, 24, 42, 180, 0, 62, 42, 180, 0, 172, 4, 100, 29, 16, 97, 100, 79]
abbrev dktX4_slipOf_11 : List UInt8 := dkwX4_slipOf_11 ++ dktX4_slipOf_12
def dkwX4_slipOf_10 : List UInt8 := [160, 0, 75, 29, 16, 97, 16, 104, 184, 0, 84, 153, 0, 42, 29, 16, 97, 100, 42, 180, 0, 62, 42]
abbrev dktX4_slipOf_10 : List UInt8 := dkwX4_slipOf_10 ++ dktX4_slipOf_11
def dkwX4_slipOf_9 : List UInt8 := [167, 0, 149, 27, 4, 160, 0, 16, 29, 16, 97, 16, 122, 184, 0, 84, 54, 5, 167, 0, 131, 27, 5]
abbrev dktX4_slipOf_9 : List UInt8 := dkwX4_slipOf_9 ++ dktX4_slipOf_10
def dkwX4_slipOf_8 : List UInt8 := [160, 0, 171, 29, 16, 41, 160, 0, 165, 42, 89, 180, 0, 172, 4, 100, 181, 0, 172, 4, 54, 5]
abbrev dktX4_slipOf_8 : List UInt8 := dkwX4_slipOf_8 ++ dktX4_slipOf_9
def dkwX4_slipOf_7 : List UInt8 := [180, 0, 169, 21, 5, 154, 0, 8, 21, 4, 155, 0, 7, 4, 167, 0, 4, 3, 96, 181, 0, 169, 27, 8]
abbrev dktX4_slipOf_7 : List UInt8 := dkwX4_slipOf_7 ++ dktX4_slipOf_8
def dkwX4_slipOf_6 : List UInt8 := [160, 0, 7, 5, 167, 0, 14, 29, 16, 91, 160, 0, 7, 6, 167, 0, 4, 8, 54, 4, 42, 89]
abbrev dktX4_slipOf_6 : List UInt8 := dkwX4_slipOf_6 ++ dktX4_slipOf_7
def dkwX4_slipOf_5 : List UInt8 := [180, 0, 62, 42, 180, 0, 172, 2, 79, 42, 89, 180, 0, 172, 4, 96, 181, 0, 172, 29, 16, 123]
abbrev dktX4_slipOf_5 : List UInt8 := dkwX4_slipOf_5 ++ dktX4_slipOf_6
def dkwX4_slipOf_4 : List UInt8 := [16, 91, 159, 0, 9, 29, 16, 40, 160, 0, 56, 42, 180, 0, 59, 42, 180, 0, 172, 29, 79, 42]
abbrev dktX4_slipOf_4 : List UInt8 := dkwX4_slipOf_4 ++ dktX4_slipOf_5
def dkwX4_slipOf_3 : List UInt8 := [54, 5, 167, 0, 86, 29, 16, 36, 160, 0, 9, 4, 54, 4, 167, 0, 74, 29, 16, 123, 159, 0, 15, 29]
abbrev dktX4_slipOf_3 : List UInt8 := dkwX4_slipOf_3 ++ dktX4_slipOf_4
def dkwX4_slipOf_2 : List UInt8 := [16, 48, 16, 57, 184, 0, 84, 154, 0, 15, 29, 16, 84, 159, 0, 9, 29, 16, 70, 160, 0, 9, 4]
abbrev dktX4_slipOf_2 : List UInt8 := dkwX4_slipOf_2 ++ dktX4_slipOf_3
def dkwX4_slipOf_1 : List UInt8 := [180, 0, 7, 28, 46, 62, 16, 250, 54, 4, 3, 54, 5, 27, 153, 0, 8, 27, 8, 160, 0, 166, 29]
abbrev dktX4_slipOf_1 : List UInt8 := dkwX4_slipOf_1 ++ dktX4_slipOf_2
def dkwX4_slipOf_0 : List UInt8 := [3, 60, 42, 3, 181, 0, 169, 42, 3, 181, 0, 172, 3, 61, 28, 42, 180, 0, 88, 162, 1, 155, 42]
abbrev dktX4_slipOf_0 : List UInt8 := dkwX4_slipOf_0 ++ dktX4_slipOf_1
theorem dksX4_slipOf_0 : cX4_slipOf.data.toList.drop 0 = dktX4_slipOf_0 := by decide +kernel
theorem dksX4_slipOf_1 : cX4_slipOf.data.toList.drop 23 = dktX4_slipOf_1 := dk_seg dksX4_slipOf_0 23 rfl rfl
theorem dksX4_slipOf_2 : cX4_slipOf.data.toList.drop 46 = dktX4_slipOf_2 := dk_seg dksX4_slipOf_1 23 rfl rfl
theorem dksX4_slipOf_3 : cX4_slipOf.data.toList.drop 69 = dktX4_slipOf_3 := dk_seg dksX4_slipOf_2 23 rfl rfl
theorem dksX4_slipOf_4 : cX4_slipOf.data.toList.drop 93 = dktX4_slipOf_4 := dk_seg dksX4_slipOf_3 24 rfl rfl
theorem dksX4_slipOf_5 : cX4_slipOf.data.toList.drop 115 = dktX4_slipOf_5 := dk_seg dksX4_slipOf_4 22 rfl rfl
theorem dksX4_slipOf_6 : cX4_slipOf.data.toList.drop 137 = dktX4_slipOf_6 := dk_seg dksX4_slipOf_5 22 rfl rfl
theorem dksX4_slipOf_7 : cX4_slipOf.data.toList.drop 159 = dktX4_slipOf_7 := dk_seg dksX4_slipOf_6 22 rfl rfl
theorem dksX4_slipOf_8 : cX4_slipOf.data.toList.drop 183 = dktX4_slipOf_8 := dk_seg dksX4_slipOf_7 24 rfl rfl
theorem dksX4_slipOf_9 : cX4_slipOf.data.toList.drop 205 = dktX4_slipOf_9 := dk_seg dksX4_slipOf_8 22 rfl rfl
theorem dksX4_slipOf_10 : cX4_slipOf.data.toList.drop 228 = dktX4_slipOf_10 := dk_seg dksX4_slipOf_9 23 rfl rfl
theorem dksX4_slipOf_11 : cX4_slipOf.data.toList.drop 251 = dktX4_slipOf_11 := dk_seg dksX4_slipOf_10 23 rfl rfl
theorem dksX4_slipOf_12 : cX4_slipOf.data.toList.drop 275 = dktX4_slipOf_12 := dk_seg dksX4_slipOf_11 24 rfl rfl
theorem dksX4_slipOf_13 : cX4_slipOf.data.toList.drop 298 = dktX4_slipOf_13 := dk_seg dksX4_slipOf_12 23 rfl rfl
theorem dksX4_slipOf_14 : cX4_slipOf.data.toList.drop 320 = dktX4_slipOf_14 := dk_seg dksX4_slipOf_13 22 rfl rfl
theorem dksX4_slipOf_15 : cX4_slipOf.data.toList.drop 343 = dktX4_slipOf_15 := dk_seg dksX4_slipOf_14 23 rfl rfl
theorem dksX4_slipOf_16 : cX4_slipOf.data.toList.drop 366 = dktX4_slipOf_16 := dk_seg dksX4_slipOf_15 23 rfl rfl
theorem dksX4_slipOf_17 : cX4_slipOf.data.toList.drop 388 = dktX4_slipOf_17 := dk_seg dksX4_slipOf_16 22 rfl rfl
theorem dksX4_slipOf_18 : cX4_slipOf.data.toList.drop 412 = dktX4_slipOf_18 := dk_seg dksX4_slipOf_17 24 rfl rfl
theorem dksX4_slipOf_19 : cX4_slipOf.data.toList.drop 436 = dktX4_slipOf_19 := dk_seg dksX4_slipOf_18 24 rfl rfl
theorem dX4_slipOf_0 : decode cX4_slipOf 0 = .ok (.iconst 0, 1) := dk_3 (dk_at dksX4_slipOf_0 0 rfl rfl)
theorem dX4_slipOf_1 : decode cX4_slipOf 1 = .ok (.istore_n 1, 1) := dk_60 (dk_at dksX4_slipOf_0 1 rfl rfl)
theorem dX4_slipOf_2 : decode cX4_slipOf 2 = .ok (.aload_n 0, 1) := dk_42 (dk_at dksX4_slipOf_0 2 rfl rfl)
theorem dX4_slipOf_3 : decode cX4_slipOf 3 = .ok (.iconst 0, 1) := dk_3 (dk_at dksX4_slipOf_0 3 rfl rfl)
theorem dX4_slipOf_4 : decode cX4_slipOf 4 = .ok (.putfield 169, 3) := dk_181 0 169 (dk_at dksX4_slipOf_0 4 rfl rfl)
theorem dX4_slipOf_7 : decode cX4_slipOf 7 = .ok (.aload_n 0, 1) := dk_42 (dk_at dksX4_slipOf_0 7 rfl rfl)
theorem dX4_slipOf_8 : decode cX4_slipOf 8 = .ok (.iconst 0, 1) := dk_3 (dk_at dksX4_slipOf_0 8 rfl rfl)
theorem dX4_slipOf_9 : decode cX4_slipOf 9 = .ok (.putfield 172, 3) := dk_181 0 172 (dk_at dksX4_slipOf_0 9 rfl rfl)
theorem dX4_slipOf_12 : decode cX4_slipOf 12 = .ok (.iconst 0, 1) := dk_3 (dk_at dksX4_slipOf_0 12 rfl rfl)
theorem dX4_slipOf_13 : decode cX4_slipOf 13 = .ok (.istore_n 2, 1) := dk_61 (dk_at dksX4_slipOf_0 13 rfl rfl)
theorem dX4_slipOf_14 : decode cX4_slipOf 14 = .ok (.iload_n 2, 1) := dk_28 (dk_at dksX4_slipOf_0 14 rfl rfl)
theorem dX4_slipOf_15 : decode cX4_slipOf 15 = .ok (.aload_n 0, 1) := dk_42 (dk_at dksX4_slipOf_0 15 rfl rfl)
theorem dX4_slipOf_16 : decode cX4_slipOf 16 = .ok (.getfield 88, 3) := dk_180 0 88 (dk_at dksX4_slipOf_0 16 rfl rfl)
theorem dX4_slipOf_19 : decode cX4_slipOf 19 = .ok (.if_icmp .ge 411, 3) := dk_162 1 155 (dk_at dksX4_slipOf_0 19 rfl rfl)
theorem dX4_slipOf_22 : decode cX4_slipOf 22 = .ok (.aload_n 0, 1) := dk_42 (dk_at dksX4_slipOf_0 22 rfl rfl)
theorem dX4_slipOf_23 : decode cX4_slipOf 23 = .ok (.getfield 7, 3) := dk_180 0 7 (dk_at dksX4_slipOf_1 0 rfl rfl)
theorem dX4_slipOf_26 : decode cX4_slipOf 26 = .ok (.iload_n 2, 1) := dk_28 (dk_at dksX4_slipOf_1 3 rfl rfl)
theorem dX4_slipOf_27 : decode cX4_slipOf 27 = .ok (.iaload, 1) := dk_46 (dk_at dksX4_slipOf_1 4 rfl rfl)
theorem dX4_slipOf_28 : decode cX4_slipOf 28 = .ok (.istore_n 3, 1) := dk_62 (dk_at dksX4_slipOf_1 5 rfl rfl)
theorem dX4_slipOf_29 : decode cX4_slipOf 29 = .ok (.bipush (-6), 2) := dk_16 250 (dk_at dksX4_slipOf_1 6 rfl rfl)
theorem dX4_slipOf_31 : decode cX4_slipOf 31 = .ok (.istore 4, 2) := dk_54 4 (dk_at dksX4_slipOf_1 8 rfl rfl)
theorem dX4_slipOf_33 : decode cX4_slipOf 33 = .ok (.iconst 0, 1) := dk_3 (dk_at dksX4_slipOf_1 10 rfl rfl)
theorem dX4_slipOf_34 : decode cX4_slipOf 34 = .ok (.istore 5, 2) := dk_54 5 (dk_at dksX4_slipOf_1 11 rfl rfl)
theorem dX4_slipOf_36 : decode cX4_slipOf 36 = .ok (.iload_n 1, 1) := dk_27 (dk_at dksX4_slipOf_1 13 rfl rfl)
theorem dX4_slipOf_37 : decode cX4_slipOf 37 = .ok (.ifCond .eq 8, 3) := dk_153 0 8 (dk_at dksX4_slipOf_1 14 rfl rfl)
theorem dX4_slipOf_40 : decode cX4_slipOf 40 = .ok (.iload_n 1, 1) := dk_27 (dk_at dksX4_slipOf_1 17 rfl rfl)
theorem dX4_slipOf_41 : decode cX4_slipOf 41 = .ok (.iconst 5, 1) := dk_8 (dk_at dksX4_slipOf_1 18 rfl rfl)
theorem dX4_slipOf_42 : decode cX4_slipOf 42 = .ok (.if_icmp .ne 166, 3) := dk_160 0 166 (dk_at dksX4_slipOf_1 19 rfl rfl)
theorem dX4_slipOf_45 : decode cX4_slipOf 45 = .ok (.iload_n 3, 1) := dk_29 (dk_at dksX4_slipOf_1 22 rfl rfl)
theorem dX4_slipOf_46 : decode cX4_slipOf 46 = .ok (.bipush 48, 2) := dk_16 48 (dk_at dksX4_slipOf_2 0 rfl rfl)
theorem dX4_slipOf_48 : decode cX4_slipOf 48 = .ok (.bipush 57, 2) := dk_16 57 (dk_at dksX4_slipOf_2 2 rfl rfl)
theorem dX4_slipOf_50 : decode cX4_slipOf 50 = .ok (.invokestatic 84, 3) := dk_184 0 84 (dk_at dksX4_slipOf_2 4 rfl rfl)
theorem dX4_slipOf_53 : decode cX4_slipOf 53 = .ok (.ifCond .ne 15, 3) := dk_154 0 15 (dk_at dksX4_slipOf_2 7 rfl rfl)
theorem dX4_slipOf_56 : decode cX4_slipOf 56 = .ok (.iload_n 3, 1) := dk_29 (dk_at dksX4_slipOf_2 10 rfl rfl)
theorem dX4_slipOf_57 : decode cX4_slipOf 57 = .ok (.bipush 84, 2) := dk_16 84 (dk_at dksX4_slipOf_2 11 rfl rfl)
theorem dX4_slipOf_59 : decode cX4_slipOf 59 = .ok (.if_icmp .eq 9, 3) := dk_159 0 9 (dk_at dksX4_slipOf_2 13 rfl rfl)
theorem dX4_slipOf_62 : decode cX4_slipOf 62 = .ok (.iload_n 3, 1) := dk_29 (dk_at dksX4_slipOf_2 16 rfl rfl)
theorem dX4_slipOf_63 : decode cX4_slipOf 63 = .ok (.bipush 70, 2) := dk_16 70 (dk_at dksX4_slipOf_2 17 rfl rfl)
theorem dX4_slipOf_65 : decode cX4_slipOf 65 = .ok (.if_icmp .ne 9, 3) := dk_160 0 9 (dk_at dksX4_slipOf_2 19 rfl rfl)
theorem dX4_slipOf_68 : decode cX4_slipOf 68 = .ok (.iconst 1, 1) := dk_4 (dk_at dksX4_slipOf_2 22 rfl rfl)
theorem dX4_slipOf_69 : decode cX4_slipOf 69 = .ok (.istore 5, 2) := dk_54 5 (dk_at dksX4_slipOf_3 0 rfl rfl)
theorem dX4_slipOf_71 : decode cX4_slipOf 71 = .ok (.goto 86, 3) := dk_167 0 86 (dk_at dksX4_slipOf_3 2 rfl rfl)
theorem dX4_slipOf_74 : decode cX4_slipOf 74 = .ok (.iload_n 3, 1) := dk_29 (dk_at dksX4_slipOf_3 5 rfl rfl)
theorem dX4_slipOf_75 : decode cX4_slipOf 75 = .ok (.bipush 36, 2) := dk_16 36 (dk_at dksX4_slipOf_3 6 rfl rfl)
theorem dX4_slipOf_77 : decode cX4_slipOf 77 = .ok (.if_icmp .ne 9, 3) := dk_160 0 9 (dk_at dksX4_slipOf_3 8 rfl rfl)
theorem dX4_slipOf_80 : decode cX4_slipOf 80 = .ok (.iconst 1, 1) := dk_4 (dk_at dksX4_slipOf_3 11 rfl rfl)
theorem dX4_slipOf_81 : decode cX4_slipOf 81 = .ok (.istore 4, 2) := dk_54 4 (dk_at dksX4_slipOf_3 12 rfl rfl)
theorem dX4_slipOf_83 : decode cX4_slipOf 83 = .ok (.goto 74, 3) := dk_167 0 74 (dk_at dksX4_slipOf_3 14 rfl rfl)
theorem dX4_slipOf_86 : decode cX4_slipOf 86 = .ok (.iload_n 3, 1) := dk_29 (dk_at dksX4_slipOf_3 17 rfl rfl)
theorem dX4_slipOf_87 : decode cX4_slipOf 87 = .ok (.bipush 123, 2) := dk_16 123 (dk_at dksX4_slipOf_3 18 rfl rfl)
theorem dX4_slipOf_89 : decode cX4_slipOf 89 = .ok (.if_icmp .eq 15, 3) := dk_159 0 15 (dk_at dksX4_slipOf_3 20 rfl rfl)
theorem dX4_slipOf_92 : decode cX4_slipOf 92 = .ok (.iload_n 3, 1) := dk_29 (dk_at dksX4_slipOf_3 23 rfl rfl)
theorem dX4_slipOf_93 : decode cX4_slipOf 93 = .ok (.bipush 91, 2) := dk_16 91 (dk_at dksX4_slipOf_4 0 rfl rfl)
theorem dX4_slipOf_95 : decode cX4_slipOf 95 = .ok (.if_icmp .eq 9, 3) := dk_159 0 9 (dk_at dksX4_slipOf_4 2 rfl rfl)
theorem dX4_slipOf_98 : decode cX4_slipOf 98 = .ok (.iload_n 3, 1) := dk_29 (dk_at dksX4_slipOf_4 5 rfl rfl)
theorem dX4_slipOf_99 : decode cX4_slipOf 99 = .ok (.bipush 40, 2) := dk_16 40 (dk_at dksX4_slipOf_4 6 rfl rfl)
theorem dX4_slipOf_101 : decode cX4_slipOf 101 = .ok (.if_icmp .ne 56, 3) := dk_160 0 56 (dk_at dksX4_slipOf_4 8 rfl rfl)
theorem dX4_slipOf_104 : decode cX4_slipOf 104 = .ok (.aload_n 0, 1) := dk_42 (dk_at dksX4_slipOf_4 11 rfl rfl)
theorem dX4_slipOf_105 : decode cX4_slipOf 105 = .ok (.getfield 59, 3) := dk_180 0 59 (dk_at dksX4_slipOf_4 12 rfl rfl)
theorem dX4_slipOf_108 : decode cX4_slipOf 108 = .ok (.aload_n 0, 1) := dk_42 (dk_at dksX4_slipOf_4 15 rfl rfl)
theorem dX4_slipOf_109 : decode cX4_slipOf 109 = .ok (.getfield 172, 3) := dk_180 0 172 (dk_at dksX4_slipOf_4 16 rfl rfl)
theorem dX4_slipOf_112 : decode cX4_slipOf 112 = .ok (.iload_n 3, 1) := dk_29 (dk_at dksX4_slipOf_4 19 rfl rfl)
theorem dX4_slipOf_113 : decode cX4_slipOf 113 = .ok (.iastore, 1) := dk_79 (dk_at dksX4_slipOf_4 20 rfl rfl)
theorem dX4_slipOf_114 : decode cX4_slipOf 114 = .ok (.aload_n 0, 1) := dk_42 (dk_at dksX4_slipOf_4 21 rfl rfl)
theorem dX4_slipOf_115 : decode cX4_slipOf 115 = .ok (.getfield 62, 3) := dk_180 0 62 (dk_at dksX4_slipOf_5 0 rfl rfl)
theorem dX4_slipOf_118 : decode cX4_slipOf 118 = .ok (.aload_n 0, 1) := dk_42 (dk_at dksX4_slipOf_5 3 rfl rfl)
theorem dX4_slipOf_119 : decode cX4_slipOf 119 = .ok (.getfield 172, 3) := dk_180 0 172 (dk_at dksX4_slipOf_5 4 rfl rfl)
theorem dX4_slipOf_122 : decode cX4_slipOf 122 = .ok (.iconst (-1), 1) := dk_2 (dk_at dksX4_slipOf_5 7 rfl rfl)
theorem dX4_slipOf_123 : decode cX4_slipOf 123 = .ok (.iastore, 1) := dk_79 (dk_at dksX4_slipOf_5 8 rfl rfl)
theorem dX4_slipOf_124 : decode cX4_slipOf 124 = .ok (.aload_n 0, 1) := dk_42 (dk_at dksX4_slipOf_5 9 rfl rfl)
theorem dX4_slipOf_125 : decode cX4_slipOf 125 = .ok (.dup, 1) := dk_89 (dk_at dksX4_slipOf_5 10 rfl rfl)
theorem dX4_slipOf_126 : decode cX4_slipOf 126 = .ok (.getfield 172, 3) := dk_180 0 172 (dk_at dksX4_slipOf_5 11 rfl rfl)
theorem dX4_slipOf_129 : decode cX4_slipOf 129 = .ok (.iconst 1, 1) := dk_4 (dk_at dksX4_slipOf_5 14 rfl rfl)
theorem dX4_slipOf_130 : decode cX4_slipOf 130 = .ok (.iadd, 1) := dk_96 (dk_at dksX4_slipOf_5 15 rfl rfl)
theorem dX4_slipOf_131 : decode cX4_slipOf 131 = .ok (.putfield 172, 3) := dk_181 0 172 (dk_at dksX4_slipOf_5 16 rfl rfl)
theorem dX4_slipOf_134 : decode cX4_slipOf 134 = .ok (.iload_n 3, 1) := dk_29 (dk_at dksX4_slipOf_5 19 rfl rfl)
theorem dX4_slipOf_135 : decode cX4_slipOf 135 = .ok (.bipush 123, 2) := dk_16 123 (dk_at dksX4_slipOf_5 20 rfl rfl)
theorem dX4_slipOf_137 : decode cX4_slipOf 137 = .ok (.if_icmp .ne 7, 3) := dk_160 0 7 (dk_at dksX4_slipOf_6 0 rfl rfl)
theorem dX4_slipOf_140 : decode cX4_slipOf 140 = .ok (.iconst 2, 1) := dk_5 (dk_at dksX4_slipOf_6 3 rfl rfl)
theorem dX4_slipOf_141 : decode cX4_slipOf 141 = .ok (.goto 14, 3) := dk_167 0 14 (dk_at dksX4_slipOf_6 4 rfl rfl)
theorem dX4_slipOf_144 : decode cX4_slipOf 144 = .ok (.iload_n 3, 1) := dk_29 (dk_at dksX4_slipOf_6 7 rfl rfl)
theorem dX4_slipOf_145 : decode cX4_slipOf 145 = .ok (.bipush 91, 2) := dk_16 91 (dk_at dksX4_slipOf_6 8 rfl rfl)
theorem dX4_slipOf_147 : decode cX4_slipOf 147 = .ok (.if_icmp .ne 7, 3) := dk_160 0 7 (dk_at dksX4_slipOf_6 10 rfl rfl)
theorem dX4_slipOf_150 : decode cX4_slipOf 150 = .ok (.iconst 3, 1) := dk_6 (dk_at dksX4_slipOf_6 13 rfl rfl)
theorem dX4_slipOf_151 : decode cX4_slipOf 151 = .ok (.goto 4, 3) := dk_167 0 4 (dk_at dksX4_slipOf_6 14 rfl rfl)
theorem dX4_slipOf_154 : decode cX4_slipOf 154 = .ok (.iconst 5, 1) := dk_8 (dk_at dksX4_slipOf_6 17 rfl rfl)
theorem dX4_slipOf_155 : decode cX4_slipOf 155 = .ok (.istore 4, 2) := dk_54 4 (dk_at dksX4_slipOf_6 18 rfl rfl)
theorem dX4_slipOf_157 : decode cX4_slipOf 157 = .ok (.aload_n 0, 1) := dk_42 (dk_at dksX4_slipOf_6 20 rfl rfl)
theorem dX4_slipOf_158 : decode cX4_slipOf 158 = .ok (.dup, 1) := dk_89 (dk_at dksX4_slipOf_6 21 rfl rfl)
theorem dX4_slipOf_159 : decode cX4_slipOf 159 = .ok (.getfield 169, 3) := dk_180 0 169 (dk_at dksX4_slipOf_7 0 rfl rfl)
theorem dX4_slipOf_162 : decode cX4_slipOf 162 = .ok (.iload 5, 2) := dk_21 5 (dk_at dksX4_slipOf_7 3 rfl rfl)
theorem dX4_slipOf_164 : decode cX4_slipOf 164 = .ok (.ifCond .ne 8, 3) := dk_154 0 8 (dk_at dksX4_slipOf_7 5 rfl rfl)
theorem dX4_slipOf_167 : decode cX4_slipOf 167 = .ok (.iload 4, 2) := dk_21 4 (dk_at dksX4_slipOf_7 8 rfl rfl)
theorem dX4_slipOf_169 : decode cX4_slipOf 169 = .ok (.ifCond .lt 7, 3) := dk_155 0 7 (dk_at dksX4_slipOf_7 10 rfl rfl)
theorem dX4_slipOf_172 : decode cX4_slipOf 172 = .ok (.iconst 1, 1) := dk_4 (dk_at dksX4_slipOf_7 13 rfl rfl)
theorem dX4_slipOf_173 : decode cX4_slipOf 173 = .ok (.goto 4, 3) := dk_167 0 4 (dk_at dksX4_slipOf_7 14 rfl rfl)
theorem dX4_slipOf_176 : decode cX4_slipOf 176 = .ok (.iconst 0, 1) := dk_3 (dk_at dksX4_slipOf_7 17 rfl rfl)
theorem dX4_slipOf_177 : decode cX4_slipOf 177 = .ok (.iadd, 1) := dk_96 (dk_at dksX4_slipOf_7 18 rfl rfl)
theorem dX4_slipOf_178 : decode cX4_slipOf 178 = .ok (.putfield 169, 3) := dk_181 0 169 (dk_at dksX4_slipOf_7 19 rfl rfl)
theorem dX4_slipOf_181 : decode cX4_slipOf 181 = .ok (.iload_n 1, 1) := dk_27 (dk_at dksX4_slipOf_7 22 rfl rfl)
theorem dX4_slipOf_182 : decode cX4_slipOf 182 = .ok (.iconst 5, 1) := dk_8 (dk_at dksX4_slipOf_7 23 rfl rfl)
theorem dX4_slipOf_183 : decode cX4_slipOf 183 = .ok (.if_icmp .ne 171, 3) := dk_160 0 171 (dk_at dksX4_slipOf_8 0 rfl rfl)
theorem dX4_slipOf_186 : decode cX4_slipOf 186 = .ok (.iload_n 3, 1) := dk_29 (dk_at dksX4_slipOf_8 3 rfl rfl)
theorem dX4_slipOf_187 : decode cX4_slipOf 187 = .ok (.bipush 41, 2) := dk_16 41 (dk_at dksX4_slipOf_8 4 rfl rfl)
theorem dX4_slipOf_189 : decode cX4_slipOf 189 = .ok (.if_icmp .ne 165, 3) := dk_160 0 165 (dk_at dksX4_slipOf_8 6 rfl rfl)
theorem dX4_slipOf_192 : decode cX4_slipOf 192 = .ok (.aload_n 0, 1) := dk_42 (dk_at dksX4_slipOf_8 9 rfl rfl)
theorem dX4_slipOf_193 : decode cX4_slipOf 193 = .ok (.dup, 1) := dk_89 (dk_at dksX4_slipOf_8 10 rfl rfl)
theorem dX4_slipOf_194 : decode cX4_slipOf 194 = .ok (.getfield 172, 3) := dk_180 0 172 (dk_at dksX4_slipOf_8 11 rfl rfl)
theorem dX4_slipOf_197 : decode cX4_slipOf 197 = .ok (.iconst 1, 1) := dk_4 (dk_at dksX4_slipOf_8 14 rfl rfl)
theorem dX4_slipOf_198 : decode cX4_slipOf 198 = .ok (.isub, 1) := dk_100 (dk_at dksX4_slipOf_8 15 rfl rfl)
theorem dX4_slipOf_199 : decode cX4_slipOf 199 = .ok (.putfield 172, 3) := dk_181 0 172 (dk_at dksX4_slipOf_8 16 rfl rfl)
theorem dX4_slipOf_202 : decode cX4_slipOf 202 = .ok (.iconst 1, 1) := dk_4 (dk_at dksX4_slipOf_8 19 rfl rfl)
theorem dX4_slipOf_203 : decode cX4_slipOf 203 = .ok (.istore 5, 2) := dk_54 5 (dk_at dksX4_slipOf_8 20 rfl rfl)
theorem dX4_slipOf_205 : decode cX4_slipOf 205 = .ok (.goto 149, 3) := dk_167 0 149 (dk_at dksX4_slipOf_9 0 rfl rfl)
theorem dX4_slipOf_208 : decode cX4_slipOf 208 = .ok (.iload_n 1, 1) := dk_27 (dk_at dksX4_slipOf_9 3 rfl rfl)
theorem dX4_slipOf_209 : decode cX4_slipOf 209 = .ok (.iconst 1, 1) := dk_4 (dk_at dksX4_slipOf_9 4 rfl rfl)
theorem dX4_slipOf_210 : decode cX4_slipOf 210 = .ok (.if_icmp .ne 16, 3) := dk_160 0 16 (dk_at dksX4_slipOf_9 5 rfl rfl)
theorem dX4_slipOf_213 : decode cX4_slipOf 213 = .ok (.iload_n 3, 1) := dk_29 (dk_at dksX4_slipOf_9 8 rfl rfl)
theorem dX4_slipOf_214 : decode cX4_slipOf 214 = .ok (.bipush 97, 2) := dk_16 97 (dk_at dksX4_slipOf_9 9 rfl rfl)
theorem dX4_slipOf_216 : decode cX4_slipOf 216 = .ok (.bipush 122, 2) := dk_16 122 (dk_at dksX4_slipOf_9 11 rfl rfl)
theorem dX4_slipOf_218 : decode cX4_slipOf 218 = .ok (.invokestatic 84, 3) := dk_184 0 84 (dk_at dksX4_slipOf_9 13 rfl rfl)
theorem dX4_slipOf_221 : decode cX4_slipOf 221 = .ok (.istore 5, 2) := dk_54 5 (dk_at dksX4_slipOf_9 16 rfl rfl)
theorem dX4_slipOf_223 : decode cX4_slipOf 223 = .ok (.goto 131, 3) := dk_167 0 131 (dk_at dksX4_slipOf_9 18 rfl rfl)
theorem dX4_slipOf_226 : decode cX4_slipOf 226 = .ok (.iload_n 1, 1) := dk_27 (dk_at dksX4_slipOf_9 21 rfl rfl)
theorem dX4_slipOf_227 : decode cX4_slipOf 227 = .ok (.iconst 2, 1) := dk_5 (dk_at dksX4_slipOf_9 22 rfl rfl)
theorem dX4_slipOf_228 : decode cX4_slipOf 228 = .ok (.if_icmp .ne 75, 3) := dk_160 0 75 (dk_at dksX4_slipOf_10 0 rfl rfl)
theorem dX4_slipOf_231 : decode cX4_slipOf 231 = .ok (.iload_n 3, 1) := dk_29 (dk_at dksX4_slipOf_10 3 rfl rfl)
theorem dX4_slipOf_232 : decode cX4_slipOf 232 = .ok (.bipush 97, 2) := dk_16 97 (dk_at dksX4_slipOf_10 4 rfl rfl)
theorem dX4_slipOf_234 : decode cX4_slipOf 234 = .ok (.bipush 104, 2) := dk_16 104 (dk_at dksX4_slipOf_10 6 rfl rfl)
theorem dX4_slipOf_236 : decode cX4_slipOf 236 = .ok (.invokestatic 84, 3) := dk_184 0 84 (dk_at dksX4_slipOf_10 8 rfl rfl)
theorem dX4_slipOf_239 : decode cX4_slipOf 239 = .ok (.ifCond .eq 42, 3) := dk_153 0 42 (dk_at dksX4_slipOf_10 11 rfl rfl)
theorem dX4_slipOf_242 : decode cX4_slipOf 242 = .ok (.iload_n 3, 1) := dk_29 (dk_at dksX4_slipOf_10 14 rfl rfl)
theorem dX4_slipOf_243 : decode cX4_slipOf 243 = .ok (.bipush 97, 2) := dk_16 97 (dk_at dksX4_slipOf_10 15 rfl rfl)
theorem dX4_slipOf_245 : decode cX4_slipOf 245 = .ok (.isub, 1) := dk_100 (dk_at dksX4_slipOf_10 17 rfl rfl)
theorem dX4_slipOf_246 : decode cX4_slipOf 246 = .ok (.aload_n 0, 1) := dk_42 (dk_at dksX4_slipOf_10 18 rfl rfl)
theorem dX4_slipOf_247 : decode cX4_slipOf 247 = .ok (.getfield 62, 3) := dk_180 0 62 (dk_at dksX4_slipOf_10 19 rfl rfl)
theorem dX4_slipOf_250 : decode cX4_slipOf 250 = .ok (.aload_n 0, 1) := dk_42 (dk_at dksX4_slipOf_10 22 rfl rfl)
theorem dX4_slipOf_251 : decode cX4_slipOf 251 = .ok (.getfield 172, 3) := dk_180 0 172 (dk_at dksX4_slipOf_11 0 rfl rfl)
theorem dX4_slipOf_254 : decode cX4_slipOf 254 = .ok (.iconst 1, 1) := dk_4 (dk_at dksX4_slipOf_11 3 rfl rfl)
theorem dX4_slipOf_255 : decode cX4_slipOf 255 = .ok (.isub, 1) := dk_100 (dk_at dksX4_slipOf_11 4 rfl rfl)
theorem dX4_slipOf_256 : decode cX4_slipOf 256 = .ok (.iaload, 1) := dk_46 (dk_at dksX4_slipOf_11 5 rfl rfl)
theorem dX4_slipOf_257 : decode cX4_slipOf 257 = .ok (.if_icmp .le 24, 3) := dk_164 0 24 (dk_at dksX4_slipOf_11 6 rfl rfl)
theorem dX4_slipOf_260 : decode cX4_slipOf 260 = .ok (.aload_n 0, 1) := dk_42 (dk_at dksX4_slipOf_11 9 rfl rfl)
theorem dX4_slipOf_261 : decode cX4_slipOf 261 = .ok (.getfield 62, 3) := dk_180 0 62 (dk_at dksX4_slipOf_11 10 rfl rfl)
theorem dX4_slipOf_264 : decode cX4_slipOf 264 = .ok (.aload_n 0, 1) := dk_42 (dk_at dksX4_slipOf_11 13 rfl rfl)
theorem dX4_slipOf_265 : decode cX4_slipOf 265 = .ok (.getfield 172, 3) := dk_180 0 172 (dk_at dksX4_slipOf_11 14 rfl rfl)
theorem dX4_slipOf_268 : decode cX4_slipOf 268 = .ok (.iconst 1, 1) := dk_4 (dk_at dksX4_slipOf_11 17 rfl rfl)
theorem dX4_slipOf_269 : decode cX4_slipOf 269 = .ok (.isub, 1) := dk_100 (dk_at dksX4_slipOf_11 18 rfl rfl)
theorem dX4_slipOf_270 : decode cX4_slipOf 270 = .ok (.iload_n 3, 1) := dk_29 (dk_at dksX4_slipOf_11 19 rfl rfl)
theorem dX4_slipOf_271 : decode cX4_slipOf 271 = .ok (.bipush 97, 2) := dk_16 97 (dk_at dksX4_slipOf_11 20 rfl rfl)
theorem dX4_slipOf_273 : decode cX4_slipOf 273 = .ok (.isub, 1) := dk_100 (dk_at dksX4_slipOf_11 22 rfl rfl)
theorem dX4_slipOf_274 : decode cX4_slipOf 274 = .ok (.iastore, 1) := dk_79 (dk_at dksX4_slipOf_11 23 rfl rfl)
theorem dX4_slipOf_275 : decode cX4_slipOf 275 = .ok (.iconst 0, 1) := dk_3 (dk_at dksX4_slipOf_12 0 rfl rfl)
theorem dX4_slipOf_276 : decode cX4_slipOf 276 = .ok (.istore 4, 2) := dk_54 4 (dk_at dksX4_slipOf_12 1 rfl rfl)
theorem dX4_slipOf_278 : decode cX4_slipOf 278 = .ok (.goto 76, 3) := dk_167 0 76 (dk_at dksX4_slipOf_12 3 rfl rfl)
theorem dX4_slipOf_281 : decode cX4_slipOf 281 = .ok (.iload_n 3, 1) := dk_29 (dk_at dksX4_slipOf_12 6 rfl rfl)
theorem dX4_slipOf_282 : decode cX4_slipOf 282 = .ok (.bipush 125, 2) := dk_16 125 (dk_at dksX4_slipOf_12 7 rfl rfl)
theorem dX4_slipOf_284 : decode cX4_slipOf 284 = .ok (.if_icmp .ne 70, 3) := dk_160 0 70 (dk_at dksX4_slipOf_12 9 rfl rfl)
theorem dX4_slipOf_287 : decode cX4_slipOf 287 = .ok (.aload_n 0, 1) := dk_42 (dk_at dksX4_slipOf_12 12 rfl rfl)
theorem dX4_slipOf_288 : decode cX4_slipOf 288 = .ok (.dup, 1) := dk_89 (dk_at dksX4_slipOf_12 13 rfl rfl)
theorem dX4_slipOf_289 : decode cX4_slipOf 289 = .ok (.getfield 172, 3) := dk_180 0 172 (dk_at dksX4_slipOf_12 14 rfl rfl)
theorem dX4_slipOf_292 : decode cX4_slipOf 292 = .ok (.iconst 1, 1) := dk_4 (dk_at dksX4_slipOf_12 17 rfl rfl)
theorem dX4_slipOf_293 : decode cX4_slipOf 293 = .ok (.isub, 1) := dk_100 (dk_at dksX4_slipOf_12 18 rfl rfl)
theorem dX4_slipOf_294 : decode cX4_slipOf 294 = .ok (.putfield 172, 3) := dk_181 0 172 (dk_at dksX4_slipOf_12 19 rfl rfl)
theorem dX4_slipOf_297 : decode cX4_slipOf 297 = .ok (.iconst 1, 1) := dk_4 (dk_at dksX4_slipOf_12 22 rfl rfl)
theorem dX4_slipOf_298 : decode cX4_slipOf 298 = .ok (.istore 5, 2) := dk_54 5 (dk_at dksX4_slipOf_13 0 rfl rfl)
theorem dX4_slipOf_300 : decode cX4_slipOf 300 = .ok (.goto 54, 3) := dk_167 0 54 (dk_at dksX4_slipOf_13 2 rfl rfl)
theorem dX4_slipOf_303 : decode cX4_slipOf 303 = .ok (.iload_n 1, 1) := dk_27 (dk_at dksX4_slipOf_13 5 rfl rfl)
theorem dX4_slipOf_304 : decode cX4_slipOf 304 = .ok (.iconst 3, 1) := dk_6 (dk_at dksX4_slipOf_13 6 rfl rfl)
theorem dX4_slipOf_305 : decode cX4_slipOf 305 = .ok (.if_icmp .ne 25, 3) := dk_160 0 25 (dk_at dksX4_slipOf_13 7 rfl rfl)
theorem dX4_slipOf_308 : decode cX4_slipOf 308 = .ok (.iload_n 3, 1) := dk_29 (dk_at dksX4_slipOf_13 10 rfl rfl)
theorem dX4_slipOf_309 : decode cX4_slipOf 309 = .ok (.bipush 97, 2) := dk_16 97 (dk_at dksX4_slipOf_13 11 rfl rfl)
theorem dX4_slipOf_311 : decode cX4_slipOf 311 = .ok (.bipush 104, 2) := dk_16 104 (dk_at dksX4_slipOf_13 13 rfl rfl)
theorem dX4_slipOf_313 : decode cX4_slipOf 313 = .ok (.invokestatic 84, 3) := dk_184 0 84 (dk_at dksX4_slipOf_13 15 rfl rfl)
theorem dX4_slipOf_316 : decode cX4_slipOf 316 = .ok (.ifCond .eq 7, 3) := dk_153 0 7 (dk_at dksX4_slipOf_13 18 rfl rfl)
theorem dX4_slipOf_319 : decode cX4_slipOf 319 = .ok (.iconst 0, 1) := dk_3 (dk_at dksX4_slipOf_13 21 rfl rfl)
theorem dX4_slipOf_320 : decode cX4_slipOf 320 = .ok (.goto 5, 3) := dk_167 0 5 (dk_at dksX4_slipOf_14 0 rfl rfl)
theorem dX4_slipOf_323 : decode cX4_slipOf 323 = .ok (.bipush (-6), 2) := dk_16 250 (dk_at dksX4_slipOf_14 3 rfl rfl)
theorem dX4_slipOf_325 : decode cX4_slipOf 325 = .ok (.istore 4, 2) := dk_54 4 (dk_at dksX4_slipOf_14 5 rfl rfl)
theorem dX4_slipOf_327 : decode cX4_slipOf 327 = .ok (.goto 27, 3) := dk_167 0 27 (dk_at dksX4_slipOf_14 7 rfl rfl)
theorem dX4_slipOf_330 : decode cX4_slipOf 330 = .ok (.iload_n 1, 1) := dk_27 (dk_at dksX4_slipOf_14 10 rfl rfl)
theorem dX4_slipOf_331 : decode cX4_slipOf 331 = .ok (.iconst 4, 1) := dk_7 (dk_at dksX4_slipOf_14 11 rfl rfl)
theorem dX4_slipOf_332 : decode cX4_slipOf 332 = .ok (.if_icmp .ne 22, 3) := dk_160 0 22 (dk_at dksX4_slipOf_14 12 rfl rfl)
theorem dX4_slipOf_335 : decode cX4_slipOf 335 = .ok (.iload_n 3, 1) := dk_29 (dk_at dksX4_slipOf_14 15 rfl rfl)
theorem dX4_slipOf_336 : decode cX4_slipOf 336 = .ok (.bipush 93, 2) := dk_16 93 (dk_at dksX4_slipOf_14 16 rfl rfl)
theorem dX4_slipOf_338 : decode cX4_slipOf 338 = .ok (.if_icmp .ne 16, 3) := dk_160 0 16 (dk_at dksX4_slipOf_14 18 rfl rfl)
theorem dX4_slipOf_341 : decode cX4_slipOf 341 = .ok (.aload_n 0, 1) := dk_42 (dk_at dksX4_slipOf_14 21 rfl rfl)
theorem dX4_slipOf_342 : decode cX4_slipOf 342 = .ok (.dup, 1) := dk_89 (dk_at dksX4_slipOf_14 22 rfl rfl)
theorem dX4_slipOf_343 : decode cX4_slipOf 343 = .ok (.getfield 172, 3) := dk_180 0 172 (dk_at dksX4_slipOf_15 0 rfl rfl)
theorem dX4_slipOf_346 : decode cX4_slipOf 346 = .ok (.iconst 1, 1) := dk_4 (dk_at dksX4_slipOf_15 3 rfl rfl)
theorem dX4_slipOf_347 : decode cX4_slipOf 347 = .ok (.isub, 1) := dk_100 (dk_at dksX4_slipOf_15 4 rfl rfl)
theorem dX4_slipOf_348 : decode cX4_slipOf 348 = .ok (.putfield 172, 3) := dk_181 0 172 (dk_at dksX4_slipOf_15 5 rfl rfl)
theorem dX4_slipOf_351 : decode cX4_slipOf 351 = .ok (.iconst 1, 1) := dk_4 (dk_at dksX4_slipOf_15 8 rfl rfl)
theorem dX4_slipOf_352 : decode cX4_slipOf 352 = .ok (.istore 5, 2) := dk_54 5 (dk_at dksX4_slipOf_15 9 rfl rfl)
theorem dX4_slipOf_354 : decode cX4_slipOf 354 = .ok (.iload 5, 2) := dk_21 5 (dk_at dksX4_slipOf_15 11 rfl rfl)
theorem dX4_slipOf_356 : decode cX4_slipOf 356 = .ok (.ifCond .eq 58, 3) := dk_153 0 58 (dk_at dksX4_slipOf_15 13 rfl rfl)
theorem dX4_slipOf_359 : decode cX4_slipOf 359 = .ok (.aload_n 0, 1) := dk_42 (dk_at dksX4_slipOf_15 16 rfl rfl)
theorem dX4_slipOf_360 : decode cX4_slipOf 360 = .ok (.getfield 172, 3) := dk_180 0 172 (dk_at dksX4_slipOf_15 17 rfl rfl)
theorem dX4_slipOf_363 : decode cX4_slipOf 363 = .ok (.ifCond .ne 8, 3) := dk_154 0 8 (dk_at dksX4_slipOf_15 20 rfl rfl)
theorem dX4_slipOf_366 : decode cX4_slipOf 366 = .ok (.bipush 6, 2) := dk_16 6 (dk_at dksX4_slipOf_16 0 rfl rfl)
theorem dX4_slipOf_368 : decode cX4_slipOf 368 = .ok (.goto 44, 3) := dk_167 0 44 (dk_at dksX4_slipOf_16 2 rfl rfl)
theorem dX4_slipOf_371 : decode cX4_slipOf 371 = .ok (.aload_n 0, 1) := dk_42 (dk_at dksX4_slipOf_16 5 rfl rfl)
theorem dX4_slipOf_372 : decode cX4_slipOf 372 = .ok (.getfield 59, 3) := dk_180 0 59 (dk_at dksX4_slipOf_16 6 rfl rfl)
theorem dX4_slipOf_375 : decode cX4_slipOf 375 = .ok (.aload_n 0, 1) := dk_42 (dk_at dksX4_slipOf_16 9 rfl rfl)
theorem dX4_slipOf_376 : decode cX4_slipOf 376 = .ok (.getfield 172, 3) := dk_180 0 172 (dk_at dksX4_slipOf_16 10 rfl rfl)
theorem dX4_slipOf_379 : decode cX4_slipOf 379 = .ok (.iconst 1, 1) := dk_4 (dk_at dksX4_slipOf_16 13 rfl rfl)
theorem dX4_slipOf_380 : decode cX4_slipOf 380 = .ok (.isub, 1) := dk_100 (dk_at dksX4_slipOf_16 14 rfl rfl)
theorem dX4_slipOf_381 : decode cX4_slipOf 381 = .ok (.iaload, 1) := dk_46 (dk_at dksX4_slipOf_16 15 rfl rfl)
theorem dX4_slipOf_382 : decode cX4_slipOf 382 = .ok (.bipush 123, 2) := dk_16 123 (dk_at dksX4_slipOf_16 16 rfl rfl)
theorem dX4_slipOf_384 : decode cX4_slipOf 384 = .ok (.if_icmp .ne 7, 3) := dk_160 0 7 (dk_at dksX4_slipOf_16 18 rfl rfl)
theorem dX4_slipOf_387 : decode cX4_slipOf 387 = .ok (.iconst 2, 1) := dk_5 (dk_at dksX4_slipOf_16 21 rfl rfl)
theorem dX4_slipOf_388 : decode cX4_slipOf 388 = .ok (.goto 24, 3) := dk_167 0 24 (dk_at dksX4_slipOf_17 0 rfl rfl)
theorem dX4_slipOf_391 : decode cX4_slipOf 391 = .ok (.aload_n 0, 1) := dk_42 (dk_at dksX4_slipOf_17 3 rfl rfl)
theorem dX4_slipOf_392 : decode cX4_slipOf 392 = .ok (.getfield 59, 3) := dk_180 0 59 (dk_at dksX4_slipOf_17 4 rfl rfl)
theorem dX4_slipOf_395 : decode cX4_slipOf 395 = .ok (.aload_n 0, 1) := dk_42 (dk_at dksX4_slipOf_17 7 rfl rfl)
theorem dX4_slipOf_396 : decode cX4_slipOf 396 = .ok (.getfield 172, 3) := dk_180 0 172 (dk_at dksX4_slipOf_17 8 rfl rfl)
theorem dX4_slipOf_399 : decode cX4_slipOf 399 = .ok (.iconst 1, 1) := dk_4 (dk_at dksX4_slipOf_17 11 rfl rfl)
theorem dX4_slipOf_400 : decode cX4_slipOf 400 = .ok (.isub, 1) := dk_100 (dk_at dksX4_slipOf_17 12 rfl rfl)
theorem dX4_slipOf_401 : decode cX4_slipOf 401 = .ok (.iaload, 1) := dk_46 (dk_at dksX4_slipOf_17 13 rfl rfl)
theorem dX4_slipOf_402 : decode cX4_slipOf 402 = .ok (.bipush 91, 2) := dk_16 91 (dk_at dksX4_slipOf_17 14 rfl rfl)
theorem dX4_slipOf_404 : decode cX4_slipOf 404 = .ok (.if_icmp .ne 7, 3) := dk_160 0 7 (dk_at dksX4_slipOf_17 16 rfl rfl)
theorem dX4_slipOf_407 : decode cX4_slipOf 407 = .ok (.iconst 4, 1) := dk_7 (dk_at dksX4_slipOf_17 19 rfl rfl)
theorem dX4_slipOf_408 : decode cX4_slipOf 408 = .ok (.goto 4, 3) := dk_167 0 4 (dk_at dksX4_slipOf_17 20 rfl rfl)
theorem dX4_slipOf_411 : decode cX4_slipOf 411 = .ok (.iconst 5, 1) := dk_8 (dk_at dksX4_slipOf_17 23 rfl rfl)
theorem dX4_slipOf_412 : decode cX4_slipOf 412 = .ok (.istore 4, 2) := dk_54 4 (dk_at dksX4_slipOf_18 0 rfl rfl)
theorem dX4_slipOf_414 : decode cX4_slipOf 414 = .ok (.iload 4, 2) := dk_21 4 (dk_at dksX4_slipOf_18 2 rfl rfl)
theorem dX4_slipOf_416 : decode cX4_slipOf 416 = .ok (.ifCond .ge 5, 3) := dk_156 0 5 (dk_at dksX4_slipOf_18 4 rfl rfl)
theorem dX4_slipOf_419 : decode cX4_slipOf 419 = .ok (.iload_n 2, 1) := dk_28 (dk_at dksX4_slipOf_18 7 rfl rfl)
theorem dX4_slipOf_420 : decode cX4_slipOf 420 = .ok (.ireturn, 1) := dk_172 (dk_at dksX4_slipOf_18 8 rfl rfl)
theorem dX4_slipOf_421 : decode cX4_slipOf 421 = .ok (.iload 4, 2) := dk_21 4 (dk_at dksX4_slipOf_18 9 rfl rfl)
theorem dX4_slipOf_423 : decode cX4_slipOf 423 = .ok (.istore_n 1, 1) := dk_60 (dk_at dksX4_slipOf_18 11 rfl rfl)
theorem dX4_slipOf_424 : decode cX4_slipOf 424 = .ok (.iinc 2 1, 3) := dk_132 2 1 (dk_at dksX4_slipOf_18 12 rfl rfl)
theorem dX4_slipOf_427 : decode cX4_slipOf 427 = .ok (.goto (-413), 3) := dk_167 254 99 (dk_at dksX4_slipOf_18 15 rfl rfl)
theorem dX4_slipOf_430 : decode cX4_slipOf 430 = .ok (.iload_n 1, 1) := dk_27 (dk_at dksX4_slipOf_18 18 rfl rfl)
theorem dX4_slipOf_431 : decode cX4_slipOf 431 = .ok (.bipush 6, 2) := dk_16 6 (dk_at dksX4_slipOf_18 19 rfl rfl)
theorem dX4_slipOf_433 : decode cX4_slipOf 433 = .ok (.if_icmp .ne 8, 3) := dk_160 0 8 (dk_at dksX4_slipOf_18 21 rfl rfl)
theorem dX4_slipOf_436 : decode cX4_slipOf 436 = .ok (.bipush (-6), 2) := dk_16 250 (dk_at dksX4_slipOf_19 0 rfl rfl)
theorem dX4_slipOf_438 : decode cX4_slipOf 438 = .ok (.goto 7, 3) := dk_167 0 7 (dk_at dksX4_slipOf_19 2 rfl rfl)
theorem dX4_slipOf_441 : decode cX4_slipOf 441 = .ok (.aload_n 0, 1) := dk_42 (dk_at dksX4_slipOf_19 5 rfl rfl)
theorem dX4_slipOf_442 : decode cX4_slipOf 442 = .ok (.getfield 88, 3) := dk_180 0 88 (dk_at dksX4_slipOf_19 6 rfl rfl)
theorem dX4_slipOf_445 : decode cX4_slipOf 445 = .ok (.ireturn, 1) := dk_172 (dk_at dksX4_slipOf_19 9 rfl rfl)
abbrev cX4_size : ByteArray := prog_6_method_33_code
def yX4_size : MethodName := ⟨RX4, "size", "()I"⟩
def dkwX4_size_0 : List UInt8 := [42, 182, 0, 175, 155, 0, 8, 16, 251, 167, 0, 7, 42, 180, 0, 169, 172]
abbrev dktX4_size_0 : List UInt8 := dkwX4_size_0 ++ []
theorem dksX4_size_0 : cX4_size.data.toList.drop 0 = dktX4_size_0 := by decide +kernel
theorem dX4_size_0 : decode cX4_size 0 = .ok (.aload_n 0, 1) := dk_42 (dk_at dksX4_size_0 0 rfl rfl)
theorem dX4_size_1 : decode cX4_size 1 = .ok (.invokevirtual 175, 3) := dk_182 0 175 (dk_at dksX4_size_0 1 rfl rfl)
theorem dX4_size_4 : decode cX4_size 4 = .ok (.ifCond .lt 8, 3) := dk_155 0 8 (dk_at dksX4_size_0 4 rfl rfl)
theorem dX4_size_7 : decode cX4_size 7 = .ok (.bipush (-5), 2) := dk_16 251 (dk_at dksX4_size_0 7 rfl rfl)
theorem dX4_size_9 : decode cX4_size 9 = .ok (.goto 7, 3) := dk_167 0 7 (dk_at dksX4_size_0 9 rfl rfl)
theorem dX4_size_12 : decode cX4_size 12 = .ok (.aload_n 0, 1) := dk_42 (dk_at dksX4_size_0 12 rfl rfl)
theorem dX4_size_13 : decode cX4_size 13 = .ok (.getfield 169, 3) := dk_180 0 169 (dk_at dksX4_size_0 13 rfl rfl)
theorem dX4_size_16 : decode cX4_size 16 = .ok (.ireturn, 1) := dk_172 (dk_at dksX4_size_0 16 rfl rfl)
abbrev cX4_fits : ByteArray := prog_6_method_35_code
def yX4_fits : MethodName := ⟨RX4, "fits", "(I)I"⟩
def dkwX4_fits_22 : List UInt8 := [167, 0, 5, 18, 137, 61, 167, 254, 21, 16, 250, 172]
abbrev dktX4_fits_22 : List UInt8 := dkwX4_fits_22 ++ []
def dkwX4_fits_21 : List UInt8 := [158, 0, 27, 42, 180, 0, 59, 42, 180, 0, 172, 4, 100, 46, 16, 40, 160, 0, 11, 42, 3, 182, 0, 178]
abbrev dktX4_fits_21 : List UInt8 := dkwX4_fits_21 ++ dktX4_fits_22
def dkwX4_fits_20 : List UInt8 := [159, 0, 5, 29, 172, 29, 21, 4, 16, 36, 160, 0, 7, 5, 167, 0, 4, 4, 96, 62, 42, 180, 0, 172]
abbrev dktX4_fits_20 : List UInt8 := dkwX4_fits_20 ++ dktX4_fits_21
def dkwX4_fits_19 : List UInt8 := [16, 70, 160, 0, 8, 16, 116, 167, 0, 5, 16, 110, 54, 8, 21, 7, 154, 0, 12, 21, 6, 21, 8]
abbrev dktX4_fits_19 : List UInt8 := dkwX4_fits_19 ++ dktX4_fits_20
def dkwX4_fits_18 : List UInt8 := [167, 254, 122, 21, 4, 16, 36, 160, 0, 8, 16, 115, 167, 0, 24, 21, 4, 16, 84, 159, 0, 10, 21, 4]
abbrev dktX4_fits_18 : List UInt8 := dkwX4_fits_18 ++ dktX4_fits_19
def dkwX4_fits_17 : List UInt8 := [153, 0, 8, 16, 250, 167, 0, 5, 21, 5, 182, 0, 181, 42, 21, 8, 182, 0, 178, 61, 132, 3, 2]
abbrev dktX4_fits_17 : List UInt8 := dkwX4_fits_17 ++ dktX4_fits_18
def dkwX4_fits_16 : List UInt8 := [42, 180, 0, 16, 16, 8, 21, 5, 104, 21, 8, 96, 46, 156, 0, 5, 29, 172, 42, 21, 4, 21, 7]
abbrev dktX4_fits_16 : List UInt8 := dkwX4_fits_16 ++ dktX4_fits_17
def dkwX4_fits_15 : List UInt8 := [180, 0, 7, 29, 4, 96, 46, 16, 97, 100, 54, 8, 21, 7, 154, 0, 28, 21, 6, 16, 91, 160, 0, 19]
abbrev dktX4_fits_15 : List UInt8 := dkwX4_fits_15 ++ dktX4_fits_16
def dkwX4_fits_14 : List UInt8 := [167, 0, 5, 21, 5, 182, 0, 181, 132, 3, 1, 167, 0, 148, 21, 4, 16, 91, 160, 0, 77, 42]
abbrev dktX4_fits_14 : List UInt8 := dkwX4_fits_14 ++ dktX4_fits_15
def dkwX4_fits_13 : List UInt8 := [16, 123, 167, 0, 5, 16, 42, 159, 0, 5, 29, 172, 42, 21, 4, 21, 7, 153, 0, 8, 16, 250]
abbrev dktX4_fits_13 : List UInt8 := dkwX4_fits_13 ++ dktX4_fits_14
def dkwX4_fits_12 : List UInt8 := [159, 0, 10, 21, 4, 16, 40, 160, 0, 53, 21, 7, 154, 0, 24, 21, 6, 21, 4, 16, 123, 160, 0, 8]
abbrev dktX4_fits_12 : List UInt8 := dkwX4_fits_12 ++ dktX4_fits_13
def dkwX4_fits_11 : List UInt8 := [128, 79, 42, 21, 4, 16, 97, 100, 182, 0, 178, 61, 132, 3, 1, 167, 255, 11, 21, 4, 16, 123]
abbrev dktX4_fits_11 : List UInt8 := dkwX4_fits_11 ++ dktX4_fits_12
def dkwX4_fits_10 : List UInt8 := [18, 137, 160, 0, 40, 42, 180, 0, 68, 42, 180, 0, 172, 4, 100, 92, 46, 4, 21, 4, 16, 97, 100, 120]
abbrev dktX4_fits_10 : List UInt8 := dkwX4_fits_10 ++ dktX4_fits_11
def dkwX4_fits_9 : List UInt8 := [180, 0, 172, 4, 100, 46, 16, 123, 160, 0, 58, 21, 4, 16, 97, 16, 104, 184, 0, 84, 153, 0, 46, 28]
abbrev dktX4_fits_9 : List UInt8 := dkwX4_fits_9 ++ dktX4_fits_10
def dkwX4_fits_8 : List UInt8 := [132, 9, 1, 167, 255, 199, 132, 3, 1, 167, 1, 34, 42, 180, 0, 172, 158, 0, 74, 42, 180, 0, 59, 42]
abbrev dktX4_fits_8 : List UInt8 := dkwX4_fits_8 ++ dktX4_fits_9
def dkwX4_fits_7 : List UInt8 := [46, 155, 0, 22, 42, 180, 0, 68, 42, 180, 0, 172, 46, 21, 9, 122, 4, 126, 154, 0, 5, 29, 172]
abbrev dktX4_fits_7 : List UInt8 := dkwX4_fits_7 ++ dktX4_fits_8
def dkwX4_fits_6 : List UInt8 := [21, 4, 16, 125, 160, 0, 49, 21, 8, 155, 0, 44, 42, 180, 0, 16, 16, 8, 21, 8, 104, 21, 9, 96]
abbrev dktX4_fits_6 : List UInt8 := dkwX4_fits_6 ++ dktX4_fits_7
def dkwX4_fits_5 : List UInt8 := [181, 0, 172, 42, 180, 0, 65, 42, 180, 0, 172, 46, 54, 8, 3, 54, 9, 21, 9, 16, 8, 162, 0, 56]
abbrev dktX4_fits_5 : List UInt8 := dkwX4_fits_5 ++ dktX4_fits_6
def dkwX4_fits_4 : List UInt8 := [159, 0, 17, 21, 4, 16, 93, 159, 0, 10, 21, 4, 16, 41, 160, 0, 93, 42, 89, 180, 0, 172, 4, 100]
abbrev dktX4_fits_4 : List UInt8 := dkwX4_fits_4 ++ dktX4_fits_5
def dkwX4_fits_3 : List UInt8 := [21, 5, 46, 54, 6, 21, 6, 16, 46, 160, 0, 7, 4, 167, 0, 4, 3, 54, 7, 21, 4, 16, 125]
abbrev dktX4_fits_3 : List UInt8 := dkwX4_fits_3 ++ dktX4_fits_4
def dkwX4_fits_2 : List UInt8 := [54, 5, 21, 5, 155, 0, 10, 21, 5, 18, 137, 160, 0, 8, 16, 46, 167, 0, 10, 42, 180, 0, 13]
abbrev dktX4_fits_2 : List UInt8 := dkwX4_fits_2 ++ dktX4_fits_3
def dkwX4_fits_1 : List UInt8 := [181, 0, 172, 27, 61, 3, 62, 29, 42, 180, 0, 88, 162, 1, 233, 42, 180, 0, 7, 29, 46, 54, 4, 28]
abbrev dktX4_fits_1 : List UInt8 := dkwX4_fits_1 ++ dktX4_fits_2
def dkwX4_fits_0 : List UInt8 := [42, 27, 182, 0, 123, 154, 0, 5, 2, 172, 42, 182, 0, 175, 155, 0, 6, 16, 251, 172, 42, 3]
abbrev dktX4_fits_0 : List UInt8 := dkwX4_fits_0 ++ dktX4_fits_1
theorem dksX4_fits_0 : cX4_fits.data.toList.drop 0 = dktX4_fits_0 := by decide +kernel
theorem dksX4_fits_1 : cX4_fits.data.toList.drop 22 = dktX4_fits_1 := dk_seg dksX4_fits_0 22 rfl rfl
theorem dksX4_fits_2 : cX4_fits.data.toList.drop 46 = dktX4_fits_2 := dk_seg dksX4_fits_1 24 rfl rfl
theorem dksX4_fits_3 : cX4_fits.data.toList.drop 69 = dktX4_fits_3 := dk_seg dksX4_fits_2 23 rfl rfl
theorem dksX4_fits_4 : cX4_fits.data.toList.drop 92 = dktX4_fits_4 := dk_seg dksX4_fits_3 23 rfl rfl
theorem dksX4_fits_5 : cX4_fits.data.toList.drop 116 = dktX4_fits_5 := dk_seg dksX4_fits_4 24 rfl rfl
theorem dksX4_fits_6 : cX4_fits.data.toList.drop 140 = dktX4_fits_6 := dk_seg dksX4_fits_5 24 rfl rfl
theorem dksX4_fits_7 : cX4_fits.data.toList.drop 164 = dktX4_fits_7 := dk_seg dksX4_fits_6 24 rfl rfl
theorem dksX4_fits_8 : cX4_fits.data.toList.drop 187 = dktX4_fits_8 := dk_seg dksX4_fits_7 23 rfl rfl
theorem dksX4_fits_9 : cX4_fits.data.toList.drop 211 = dktX4_fits_9 := dk_seg dksX4_fits_8 24 rfl rfl
theorem dksX4_fits_10 : cX4_fits.data.toList.drop 235 = dktX4_fits_10 := dk_seg dksX4_fits_9 24 rfl rfl
theorem dksX4_fits_11 : cX4_fits.data.toList.drop 259 = dktX4_fits_11 := dk_seg dksX4_fits_10 24 rfl rfl
theorem dksX4_fits_12 : cX4_fits.data.toList.drop 281 = dktX4_fits_12 := dk_seg dksX4_fits_11 22 rfl rfl
theorem dksX4_fits_13 : cX4_fits.data.toList.drop 305 = dktX4_fits_13 := dk_seg dksX4_fits_12 24 rfl rfl
theorem dksX4_fits_14 : cX4_fits.data.toList.drop 327 = dktX4_fits_14 := dk_seg dksX4_fits_13 22 rfl rfl
theorem dksX4_fits_15 : cX4_fits.data.toList.drop 349 = dktX4_fits_15 := dk_seg dksX4_fits_14 22 rfl rfl
theorem dksX4_fits_16 : cX4_fits.data.toList.drop 373 = dktX4_fits_16 := dk_seg dksX4_fits_15 24 rfl rfl
theorem dksX4_fits_17 : cX4_fits.data.toList.drop 396 = dktX4_fits_17 := dk_seg dksX4_fits_16 23 rfl rfl
theorem dksX4_fits_18 : cX4_fits.data.toList.drop 419 = dktX4_fits_18 := dk_seg dksX4_fits_17 23 rfl rfl
theorem dksX4_fits_19 : cX4_fits.data.toList.drop 443 = dktX4_fits_19 := dk_seg dksX4_fits_18 24 rfl rfl
theorem dksX4_fits_20 : cX4_fits.data.toList.drop 466 = dktX4_fits_20 := dk_seg dksX4_fits_19 23 rfl rfl
theorem dksX4_fits_21 : cX4_fits.data.toList.drop 490 = dktX4_fits_21 := dk_seg dksX4_fits_20 24 rfl rfl
theorem dksX4_fits_22 : cX4_fits.data.toList.drop 514 = dktX4_fits_22 := dk_seg dksX4_fits_21 24 rfl rfl
theorem dX4_fits_0 : decode cX4_fits 0 = .ok (.aload_n 0, 1) := dk_42 (dk_at dksX4_fits_0 0 rfl rfl)
theorem dX4_fits_1 : decode cX4_fits 1 = .ok (.iload_n 1, 1) := dk_27 (dk_at dksX4_fits_0 1 rfl rfl)
theorem dX4_fits_2 : decode cX4_fits 2 = .ok (.invokevirtual 123, 3) := dk_182 0 123 (dk_at dksX4_fits_0 2 rfl rfl)
theorem dX4_fits_5 : decode cX4_fits 5 = .ok (.ifCond .ne 5, 3) := dk_154 0 5 (dk_at dksX4_fits_0 5 rfl rfl)
theorem dX4_fits_8 : decode cX4_fits 8 = .ok (.iconst (-1), 1) := dk_2 (dk_at dksX4_fits_0 8 rfl rfl)
theorem dX4_fits_9 : decode cX4_fits 9 = .ok (.ireturn, 1) := dk_172 (dk_at dksX4_fits_0 9 rfl rfl)
theorem dX4_fits_10 : decode cX4_fits 10 = .ok (.aload_n 0, 1) := dk_42 (dk_at dksX4_fits_0 10 rfl rfl)
theorem dX4_fits_11 : decode cX4_fits 11 = .ok (.invokevirtual 175, 3) := dk_182 0 175 (dk_at dksX4_fits_0 11 rfl rfl)
theorem dX4_fits_14 : decode cX4_fits 14 = .ok (.ifCond .lt 6, 3) := dk_155 0 6 (dk_at dksX4_fits_0 14 rfl rfl)
theorem dX4_fits_17 : decode cX4_fits 17 = .ok (.bipush (-5), 2) := dk_16 251 (dk_at dksX4_fits_0 17 rfl rfl)
theorem dX4_fits_19 : decode cX4_fits 19 = .ok (.ireturn, 1) := dk_172 (dk_at dksX4_fits_0 19 rfl rfl)
theorem dX4_fits_20 : decode cX4_fits 20 = .ok (.aload_n 0, 1) := dk_42 (dk_at dksX4_fits_0 20 rfl rfl)
theorem dX4_fits_21 : decode cX4_fits 21 = .ok (.iconst 0, 1) := dk_3 (dk_at dksX4_fits_0 21 rfl rfl)
theorem dX4_fits_22 : decode cX4_fits 22 = .ok (.putfield 172, 3) := dk_181 0 172 (dk_at dksX4_fits_1 0 rfl rfl)
theorem dX4_fits_25 : decode cX4_fits 25 = .ok (.iload_n 1, 1) := dk_27 (dk_at dksX4_fits_1 3 rfl rfl)
theorem dX4_fits_26 : decode cX4_fits 26 = .ok (.istore_n 2, 1) := dk_61 (dk_at dksX4_fits_1 4 rfl rfl)
theorem dX4_fits_27 : decode cX4_fits 27 = .ok (.iconst 0, 1) := dk_3 (dk_at dksX4_fits_1 5 rfl rfl)
theorem dX4_fits_28 : decode cX4_fits 28 = .ok (.istore_n 3, 1) := dk_62 (dk_at dksX4_fits_1 6 rfl rfl)
theorem dX4_fits_29 : decode cX4_fits 29 = .ok (.iload_n 3, 1) := dk_29 (dk_at dksX4_fits_1 7 rfl rfl)
theorem dX4_fits_30 : decode cX4_fits 30 = .ok (.aload_n 0, 1) := dk_42 (dk_at dksX4_fits_1 8 rfl rfl)
theorem dX4_fits_31 : decode cX4_fits 31 = .ok (.getfield 88, 3) := dk_180 0 88 (dk_at dksX4_fits_1 9 rfl rfl)
theorem dX4_fits_34 : decode cX4_fits 34 = .ok (.if_icmp .ge 489, 3) := dk_162 1 233 (dk_at dksX4_fits_1 12 rfl rfl)
theorem dX4_fits_37 : decode cX4_fits 37 = .ok (.aload_n 0, 1) := dk_42 (dk_at dksX4_fits_1 15 rfl rfl)
theorem dX4_fits_38 : decode cX4_fits 38 = .ok (.getfield 7, 3) := dk_180 0 7 (dk_at dksX4_fits_1 16 rfl rfl)
theorem dX4_fits_41 : decode cX4_fits 41 = .ok (.iload_n 3, 1) := dk_29 (dk_at dksX4_fits_1 19 rfl rfl)
theorem dX4_fits_42 : decode cX4_fits 42 = .ok (.iaload, 1) := dk_46 (dk_at dksX4_fits_1 20 rfl rfl)
theorem dX4_fits_43 : decode cX4_fits 43 = .ok (.istore 4, 2) := dk_54 4 (dk_at dksX4_fits_1 21 rfl rfl)
theorem dX4_fits_45 : decode cX4_fits 45 = .ok (.iload_n 2, 1) := dk_28 (dk_at dksX4_fits_1 23 rfl rfl)
theorem dX4_fits_46 : decode cX4_fits 46 = .ok (.istore 5, 2) := dk_54 5 (dk_at dksX4_fits_2 0 rfl rfl)
theorem dX4_fits_48 : decode cX4_fits 48 = .ok (.iload 5, 2) := dk_21 5 (dk_at dksX4_fits_2 2 rfl rfl)
theorem dX4_fits_50 : decode cX4_fits 50 = .ok (.ifCond .lt 10, 3) := dk_155 0 10 (dk_at dksX4_fits_2 4 rfl rfl)
theorem dX4_fits_53 : decode cX4_fits 53 = .ok (.iload 5, 2) := dk_21 5 (dk_at dksX4_fits_2 7 rfl rfl)
theorem dX4_fits_55 : decode cX4_fits 55 = .ok (.ldc 137, 2) := dk_18 137 (dk_at dksX4_fits_2 9 rfl rfl)
theorem dX4_fits_57 : decode cX4_fits 57 = .ok (.if_icmp .ne 8, 3) := dk_160 0 8 (dk_at dksX4_fits_2 11 rfl rfl)
theorem dX4_fits_60 : decode cX4_fits 60 = .ok (.bipush 46, 2) := dk_16 46 (dk_at dksX4_fits_2 14 rfl rfl)
theorem dX4_fits_62 : decode cX4_fits 62 = .ok (.goto 10, 3) := dk_167 0 10 (dk_at dksX4_fits_2 16 rfl rfl)
theorem dX4_fits_65 : decode cX4_fits 65 = .ok (.aload_n 0, 1) := dk_42 (dk_at dksX4_fits_2 19 rfl rfl)
theorem dX4_fits_66 : decode cX4_fits 66 = .ok (.getfield 13, 3) := dk_180 0 13 (dk_at dksX4_fits_2 20 rfl rfl)
theorem dX4_fits_69 : decode cX4_fits 69 = .ok (.iload 5, 2) := dk_21 5 (dk_at dksX4_fits_3 0 rfl rfl)
theorem dX4_fits_71 : decode cX4_fits 71 = .ok (.iaload, 1) := dk_46 (dk_at dksX4_fits_3 2 rfl rfl)
theorem dX4_fits_72 : decode cX4_fits 72 = .ok (.istore 6, 2) := dk_54 6 (dk_at dksX4_fits_3 3 rfl rfl)
theorem dX4_fits_74 : decode cX4_fits 74 = .ok (.iload 6, 2) := dk_21 6 (dk_at dksX4_fits_3 5 rfl rfl)
theorem dX4_fits_76 : decode cX4_fits 76 = .ok (.bipush 46, 2) := dk_16 46 (dk_at dksX4_fits_3 7 rfl rfl)
theorem dX4_fits_78 : decode cX4_fits 78 = .ok (.if_icmp .ne 7, 3) := dk_160 0 7 (dk_at dksX4_fits_3 9 rfl rfl)
theorem dX4_fits_81 : decode cX4_fits 81 = .ok (.iconst 1, 1) := dk_4 (dk_at dksX4_fits_3 12 rfl rfl)
theorem dX4_fits_82 : decode cX4_fits 82 = .ok (.goto 4, 3) := dk_167 0 4 (dk_at dksX4_fits_3 13 rfl rfl)
theorem dX4_fits_85 : decode cX4_fits 85 = .ok (.iconst 0, 1) := dk_3 (dk_at dksX4_fits_3 16 rfl rfl)
theorem dX4_fits_86 : decode cX4_fits 86 = .ok (.istore 7, 2) := dk_54 7 (dk_at dksX4_fits_3 17 rfl rfl)
theorem dX4_fits_88 : decode cX4_fits 88 = .ok (.iload 4, 2) := dk_21 4 (dk_at dksX4_fits_3 19 rfl rfl)
theorem dX4_fits_90 : decode cX4_fits 90 = .ok (.bipush 125, 2) := dk_16 125 (dk_at dksX4_fits_3 21 rfl rfl)
theorem dX4_fits_92 : decode cX4_fits 92 = .ok (.if_icmp .eq 17, 3) := dk_159 0 17 (dk_at dksX4_fits_4 0 rfl rfl)
theorem dX4_fits_95 : decode cX4_fits 95 = .ok (.iload 4, 2) := dk_21 4 (dk_at dksX4_fits_4 3 rfl rfl)
theorem dX4_fits_97 : decode cX4_fits 97 = .ok (.bipush 93, 2) := dk_16 93 (dk_at dksX4_fits_4 5 rfl rfl)
theorem dX4_fits_99 : decode cX4_fits 99 = .ok (.if_icmp .eq 10, 3) := dk_159 0 10 (dk_at dksX4_fits_4 7 rfl rfl)
theorem dX4_fits_102 : decode cX4_fits 102 = .ok (.iload 4, 2) := dk_21 4 (dk_at dksX4_fits_4 10 rfl rfl)
theorem dX4_fits_104 : decode cX4_fits 104 = .ok (.bipush 41, 2) := dk_16 41 (dk_at dksX4_fits_4 12 rfl rfl)
theorem dX4_fits_106 : decode cX4_fits 106 = .ok (.if_icmp .ne 93, 3) := dk_160 0 93 (dk_at dksX4_fits_4 14 rfl rfl)
theorem dX4_fits_109 : decode cX4_fits 109 = .ok (.aload_n 0, 1) := dk_42 (dk_at dksX4_fits_4 17 rfl rfl)
theorem dX4_fits_110 : decode cX4_fits 110 = .ok (.dup, 1) := dk_89 (dk_at dksX4_fits_4 18 rfl rfl)
theorem dX4_fits_111 : decode cX4_fits 111 = .ok (.getfield 172, 3) := dk_180 0 172 (dk_at dksX4_fits_4 19 rfl rfl)
theorem dX4_fits_114 : decode cX4_fits 114 = .ok (.iconst 1, 1) := dk_4 (dk_at dksX4_fits_4 22 rfl rfl)
theorem dX4_fits_115 : decode cX4_fits 115 = .ok (.isub, 1) := dk_100 (dk_at dksX4_fits_4 23 rfl rfl)
theorem dX4_fits_116 : decode cX4_fits 116 = .ok (.putfield 172, 3) := dk_181 0 172 (dk_at dksX4_fits_5 0 rfl rfl)
theorem dX4_fits_119 : decode cX4_fits 119 = .ok (.aload_n 0, 1) := dk_42 (dk_at dksX4_fits_5 3 rfl rfl)
theorem dX4_fits_120 : decode cX4_fits 120 = .ok (.getfield 65, 3) := dk_180 0 65 (dk_at dksX4_fits_5 4 rfl rfl)
theorem dX4_fits_123 : decode cX4_fits 123 = .ok (.aload_n 0, 1) := dk_42 (dk_at dksX4_fits_5 7 rfl rfl)
theorem dX4_fits_124 : decode cX4_fits 124 = .ok (.getfield 172, 3) := dk_180 0 172 (dk_at dksX4_fits_5 8 rfl rfl)
theorem dX4_fits_127 : decode cX4_fits 127 = .ok (.iaload, 1) := dk_46 (dk_at dksX4_fits_5 11 rfl rfl)
theorem dX4_fits_128 : decode cX4_fits 128 = .ok (.istore 8, 2) := dk_54 8 (dk_at dksX4_fits_5 12 rfl rfl)
theorem dX4_fits_130 : decode cX4_fits 130 = .ok (.iconst 0, 1) := dk_3 (dk_at dksX4_fits_5 14 rfl rfl)
theorem dX4_fits_131 : decode cX4_fits 131 = .ok (.istore 9, 2) := dk_54 9 (dk_at dksX4_fits_5 15 rfl rfl)
theorem dX4_fits_133 : decode cX4_fits 133 = .ok (.iload 9, 2) := dk_21 9 (dk_at dksX4_fits_5 17 rfl rfl)
theorem dX4_fits_135 : decode cX4_fits 135 = .ok (.bipush 8, 2) := dk_16 8 (dk_at dksX4_fits_5 19 rfl rfl)
theorem dX4_fits_137 : decode cX4_fits 137 = .ok (.if_icmp .ge 56, 3) := dk_162 0 56 (dk_at dksX4_fits_5 21 rfl rfl)
theorem dX4_fits_140 : decode cX4_fits 140 = .ok (.iload 4, 2) := dk_21 4 (dk_at dksX4_fits_6 0 rfl rfl)
theorem dX4_fits_142 : decode cX4_fits 142 = .ok (.bipush 125, 2) := dk_16 125 (dk_at dksX4_fits_6 2 rfl rfl)
theorem dX4_fits_144 : decode cX4_fits 144 = .ok (.if_icmp .ne 49, 3) := dk_160 0 49 (dk_at dksX4_fits_6 4 rfl rfl)
theorem dX4_fits_147 : decode cX4_fits 147 = .ok (.iload 8, 2) := dk_21 8 (dk_at dksX4_fits_6 7 rfl rfl)
theorem dX4_fits_149 : decode cX4_fits 149 = .ok (.ifCond .lt 44, 3) := dk_155 0 44 (dk_at dksX4_fits_6 9 rfl rfl)
theorem dX4_fits_152 : decode cX4_fits 152 = .ok (.aload_n 0, 1) := dk_42 (dk_at dksX4_fits_6 12 rfl rfl)
theorem dX4_fits_153 : decode cX4_fits 153 = .ok (.getfield 16, 3) := dk_180 0 16 (dk_at dksX4_fits_6 13 rfl rfl)
theorem dX4_fits_156 : decode cX4_fits 156 = .ok (.bipush 8, 2) := dk_16 8 (dk_at dksX4_fits_6 16 rfl rfl)
theorem dX4_fits_158 : decode cX4_fits 158 = .ok (.iload 8, 2) := dk_21 8 (dk_at dksX4_fits_6 18 rfl rfl)
theorem dX4_fits_160 : decode cX4_fits 160 = .ok (.imul, 1) := dk_104 (dk_at dksX4_fits_6 20 rfl rfl)
theorem dX4_fits_161 : decode cX4_fits 161 = .ok (.iload 9, 2) := dk_21 9 (dk_at dksX4_fits_6 21 rfl rfl)
theorem dX4_fits_163 : decode cX4_fits 163 = .ok (.iadd, 1) := dk_96 (dk_at dksX4_fits_6 23 rfl rfl)
theorem dX4_fits_164 : decode cX4_fits 164 = .ok (.iaload, 1) := dk_46 (dk_at dksX4_fits_7 0 rfl rfl)
theorem dX4_fits_165 : decode cX4_fits 165 = .ok (.ifCond .lt 22, 3) := dk_155 0 22 (dk_at dksX4_fits_7 1 rfl rfl)
theorem dX4_fits_168 : decode cX4_fits 168 = .ok (.aload_n 0, 1) := dk_42 (dk_at dksX4_fits_7 4 rfl rfl)
theorem dX4_fits_169 : decode cX4_fits 169 = .ok (.getfield 68, 3) := dk_180 0 68 (dk_at dksX4_fits_7 5 rfl rfl)
theorem dX4_fits_172 : decode cX4_fits 172 = .ok (.aload_n 0, 1) := dk_42 (dk_at dksX4_fits_7 8 rfl rfl)
theorem dX4_fits_173 : decode cX4_fits 173 = .ok (.getfield 172, 3) := dk_180 0 172 (dk_at dksX4_fits_7 9 rfl rfl)
theorem dX4_fits_176 : decode cX4_fits 176 = .ok (.iaload, 1) := dk_46 (dk_at dksX4_fits_7 12 rfl rfl)
theorem dX4_fits_177 : decode cX4_fits 177 = .ok (.iload 9, 2) := dk_21 9 (dk_at dksX4_fits_7 13 rfl rfl)
theorem dX4_fits_179 : decode cX4_fits 179 = .ok (.ishr, 1) := dk_122 (dk_at dksX4_fits_7 15 rfl rfl)
theorem dX4_fits_180 : decode cX4_fits 180 = .ok (.iconst 1, 1) := dk_4 (dk_at dksX4_fits_7 16 rfl rfl)
theorem dX4_fits_181 : decode cX4_fits 181 = .ok (.iand, 1) := dk_126 (dk_at dksX4_fits_7 17 rfl rfl)
theorem dX4_fits_182 : decode cX4_fits 182 = .ok (.ifCond .ne 5, 3) := dk_154 0 5 (dk_at dksX4_fits_7 18 rfl rfl)
theorem dX4_fits_185 : decode cX4_fits 185 = .ok (.iload_n 3, 1) := dk_29 (dk_at dksX4_fits_7 21 rfl rfl)
theorem dX4_fits_186 : decode cX4_fits 186 = .ok (.ireturn, 1) := dk_172 (dk_at dksX4_fits_7 22 rfl rfl)
theorem dX4_fits_187 : decode cX4_fits 187 = .ok (.iinc 9 1, 3) := dk_132 9 1 (dk_at dksX4_fits_8 0 rfl rfl)
theorem dX4_fits_190 : decode cX4_fits 190 = .ok (.goto (-57), 3) := dk_167 255 199 (dk_at dksX4_fits_8 3 rfl rfl)
theorem dX4_fits_193 : decode cX4_fits 193 = .ok (.iinc 3 1, 3) := dk_132 3 1 (dk_at dksX4_fits_8 6 rfl rfl)
theorem dX4_fits_196 : decode cX4_fits 196 = .ok (.goto 290, 3) := dk_167 1 34 (dk_at dksX4_fits_8 9 rfl rfl)
theorem dX4_fits_199 : decode cX4_fits 199 = .ok (.aload_n 0, 1) := dk_42 (dk_at dksX4_fits_8 12 rfl rfl)
theorem dX4_fits_200 : decode cX4_fits 200 = .ok (.getfield 172, 3) := dk_180 0 172 (dk_at dksX4_fits_8 13 rfl rfl)
theorem dX4_fits_203 : decode cX4_fits 203 = .ok (.ifCond .le 74, 3) := dk_158 0 74 (dk_at dksX4_fits_8 16 rfl rfl)
theorem dX4_fits_206 : decode cX4_fits 206 = .ok (.aload_n 0, 1) := dk_42 (dk_at dksX4_fits_8 19 rfl rfl)
theorem dX4_fits_207 : decode cX4_fits 207 = .ok (.getfield 59, 3) := dk_180 0 59 (dk_at dksX4_fits_8 20 rfl rfl)
theorem dX4_fits_210 : decode cX4_fits 210 = .ok (.aload_n 0, 1) := dk_42 (dk_at dksX4_fits_8 23 rfl rfl)
theorem dX4_fits_211 : decode cX4_fits 211 = .ok (.getfield 172, 3) := dk_180 0 172 (dk_at dksX4_fits_9 0 rfl rfl)
theorem dX4_fits_214 : decode cX4_fits 214 = .ok (.iconst 1, 1) := dk_4 (dk_at dksX4_fits_9 3 rfl rfl)
theorem dX4_fits_215 : decode cX4_fits 215 = .ok (.isub, 1) := dk_100 (dk_at dksX4_fits_9 4 rfl rfl)
theorem dX4_fits_216 : decode cX4_fits 216 = .ok (.iaload, 1) := dk_46 (dk_at dksX4_fits_9 5 rfl rfl)
theorem dX4_fits_217 : decode cX4_fits 217 = .ok (.bipush 123, 2) := dk_16 123 (dk_at dksX4_fits_9 6 rfl rfl)
theorem dX4_fits_219 : decode cX4_fits 219 = .ok (.if_icmp .ne 58, 3) := dk_160 0 58 (dk_at dksX4_fits_9 8 rfl rfl)
theorem dX4_fits_222 : decode cX4_fits 222 = .ok (.iload 4, 2) := dk_21 4 (dk_at dksX4_fits_9 11 rfl rfl)
theorem dX4_fits_224 : decode cX4_fits 224 = .ok (.bipush 97, 2) := dk_16 97 (dk_at dksX4_fits_9 13 rfl rfl)
theorem dX4_fits_226 : decode cX4_fits 226 = .ok (.bipush 104, 2) := dk_16 104 (dk_at dksX4_fits_9 15 rfl rfl)
theorem dX4_fits_228 : decode cX4_fits 228 = .ok (.invokestatic 84, 3) := dk_184 0 84 (dk_at dksX4_fits_9 17 rfl rfl)
theorem dX4_fits_231 : decode cX4_fits 231 = .ok (.ifCond .eq 46, 3) := dk_153 0 46 (dk_at dksX4_fits_9 20 rfl rfl)
theorem dX4_fits_234 : decode cX4_fits 234 = .ok (.iload_n 2, 1) := dk_28 (dk_at dksX4_fits_9 23 rfl rfl)
theorem dX4_fits_235 : decode cX4_fits 235 = .ok (.ldc 137, 2) := dk_18 137 (dk_at dksX4_fits_10 0 rfl rfl)
theorem dX4_fits_237 : decode cX4_fits 237 = .ok (.if_icmp .ne 40, 3) := dk_160 0 40 (dk_at dksX4_fits_10 2 rfl rfl)
theorem dX4_fits_240 : decode cX4_fits 240 = .ok (.aload_n 0, 1) := dk_42 (dk_at dksX4_fits_10 5 rfl rfl)
theorem dX4_fits_241 : decode cX4_fits 241 = .ok (.getfield 68, 3) := dk_180 0 68 (dk_at dksX4_fits_10 6 rfl rfl)
theorem dX4_fits_244 : decode cX4_fits 244 = .ok (.aload_n 0, 1) := dk_42 (dk_at dksX4_fits_10 9 rfl rfl)
theorem dX4_fits_245 : decode cX4_fits 245 = .ok (.getfield 172, 3) := dk_180 0 172 (dk_at dksX4_fits_10 10 rfl rfl)
theorem dX4_fits_248 : decode cX4_fits 248 = .ok (.iconst 1, 1) := dk_4 (dk_at dksX4_fits_10 13 rfl rfl)
theorem dX4_fits_249 : decode cX4_fits 249 = .ok (.isub, 1) := dk_100 (dk_at dksX4_fits_10 14 rfl rfl)
theorem dX4_fits_250 : decode cX4_fits 250 = .ok (.dup2, 1) := dk_92 (dk_at dksX4_fits_10 15 rfl rfl)
theorem dX4_fits_251 : decode cX4_fits 251 = .ok (.iaload, 1) := dk_46 (dk_at dksX4_fits_10 16 rfl rfl)
theorem dX4_fits_252 : decode cX4_fits 252 = .ok (.iconst 1, 1) := dk_4 (dk_at dksX4_fits_10 17 rfl rfl)
theorem dX4_fits_253 : decode cX4_fits 253 = .ok (.iload 4, 2) := dk_21 4 (dk_at dksX4_fits_10 18 rfl rfl)
theorem dX4_fits_255 : decode cX4_fits 255 = .ok (.bipush 97, 2) := dk_16 97 (dk_at dksX4_fits_10 20 rfl rfl)
theorem dX4_fits_257 : decode cX4_fits 257 = .ok (.isub, 1) := dk_100 (dk_at dksX4_fits_10 22 rfl rfl)
theorem dX4_fits_258 : decode cX4_fits 258 = .ok (.ishl, 1) := dk_120 (dk_at dksX4_fits_10 23 rfl rfl)
theorem dX4_fits_259 : decode cX4_fits 259 = .ok (.ior, 1) := dk_128 (dk_at dksX4_fits_11 0 rfl rfl)
theorem dX4_fits_260 : decode cX4_fits 260 = .ok (.iastore, 1) := dk_79 (dk_at dksX4_fits_11 1 rfl rfl)
theorem dX4_fits_261 : decode cX4_fits 261 = .ok (.aload_n 0, 1) := dk_42 (dk_at dksX4_fits_11 2 rfl rfl)
theorem dX4_fits_262 : decode cX4_fits 262 = .ok (.iload 4, 2) := dk_21 4 (dk_at dksX4_fits_11 3 rfl rfl)
theorem dX4_fits_264 : decode cX4_fits 264 = .ok (.bipush 97, 2) := dk_16 97 (dk_at dksX4_fits_11 5 rfl rfl)
theorem dX4_fits_266 : decode cX4_fits 266 = .ok (.isub, 1) := dk_100 (dk_at dksX4_fits_11 7 rfl rfl)
theorem dX4_fits_267 : decode cX4_fits 267 = .ok (.invokevirtual 178, 3) := dk_182 0 178 (dk_at dksX4_fits_11 8 rfl rfl)
theorem dX4_fits_270 : decode cX4_fits 270 = .ok (.istore_n 2, 1) := dk_61 (dk_at dksX4_fits_11 11 rfl rfl)
theorem dX4_fits_271 : decode cX4_fits 271 = .ok (.iinc 3 1, 3) := dk_132 3 1 (dk_at dksX4_fits_11 12 rfl rfl)
theorem dX4_fits_274 : decode cX4_fits 274 = .ok (.goto (-245), 3) := dk_167 255 11 (dk_at dksX4_fits_11 15 rfl rfl)
theorem dX4_fits_277 : decode cX4_fits 277 = .ok (.iload 4, 2) := dk_21 4 (dk_at dksX4_fits_11 18 rfl rfl)
theorem dX4_fits_279 : decode cX4_fits 279 = .ok (.bipush 123, 2) := dk_16 123 (dk_at dksX4_fits_11 20 rfl rfl)
theorem dX4_fits_281 : decode cX4_fits 281 = .ok (.if_icmp .eq 10, 3) := dk_159 0 10 (dk_at dksX4_fits_12 0 rfl rfl)
theorem dX4_fits_284 : decode cX4_fits 284 = .ok (.iload 4, 2) := dk_21 4 (dk_at dksX4_fits_12 3 rfl rfl)
theorem dX4_fits_286 : decode cX4_fits 286 = .ok (.bipush 40, 2) := dk_16 40 (dk_at dksX4_fits_12 5 rfl rfl)
theorem dX4_fits_288 : decode cX4_fits 288 = .ok (.if_icmp .ne 53, 3) := dk_160 0 53 (dk_at dksX4_fits_12 7 rfl rfl)
theorem dX4_fits_291 : decode cX4_fits 291 = .ok (.iload 7, 2) := dk_21 7 (dk_at dksX4_fits_12 10 rfl rfl)
theorem dX4_fits_293 : decode cX4_fits 293 = .ok (.ifCond .ne 24, 3) := dk_154 0 24 (dk_at dksX4_fits_12 12 rfl rfl)
theorem dX4_fits_296 : decode cX4_fits 296 = .ok (.iload 6, 2) := dk_21 6 (dk_at dksX4_fits_12 15 rfl rfl)
theorem dX4_fits_298 : decode cX4_fits 298 = .ok (.iload 4, 2) := dk_21 4 (dk_at dksX4_fits_12 17 rfl rfl)
theorem dX4_fits_300 : decode cX4_fits 300 = .ok (.bipush 123, 2) := dk_16 123 (dk_at dksX4_fits_12 19 rfl rfl)
theorem dX4_fits_302 : decode cX4_fits 302 = .ok (.if_icmp .ne 8, 3) := dk_160 0 8 (dk_at dksX4_fits_12 21 rfl rfl)
theorem dX4_fits_305 : decode cX4_fits 305 = .ok (.bipush 123, 2) := dk_16 123 (dk_at dksX4_fits_13 0 rfl rfl)
theorem dX4_fits_307 : decode cX4_fits 307 = .ok (.goto 5, 3) := dk_167 0 5 (dk_at dksX4_fits_13 2 rfl rfl)
theorem dX4_fits_310 : decode cX4_fits 310 = .ok (.bipush 42, 2) := dk_16 42 (dk_at dksX4_fits_13 5 rfl rfl)
theorem dX4_fits_312 : decode cX4_fits 312 = .ok (.if_icmp .eq 5, 3) := dk_159 0 5 (dk_at dksX4_fits_13 7 rfl rfl)
theorem dX4_fits_315 : decode cX4_fits 315 = .ok (.iload_n 3, 1) := dk_29 (dk_at dksX4_fits_13 10 rfl rfl)
theorem dX4_fits_316 : decode cX4_fits 316 = .ok (.ireturn, 1) := dk_172 (dk_at dksX4_fits_13 11 rfl rfl)
theorem dX4_fits_317 : decode cX4_fits 317 = .ok (.aload_n 0, 1) := dk_42 (dk_at dksX4_fits_13 12 rfl rfl)
theorem dX4_fits_318 : decode cX4_fits 318 = .ok (.iload 4, 2) := dk_21 4 (dk_at dksX4_fits_13 13 rfl rfl)
theorem dX4_fits_320 : decode cX4_fits 320 = .ok (.iload 7, 2) := dk_21 7 (dk_at dksX4_fits_13 15 rfl rfl)
theorem dX4_fits_322 : decode cX4_fits 322 = .ok (.ifCond .eq 8, 3) := dk_153 0 8 (dk_at dksX4_fits_13 17 rfl rfl)
theorem dX4_fits_325 : decode cX4_fits 325 = .ok (.bipush (-6), 2) := dk_16 250 (dk_at dksX4_fits_13 20 rfl rfl)
theorem dX4_fits_327 : decode cX4_fits 327 = .ok (.goto 5, 3) := dk_167 0 5 (dk_at dksX4_fits_14 0 rfl rfl)
theorem dX4_fits_330 : decode cX4_fits 330 = .ok (.iload 5, 2) := dk_21 5 (dk_at dksX4_fits_14 3 rfl rfl)
theorem dX4_fits_332 : decode cX4_fits 332 = .ok (.invokevirtual 181, 3) := dk_182 0 181 (dk_at dksX4_fits_14 5 rfl rfl)
theorem dX4_fits_335 : decode cX4_fits 335 = .ok (.iinc 3 1, 3) := dk_132 3 1 (dk_at dksX4_fits_14 8 rfl rfl)
theorem dX4_fits_338 : decode cX4_fits 338 = .ok (.goto 148, 3) := dk_167 0 148 (dk_at dksX4_fits_14 11 rfl rfl)
theorem dX4_fits_341 : decode cX4_fits 341 = .ok (.iload 4, 2) := dk_21 4 (dk_at dksX4_fits_14 14 rfl rfl)
theorem dX4_fits_343 : decode cX4_fits 343 = .ok (.bipush 91, 2) := dk_16 91 (dk_at dksX4_fits_14 16 rfl rfl)
theorem dX4_fits_345 : decode cX4_fits 345 = .ok (.if_icmp .ne 77, 3) := dk_160 0 77 (dk_at dksX4_fits_14 18 rfl rfl)
theorem dX4_fits_348 : decode cX4_fits 348 = .ok (.aload_n 0, 1) := dk_42 (dk_at dksX4_fits_14 21 rfl rfl)
theorem dX4_fits_349 : decode cX4_fits 349 = .ok (.getfield 7, 3) := dk_180 0 7 (dk_at dksX4_fits_15 0 rfl rfl)
theorem dX4_fits_352 : decode cX4_fits 352 = .ok (.iload_n 3, 1) := dk_29 (dk_at dksX4_fits_15 3 rfl rfl)
theorem dX4_fits_353 : decode cX4_fits 353 = .ok (.iconst 1, 1) := dk_4 (dk_at dksX4_fits_15 4 rfl rfl)
theorem dX4_fits_354 : decode cX4_fits 354 = .ok (.iadd, 1) := dk_96 (dk_at dksX4_fits_15 5 rfl rfl)
theorem dX4_fits_355 : decode cX4_fits 355 = .ok (.iaload, 1) := dk_46 (dk_at dksX4_fits_15 6 rfl rfl)
theorem dX4_fits_356 : decode cX4_fits 356 = .ok (.bipush 97, 2) := dk_16 97 (dk_at dksX4_fits_15 7 rfl rfl)
theorem dX4_fits_358 : decode cX4_fits 358 = .ok (.isub, 1) := dk_100 (dk_at dksX4_fits_15 9 rfl rfl)
theorem dX4_fits_359 : decode cX4_fits 359 = .ok (.istore 8, 2) := dk_54 8 (dk_at dksX4_fits_15 10 rfl rfl)
theorem dX4_fits_361 : decode cX4_fits 361 = .ok (.iload 7, 2) := dk_21 7 (dk_at dksX4_fits_15 12 rfl rfl)
theorem dX4_fits_363 : decode cX4_fits 363 = .ok (.ifCond .ne 28, 3) := dk_154 0 28 (dk_at dksX4_fits_15 14 rfl rfl)
theorem dX4_fits_366 : decode cX4_fits 366 = .ok (.iload 6, 2) := dk_21 6 (dk_at dksX4_fits_15 17 rfl rfl)
theorem dX4_fits_368 : decode cX4_fits 368 = .ok (.bipush 91, 2) := dk_16 91 (dk_at dksX4_fits_15 19 rfl rfl)
theorem dX4_fits_370 : decode cX4_fits 370 = .ok (.if_icmp .ne 19, 3) := dk_160 0 19 (dk_at dksX4_fits_15 21 rfl rfl)
theorem dX4_fits_373 : decode cX4_fits 373 = .ok (.aload_n 0, 1) := dk_42 (dk_at dksX4_fits_16 0 rfl rfl)
theorem dX4_fits_374 : decode cX4_fits 374 = .ok (.getfield 16, 3) := dk_180 0 16 (dk_at dksX4_fits_16 1 rfl rfl)
theorem dX4_fits_377 : decode cX4_fits 377 = .ok (.bipush 8, 2) := dk_16 8 (dk_at dksX4_fits_16 4 rfl rfl)
theorem dX4_fits_379 : decode cX4_fits 379 = .ok (.iload 5, 2) := dk_21 5 (dk_at dksX4_fits_16 6 rfl rfl)
theorem dX4_fits_381 : decode cX4_fits 381 = .ok (.imul, 1) := dk_104 (dk_at dksX4_fits_16 8 rfl rfl)
theorem dX4_fits_382 : decode cX4_fits 382 = .ok (.iload 8, 2) := dk_21 8 (dk_at dksX4_fits_16 9 rfl rfl)
theorem dX4_fits_384 : decode cX4_fits 384 = .ok (.iadd, 1) := dk_96 (dk_at dksX4_fits_16 11 rfl rfl)
theorem dX4_fits_385 : decode cX4_fits 385 = .ok (.iaload, 1) := dk_46 (dk_at dksX4_fits_16 12 rfl rfl)
theorem dX4_fits_386 : decode cX4_fits 386 = .ok (.ifCond .ge 5, 3) := dk_156 0 5 (dk_at dksX4_fits_16 13 rfl rfl)
theorem dX4_fits_389 : decode cX4_fits 389 = .ok (.iload_n 3, 1) := dk_29 (dk_at dksX4_fits_16 16 rfl rfl)
theorem dX4_fits_390 : decode cX4_fits 390 = .ok (.ireturn, 1) := dk_172 (dk_at dksX4_fits_16 17 rfl rfl)
theorem dX4_fits_391 : decode cX4_fits 391 = .ok (.aload_n 0, 1) := dk_42 (dk_at dksX4_fits_16 18 rfl rfl)
theorem dX4_fits_392 : decode cX4_fits 392 = .ok (.iload 4, 2) := dk_21 4 (dk_at dksX4_fits_16 19 rfl rfl)
theorem dX4_fits_394 : decode cX4_fits 394 = .ok (.iload 7, 2) := dk_21 7 (dk_at dksX4_fits_16 21 rfl rfl)
theorem dX4_fits_396 : decode cX4_fits 396 = .ok (.ifCond .eq 8, 3) := dk_153 0 8 (dk_at dksX4_fits_17 0 rfl rfl)
theorem dX4_fits_399 : decode cX4_fits 399 = .ok (.bipush (-6), 2) := dk_16 250 (dk_at dksX4_fits_17 3 rfl rfl)
theorem dX4_fits_401 : decode cX4_fits 401 = .ok (.goto 5, 3) := dk_167 0 5 (dk_at dksX4_fits_17 5 rfl rfl)
theorem dX4_fits_404 : decode cX4_fits 404 = .ok (.iload 5, 2) := dk_21 5 (dk_at dksX4_fits_17 8 rfl rfl)
theorem dX4_fits_406 : decode cX4_fits 406 = .ok (.invokevirtual 181, 3) := dk_182 0 181 (dk_at dksX4_fits_17 10 rfl rfl)
theorem dX4_fits_409 : decode cX4_fits 409 = .ok (.aload_n 0, 1) := dk_42 (dk_at dksX4_fits_17 13 rfl rfl)
theorem dX4_fits_410 : decode cX4_fits 410 = .ok (.iload 8, 2) := dk_21 8 (dk_at dksX4_fits_17 14 rfl rfl)
theorem dX4_fits_412 : decode cX4_fits 412 = .ok (.invokevirtual 178, 3) := dk_182 0 178 (dk_at dksX4_fits_17 16 rfl rfl)
theorem dX4_fits_415 : decode cX4_fits 415 = .ok (.istore_n 2, 1) := dk_61 (dk_at dksX4_fits_17 19 rfl rfl)
theorem dX4_fits_416 : decode cX4_fits 416 = .ok (.iinc 3 2, 3) := dk_132 3 2 (dk_at dksX4_fits_17 20 rfl rfl)
theorem dX4_fits_419 : decode cX4_fits 419 = .ok (.goto (-390), 3) := dk_167 254 122 (dk_at dksX4_fits_18 0 rfl rfl)
theorem dX4_fits_422 : decode cX4_fits 422 = .ok (.iload 4, 2) := dk_21 4 (dk_at dksX4_fits_18 3 rfl rfl)
theorem dX4_fits_424 : decode cX4_fits 424 = .ok (.bipush 36, 2) := dk_16 36 (dk_at dksX4_fits_18 5 rfl rfl)
theorem dX4_fits_426 : decode cX4_fits 426 = .ok (.if_icmp .ne 8, 3) := dk_160 0 8 (dk_at dksX4_fits_18 7 rfl rfl)
theorem dX4_fits_429 : decode cX4_fits 429 = .ok (.bipush 115, 2) := dk_16 115 (dk_at dksX4_fits_18 10 rfl rfl)
theorem dX4_fits_431 : decode cX4_fits 431 = .ok (.goto 24, 3) := dk_167 0 24 (dk_at dksX4_fits_18 12 rfl rfl)
theorem dX4_fits_434 : decode cX4_fits 434 = .ok (.iload 4, 2) := dk_21 4 (dk_at dksX4_fits_18 15 rfl rfl)
theorem dX4_fits_436 : decode cX4_fits 436 = .ok (.bipush 84, 2) := dk_16 84 (dk_at dksX4_fits_18 17 rfl rfl)
theorem dX4_fits_438 : decode cX4_fits 438 = .ok (.if_icmp .eq 10, 3) := dk_159 0 10 (dk_at dksX4_fits_18 19 rfl rfl)
theorem dX4_fits_441 : decode cX4_fits 441 = .ok (.iload 4, 2) := dk_21 4 (dk_at dksX4_fits_18 22 rfl rfl)
theorem dX4_fits_443 : decode cX4_fits 443 = .ok (.bipush 70, 2) := dk_16 70 (dk_at dksX4_fits_19 0 rfl rfl)
theorem dX4_fits_445 : decode cX4_fits 445 = .ok (.if_icmp .ne 8, 3) := dk_160 0 8 (dk_at dksX4_fits_19 2 rfl rfl)
theorem dX4_fits_448 : decode cX4_fits 448 = .ok (.bipush 116, 2) := dk_16 116 (dk_at dksX4_fits_19 5 rfl rfl)
theorem dX4_fits_450 : decode cX4_fits 450 = .ok (.goto 5, 3) := dk_167 0 5 (dk_at dksX4_fits_19 7 rfl rfl)
theorem dX4_fits_453 : decode cX4_fits 453 = .ok (.bipush 110, 2) := dk_16 110 (dk_at dksX4_fits_19 10 rfl rfl)
theorem dX4_fits_455 : decode cX4_fits 455 = .ok (.istore 8, 2) := dk_54 8 (dk_at dksX4_fits_19 12 rfl rfl)
theorem dX4_fits_457 : decode cX4_fits 457 = .ok (.iload 7, 2) := dk_21 7 (dk_at dksX4_fits_19 14 rfl rfl)
theorem dX4_fits_459 : decode cX4_fits 459 = .ok (.ifCond .ne 12, 3) := dk_154 0 12 (dk_at dksX4_fits_19 16 rfl rfl)
theorem dX4_fits_462 : decode cX4_fits 462 = .ok (.iload 6, 2) := dk_21 6 (dk_at dksX4_fits_19 19 rfl rfl)
theorem dX4_fits_464 : decode cX4_fits 464 = .ok (.iload 8, 2) := dk_21 8 (dk_at dksX4_fits_19 21 rfl rfl)
theorem dX4_fits_466 : decode cX4_fits 466 = .ok (.if_icmp .eq 5, 3) := dk_159 0 5 (dk_at dksX4_fits_20 0 rfl rfl)
theorem dX4_fits_469 : decode cX4_fits 469 = .ok (.iload_n 3, 1) := dk_29 (dk_at dksX4_fits_20 3 rfl rfl)
theorem dX4_fits_470 : decode cX4_fits 470 = .ok (.ireturn, 1) := dk_172 (dk_at dksX4_fits_20 4 rfl rfl)
theorem dX4_fits_471 : decode cX4_fits 471 = .ok (.iload_n 3, 1) := dk_29 (dk_at dksX4_fits_20 5 rfl rfl)
theorem dX4_fits_472 : decode cX4_fits 472 = .ok (.iload 4, 2) := dk_21 4 (dk_at dksX4_fits_20 6 rfl rfl)
theorem dX4_fits_474 : decode cX4_fits 474 = .ok (.bipush 36, 2) := dk_16 36 (dk_at dksX4_fits_20 8 rfl rfl)
theorem dX4_fits_476 : decode cX4_fits 476 = .ok (.if_icmp .ne 7, 3) := dk_160 0 7 (dk_at dksX4_fits_20 10 rfl rfl)
theorem dX4_fits_479 : decode cX4_fits 479 = .ok (.iconst 2, 1) := dk_5 (dk_at dksX4_fits_20 13 rfl rfl)
theorem dX4_fits_480 : decode cX4_fits 480 = .ok (.goto 4, 3) := dk_167 0 4 (dk_at dksX4_fits_20 14 rfl rfl)
theorem dX4_fits_483 : decode cX4_fits 483 = .ok (.iconst 1, 1) := dk_4 (dk_at dksX4_fits_20 17 rfl rfl)
theorem dX4_fits_484 : decode cX4_fits 484 = .ok (.iadd, 1) := dk_96 (dk_at dksX4_fits_20 18 rfl rfl)
theorem dX4_fits_485 : decode cX4_fits 485 = .ok (.istore_n 3, 1) := dk_62 (dk_at dksX4_fits_20 19 rfl rfl)
theorem dX4_fits_486 : decode cX4_fits 486 = .ok (.aload_n 0, 1) := dk_42 (dk_at dksX4_fits_20 20 rfl rfl)
theorem dX4_fits_487 : decode cX4_fits 487 = .ok (.getfield 172, 3) := dk_180 0 172 (dk_at dksX4_fits_20 21 rfl rfl)
theorem dX4_fits_490 : decode cX4_fits 490 = .ok (.ifCond .le 27, 3) := dk_158 0 27 (dk_at dksX4_fits_21 0 rfl rfl)
theorem dX4_fits_493 : decode cX4_fits 493 = .ok (.aload_n 0, 1) := dk_42 (dk_at dksX4_fits_21 3 rfl rfl)
theorem dX4_fits_494 : decode cX4_fits 494 = .ok (.getfield 59, 3) := dk_180 0 59 (dk_at dksX4_fits_21 4 rfl rfl)
theorem dX4_fits_497 : decode cX4_fits 497 = .ok (.aload_n 0, 1) := dk_42 (dk_at dksX4_fits_21 7 rfl rfl)
theorem dX4_fits_498 : decode cX4_fits 498 = .ok (.getfield 172, 3) := dk_180 0 172 (dk_at dksX4_fits_21 8 rfl rfl)
theorem dX4_fits_501 : decode cX4_fits 501 = .ok (.iconst 1, 1) := dk_4 (dk_at dksX4_fits_21 11 rfl rfl)
theorem dX4_fits_502 : decode cX4_fits 502 = .ok (.isub, 1) := dk_100 (dk_at dksX4_fits_21 12 rfl rfl)
theorem dX4_fits_503 : decode cX4_fits 503 = .ok (.iaload, 1) := dk_46 (dk_at dksX4_fits_21 13 rfl rfl)
theorem dX4_fits_504 : decode cX4_fits 504 = .ok (.bipush 40, 2) := dk_16 40 (dk_at dksX4_fits_21 14 rfl rfl)
theorem dX4_fits_506 : decode cX4_fits 506 = .ok (.if_icmp .ne 11, 3) := dk_160 0 11 (dk_at dksX4_fits_21 16 rfl rfl)
theorem dX4_fits_509 : decode cX4_fits 509 = .ok (.aload_n 0, 1) := dk_42 (dk_at dksX4_fits_21 19 rfl rfl)
theorem dX4_fits_510 : decode cX4_fits 510 = .ok (.iconst 0, 1) := dk_3 (dk_at dksX4_fits_21 20 rfl rfl)
theorem dX4_fits_511 : decode cX4_fits 511 = .ok (.invokevirtual 178, 3) := dk_182 0 178 (dk_at dksX4_fits_21 21 rfl rfl)
theorem dX4_fits_514 : decode cX4_fits 514 = .ok (.goto 5, 3) := dk_167 0 5 (dk_at dksX4_fits_22 0 rfl rfl)
theorem dX4_fits_517 : decode cX4_fits 517 = .ok (.ldc 137, 2) := dk_18 137 (dk_at dksX4_fits_22 3 rfl rfl)
theorem dX4_fits_519 : decode cX4_fits 519 = .ok (.istore_n 2, 1) := dk_61 (dk_at dksX4_fits_22 5 rfl rfl)
theorem dX4_fits_520 : decode cX4_fits 520 = .ok (.goto (-491), 3) := dk_167 254 21 (dk_at dksX4_fits_22 6 rfl rfl)
theorem dX4_fits_523 : decode cX4_fits 523 = .ok (.bipush (-6), 2) := dk_16 250 (dk_at dksX4_fits_22 9 rfl rfl)
theorem dX4_fits_525 : decode cX4_fits 525 = .ok (.ireturn, 1) := dk_172 (dk_at dksX4_fits_22 11 rfl rfl)
abbrev cX4_inner : ByteArray := prog_6_method_34_code
def yX4_inner : MethodName := ⟨RX4, "inner", "(I)I"⟩
def dkwX4_inner_2 : List UInt8 := [16, 8, 28, 104, 46, 167, 0, 14, 42, 180, 0, 16, 16, 8, 28, 104, 27, 96, 46, 172]
abbrev dktX4_inner_2 : List UInt8 := dkwX4_inner_2 ++ []
def dkwX4_inner_1 : List UInt8 := [28, 156, 0, 8, 16, 250, 167, 0, 37, 42, 180, 0, 13, 28, 46, 16, 42, 160, 0, 15, 42, 180, 0, 16]
abbrev dktX4_inner_1 : List UInt8 := dkwX4_inner_1 ++ dktX4_inner_2
def dkwX4_inner_0 : List UInt8 := [42, 180, 0, 172, 154, 0, 8, 16, 250, 167, 0, 14, 42, 180, 0, 65, 42, 180, 0, 172, 4, 100, 46, 61]
abbrev dktX4_inner_0 : List UInt8 := dkwX4_inner_0 ++ dktX4_inner_1
theorem dksX4_inner_0 : cX4_inner.data.toList.drop 0 = dktX4_inner_0 := by decide +kernel
theorem dksX4_inner_1 : cX4_inner.data.toList.drop 24 = dktX4_inner_1 := dk_seg dksX4_inner_0 24 rfl rfl
theorem dksX4_inner_2 : cX4_inner.data.toList.drop 48 = dktX4_inner_2 := dk_seg dksX4_inner_1 24 rfl rfl
theorem dX4_inner_0 : decode cX4_inner 0 = .ok (.aload_n 0, 1) := dk_42 (dk_at dksX4_inner_0 0 rfl rfl)
theorem dX4_inner_1 : decode cX4_inner 1 = .ok (.getfield 172, 3) := dk_180 0 172 (dk_at dksX4_inner_0 1 rfl rfl)
theorem dX4_inner_4 : decode cX4_inner 4 = .ok (.ifCond .ne 8, 3) := dk_154 0 8 (dk_at dksX4_inner_0 4 rfl rfl)
theorem dX4_inner_7 : decode cX4_inner 7 = .ok (.bipush (-6), 2) := dk_16 250 (dk_at dksX4_inner_0 7 rfl rfl)
theorem dX4_inner_9 : decode cX4_inner 9 = .ok (.goto 14, 3) := dk_167 0 14 (dk_at dksX4_inner_0 9 rfl rfl)
theorem dX4_inner_12 : decode cX4_inner 12 = .ok (.aload_n 0, 1) := dk_42 (dk_at dksX4_inner_0 12 rfl rfl)
theorem dX4_inner_13 : decode cX4_inner 13 = .ok (.getfield 65, 3) := dk_180 0 65 (dk_at dksX4_inner_0 13 rfl rfl)
theorem dX4_inner_16 : decode cX4_inner 16 = .ok (.aload_n 0, 1) := dk_42 (dk_at dksX4_inner_0 16 rfl rfl)
theorem dX4_inner_17 : decode cX4_inner 17 = .ok (.getfield 172, 3) := dk_180 0 172 (dk_at dksX4_inner_0 17 rfl rfl)
theorem dX4_inner_20 : decode cX4_inner 20 = .ok (.iconst 1, 1) := dk_4 (dk_at dksX4_inner_0 20 rfl rfl)
theorem dX4_inner_21 : decode cX4_inner 21 = .ok (.isub, 1) := dk_100 (dk_at dksX4_inner_0 21 rfl rfl)
theorem dX4_inner_22 : decode cX4_inner 22 = .ok (.iaload, 1) := dk_46 (dk_at dksX4_inner_0 22 rfl rfl)
theorem dX4_inner_23 : decode cX4_inner 23 = .ok (.istore_n 2, 1) := dk_61 (dk_at dksX4_inner_0 23 rfl rfl)
theorem dX4_inner_24 : decode cX4_inner 24 = .ok (.iload_n 2, 1) := dk_28 (dk_at dksX4_inner_1 0 rfl rfl)
theorem dX4_inner_25 : decode cX4_inner 25 = .ok (.ifCond .ge 8, 3) := dk_156 0 8 (dk_at dksX4_inner_1 1 rfl rfl)
theorem dX4_inner_28 : decode cX4_inner 28 = .ok (.bipush (-6), 2) := dk_16 250 (dk_at dksX4_inner_1 4 rfl rfl)
theorem dX4_inner_30 : decode cX4_inner 30 = .ok (.goto 37, 3) := dk_167 0 37 (dk_at dksX4_inner_1 6 rfl rfl)
theorem dX4_inner_33 : decode cX4_inner 33 = .ok (.aload_n 0, 1) := dk_42 (dk_at dksX4_inner_1 9 rfl rfl)
theorem dX4_inner_34 : decode cX4_inner 34 = .ok (.getfield 13, 3) := dk_180 0 13 (dk_at dksX4_inner_1 10 rfl rfl)
theorem dX4_inner_37 : decode cX4_inner 37 = .ok (.iload_n 2, 1) := dk_28 (dk_at dksX4_inner_1 13 rfl rfl)
theorem dX4_inner_38 : decode cX4_inner 38 = .ok (.iaload, 1) := dk_46 (dk_at dksX4_inner_1 14 rfl rfl)
theorem dX4_inner_39 : decode cX4_inner 39 = .ok (.bipush 42, 2) := dk_16 42 (dk_at dksX4_inner_1 15 rfl rfl)
theorem dX4_inner_41 : decode cX4_inner 41 = .ok (.if_icmp .ne 15, 3) := dk_160 0 15 (dk_at dksX4_inner_1 17 rfl rfl)
theorem dX4_inner_44 : decode cX4_inner 44 = .ok (.aload_n 0, 1) := dk_42 (dk_at dksX4_inner_1 20 rfl rfl)
theorem dX4_inner_45 : decode cX4_inner 45 = .ok (.getfield 16, 3) := dk_180 0 16 (dk_at dksX4_inner_1 21 rfl rfl)
theorem dX4_inner_48 : decode cX4_inner 48 = .ok (.bipush 8, 2) := dk_16 8 (dk_at dksX4_inner_2 0 rfl rfl)
theorem dX4_inner_50 : decode cX4_inner 50 = .ok (.iload_n 2, 1) := dk_28 (dk_at dksX4_inner_2 2 rfl rfl)
theorem dX4_inner_51 : decode cX4_inner 51 = .ok (.imul, 1) := dk_104 (dk_at dksX4_inner_2 3 rfl rfl)
theorem dX4_inner_52 : decode cX4_inner 52 = .ok (.iaload, 1) := dk_46 (dk_at dksX4_inner_2 4 rfl rfl)
theorem dX4_inner_53 : decode cX4_inner 53 = .ok (.goto 14, 3) := dk_167 0 14 (dk_at dksX4_inner_2 5 rfl rfl)
theorem dX4_inner_56 : decode cX4_inner 56 = .ok (.aload_n 0, 1) := dk_42 (dk_at dksX4_inner_2 8 rfl rfl)
theorem dX4_inner_57 : decode cX4_inner 57 = .ok (.getfield 16, 3) := dk_180 0 16 (dk_at dksX4_inner_2 9 rfl rfl)
theorem dX4_inner_60 : decode cX4_inner 60 = .ok (.bipush 8, 2) := dk_16 8 (dk_at dksX4_inner_2 12 rfl rfl)
theorem dX4_inner_62 : decode cX4_inner 62 = .ok (.iload_n 2, 1) := dk_28 (dk_at dksX4_inner_2 14 rfl rfl)
theorem dX4_inner_63 : decode cX4_inner 63 = .ok (.imul, 1) := dk_104 (dk_at dksX4_inner_2 15 rfl rfl)
theorem dX4_inner_64 : decode cX4_inner 64 = .ok (.iload_n 1, 1) := dk_27 (dk_at dksX4_inner_2 16 rfl rfl)
theorem dX4_inner_65 : decode cX4_inner 65 = .ok (.iadd, 1) := dk_96 (dk_at dksX4_inner_2 17 rfl rfl)
theorem dX4_inner_66 : decode cX4_inner 66 = .ok (.iaload, 1) := dk_46 (dk_at dksX4_inner_2 18 rfl rfl)
theorem dX4_inner_67 : decode cX4_inner 67 = .ok (.ireturn, 1) := dk_172 (dk_at dksX4_inner_2 19 rfl rfl)
abbrev cX4_begin : ByteArray := prog_6_method_36_code
def yX4_begin : MethodName := ⟨RX4, "begin", "(II)V"⟩
def dkwX4_begin_1 : List UInt8 := [42, 180, 0, 172, 3, 79, 42, 89, 180, 0, 172, 4, 96, 181, 0, 172, 177]
abbrev dktX4_begin_1 : List UInt8 := dkwX4_begin_1 ++ []
def dkwX4_begin_0 : List UInt8 := [42, 180, 0, 59, 42, 180, 0, 172, 27, 79, 42, 180, 0, 65, 42, 180, 0, 172, 28, 79, 42, 180, 0, 68]
abbrev dktX4_begin_0 : List UInt8 := dkwX4_begin_0 ++ dktX4_begin_1
theorem dksX4_begin_0 : cX4_begin.data.toList.drop 0 = dktX4_begin_0 := by decide +kernel
theorem dksX4_begin_1 : cX4_begin.data.toList.drop 24 = dktX4_begin_1 := dk_seg dksX4_begin_0 24 rfl rfl
theorem dX4_begin_0 : decode cX4_begin 0 = .ok (.aload_n 0, 1) := dk_42 (dk_at dksX4_begin_0 0 rfl rfl)
theorem dX4_begin_1 : decode cX4_begin 1 = .ok (.getfield 59, 3) := dk_180 0 59 (dk_at dksX4_begin_0 1 rfl rfl)
theorem dX4_begin_4 : decode cX4_begin 4 = .ok (.aload_n 0, 1) := dk_42 (dk_at dksX4_begin_0 4 rfl rfl)
theorem dX4_begin_5 : decode cX4_begin 5 = .ok (.getfield 172, 3) := dk_180 0 172 (dk_at dksX4_begin_0 5 rfl rfl)
theorem dX4_begin_8 : decode cX4_begin 8 = .ok (.iload_n 1, 1) := dk_27 (dk_at dksX4_begin_0 8 rfl rfl)
theorem dX4_begin_9 : decode cX4_begin 9 = .ok (.iastore, 1) := dk_79 (dk_at dksX4_begin_0 9 rfl rfl)
theorem dX4_begin_10 : decode cX4_begin 10 = .ok (.aload_n 0, 1) := dk_42 (dk_at dksX4_begin_0 10 rfl rfl)
theorem dX4_begin_11 : decode cX4_begin 11 = .ok (.getfield 65, 3) := dk_180 0 65 (dk_at dksX4_begin_0 11 rfl rfl)
theorem dX4_begin_14 : decode cX4_begin 14 = .ok (.aload_n 0, 1) := dk_42 (dk_at dksX4_begin_0 14 rfl rfl)
theorem dX4_begin_15 : decode cX4_begin 15 = .ok (.getfield 172, 3) := dk_180 0 172 (dk_at dksX4_begin_0 15 rfl rfl)
theorem dX4_begin_18 : decode cX4_begin 18 = .ok (.iload_n 2, 1) := dk_28 (dk_at dksX4_begin_0 18 rfl rfl)
theorem dX4_begin_19 : decode cX4_begin 19 = .ok (.iastore, 1) := dk_79 (dk_at dksX4_begin_0 19 rfl rfl)
theorem dX4_begin_20 : decode cX4_begin 20 = .ok (.aload_n 0, 1) := dk_42 (dk_at dksX4_begin_0 20 rfl rfl)
theorem dX4_begin_21 : decode cX4_begin 21 = .ok (.getfield 68, 3) := dk_180 0 68 (dk_at dksX4_begin_0 21 rfl rfl)
theorem dX4_begin_24 : decode cX4_begin 24 = .ok (.aload_n 0, 1) := dk_42 (dk_at dksX4_begin_1 0 rfl rfl)
theorem dX4_begin_25 : decode cX4_begin 25 = .ok (.getfield 172, 3) := dk_180 0 172 (dk_at dksX4_begin_1 1 rfl rfl)
theorem dX4_begin_28 : decode cX4_begin 28 = .ok (.iconst 0, 1) := dk_3 (dk_at dksX4_begin_1 4 rfl rfl)
theorem dX4_begin_29 : decode cX4_begin 29 = .ok (.iastore, 1) := dk_79 (dk_at dksX4_begin_1 5 rfl rfl)
theorem dX4_begin_30 : decode cX4_begin 30 = .ok (.aload_n 0, 1) := dk_42 (dk_at dksX4_begin_1 6 rfl rfl)
theorem dX4_begin_31 : decode cX4_begin 31 = .ok (.dup, 1) := dk_89 (dk_at dksX4_begin_1 7 rfl rfl)
theorem dX4_begin_32 : decode cX4_begin 32 = .ok (.getfield 172, 3) := dk_180 0 172 (dk_at dksX4_begin_1 8 rfl rfl)
theorem dX4_begin_35 : decode cX4_begin 35 = .ok (.iconst 1, 1) := dk_4 (dk_at dksX4_begin_1 11 rfl rfl)
theorem dX4_begin_36 : decode cX4_begin 36 = .ok (.iadd, 1) := dk_96 (dk_at dksX4_begin_1 12 rfl rfl)
theorem dX4_begin_37 : decode cX4_begin 37 = .ok (.putfield 172, 3) := dk_181 0 172 (dk_at dksX4_begin_1 13 rfl rfl)
theorem dX4_begin_40 : decode cX4_begin 40 = .ok (.return_, 1) := dk_177 (dk_at dksX4_begin_1 16 rfl rfl)
abbrev cX4_count : ByteArray := prog_6_method_41_code
def yX4_count : MethodName := ⟨RX4, "count", "(II)I"⟩
def dkwX4_count_9 : List UInt8 := [136, 172]
abbrev dktX4_count_9 : List UInt8 := dkwX4_count_9 ++ []
def dkwX4_count_8 : List UInt8 := [80, 132, 4, 1, 167, 255, 119, 132, 3, 1, 167, 255, 105, 42, 180, 0, 71, 16, 13, 27, 104, 28, 96, 47]
abbrev dktX4_count_8 : List UInt8 := dkwX4_count_8 ++ dktX4_count_9
def dkwX4_count_7 : List UInt8 := [160, 0, 13, 42, 21, 4, 29, 182, 0, 203, 167, 0, 14, 29, 4, 160, 0, 8, 22, 6, 167, 0, 4, 9]
abbrev dktX4_count_7 : List UInt8 := dkwX4_count_7 ++ dktX4_count_8
def dkwX4_count_6 : List UInt8 := [167, 0, 48, 21, 5, 16, 91, 160, 0, 13, 42, 21, 4, 29, 182, 0, 200, 167, 0, 31, 21, 5, 16, 42]
abbrev dktX4_count_6 : List UInt8 := dkwX4_count_6 ++ dktX4_count_7
def dkwX4_count_5 : List UInt8 := [180, 0, 71, 16, 13, 21, 4, 104, 29, 96, 21, 5, 16, 123, 160, 0, 13, 42, 21, 4, 29, 182, 0, 196]
abbrev dktX4_count_5 : List UInt8 := dkwX4_count_5 ++ dktX4_count_6
def dkwX4_count_4 : List UInt8 := [20, 0, 192, 167, 0, 17, 21, 5, 16, 115, 160, 0, 9, 20, 0, 194, 167, 0, 4, 9, 55, 6, 42]
abbrev dktX4_count_4 : List UInt8 := dkwX4_count_4 ++ dktX4_count_5
def dkwX4_count_3 : List UInt8 := [54, 5, 21, 5, 16, 110, 160, 0, 9, 20, 0, 190, 167, 0, 30, 21, 5, 16, 116, 160, 0, 9]
abbrev dktX4_count_3 : List UInt8 := dkwX4_count_3 ++ dktX4_count_4
def dkwX4_count_2 : List UInt8 := [28, 163, 0, 152, 3, 54, 4, 21, 4, 42, 180, 0, 116, 162, 0, 134, 42, 180, 0, 13, 21, 4, 46]
abbrev dktX4_count_2 : List UInt8 := dkwX4_count_2 ++ dktX4_count_3
def dkwX4_count_1 : List UInt8 := [62, 29, 17, 3, 12, 162, 0, 16, 42, 180, 0, 71, 29, 9, 80, 132, 3, 1, 167, 255, 239, 4, 62, 29]
abbrev dktX4_count_1 : List UInt8 := dkwX4_count_1 ++ dktX4_count_2
def dkwX4_count_0 : List UInt8 := [42, 27, 182, 0, 123, 154, 0, 5, 2, 172, 28, 4, 16, 12, 184, 0, 84, 154, 0, 6, 16, 254, 172, 3]
abbrev dktX4_count_0 : List UInt8 := dkwX4_count_0 ++ dktX4_count_1
theorem dksX4_count_0 : cX4_count.data.toList.drop 0 = dktX4_count_0 := by decide +kernel
theorem dksX4_count_1 : cX4_count.data.toList.drop 24 = dktX4_count_1 := dk_seg dksX4_count_0 24 rfl rfl
theorem dksX4_count_2 : cX4_count.data.toList.drop 48 = dktX4_count_2 := dk_seg dksX4_count_1 24 rfl rfl
theorem dksX4_count_3 : cX4_count.data.toList.drop 71 = dktX4_count_3 := dk_seg dksX4_count_2 23 rfl rfl
theorem dksX4_count_4 : cX4_count.data.toList.drop 93 = dktX4_count_4 := dk_seg dksX4_count_3 22 rfl rfl
theorem dksX4_count_5 : cX4_count.data.toList.drop 116 = dktX4_count_5 := dk_seg dksX4_count_4 23 rfl rfl
theorem dksX4_count_6 : cX4_count.data.toList.drop 140 = dktX4_count_6 := dk_seg dksX4_count_5 24 rfl rfl
theorem dksX4_count_7 : cX4_count.data.toList.drop 164 = dktX4_count_7 := dk_seg dksX4_count_6 24 rfl rfl
theorem dksX4_count_8 : cX4_count.data.toList.drop 188 = dktX4_count_8 := dk_seg dksX4_count_7 24 rfl rfl
theorem dksX4_count_9 : cX4_count.data.toList.drop 212 = dktX4_count_9 := dk_seg dksX4_count_8 24 rfl rfl
theorem dX4_count_0 : decode cX4_count 0 = .ok (.aload_n 0, 1) := dk_42 (dk_at dksX4_count_0 0 rfl rfl)
theorem dX4_count_1 : decode cX4_count 1 = .ok (.iload_n 1, 1) := dk_27 (dk_at dksX4_count_0 1 rfl rfl)
theorem dX4_count_2 : decode cX4_count 2 = .ok (.invokevirtual 123, 3) := dk_182 0 123 (dk_at dksX4_count_0 2 rfl rfl)
theorem dX4_count_5 : decode cX4_count 5 = .ok (.ifCond .ne 5, 3) := dk_154 0 5 (dk_at dksX4_count_0 5 rfl rfl)
theorem dX4_count_8 : decode cX4_count 8 = .ok (.iconst (-1), 1) := dk_2 (dk_at dksX4_count_0 8 rfl rfl)
theorem dX4_count_9 : decode cX4_count 9 = .ok (.ireturn, 1) := dk_172 (dk_at dksX4_count_0 9 rfl rfl)
theorem dX4_count_10 : decode cX4_count 10 = .ok (.iload_n 2, 1) := dk_28 (dk_at dksX4_count_0 10 rfl rfl)
theorem dX4_count_11 : decode cX4_count 11 = .ok (.iconst 1, 1) := dk_4 (dk_at dksX4_count_0 11 rfl rfl)
theorem dX4_count_12 : decode cX4_count 12 = .ok (.bipush 12, 2) := dk_16 12 (dk_at dksX4_count_0 12 rfl rfl)
theorem dX4_count_14 : decode cX4_count 14 = .ok (.invokestatic 84, 3) := dk_184 0 84 (dk_at dksX4_count_0 14 rfl rfl)
theorem dX4_count_17 : decode cX4_count 17 = .ok (.ifCond .ne 6, 3) := dk_154 0 6 (dk_at dksX4_count_0 17 rfl rfl)
theorem dX4_count_20 : decode cX4_count 20 = .ok (.bipush (-2), 2) := dk_16 254 (dk_at dksX4_count_0 20 rfl rfl)
theorem dX4_count_22 : decode cX4_count 22 = .ok (.ireturn, 1) := dk_172 (dk_at dksX4_count_0 22 rfl rfl)
theorem dX4_count_23 : decode cX4_count 23 = .ok (.iconst 0, 1) := dk_3 (dk_at dksX4_count_0 23 rfl rfl)
theorem dX4_count_24 : decode cX4_count 24 = .ok (.istore_n 3, 1) := dk_62 (dk_at dksX4_count_1 0 rfl rfl)
theorem dX4_count_25 : decode cX4_count 25 = .ok (.iload_n 3, 1) := dk_29 (dk_at dksX4_count_1 1 rfl rfl)
theorem dX4_count_26 : decode cX4_count 26 = .ok (.sipush 780, 3) := dk_17 3 12 (dk_at dksX4_count_1 2 rfl rfl)
theorem dX4_count_29 : decode cX4_count 29 = .ok (.if_icmp .ge 16, 3) := dk_162 0 16 (dk_at dksX4_count_1 5 rfl rfl)
theorem dX4_count_32 : decode cX4_count 32 = .ok (.aload_n 0, 1) := dk_42 (dk_at dksX4_count_1 8 rfl rfl)
theorem dX4_count_33 : decode cX4_count 33 = .ok (.getfield 71, 3) := dk_180 0 71 (dk_at dksX4_count_1 9 rfl rfl)
theorem dX4_count_36 : decode cX4_count 36 = .ok (.iload_n 3, 1) := dk_29 (dk_at dksX4_count_1 12 rfl rfl)
theorem dX4_count_37 : decode cX4_count 37 = .ok (.lconst 0, 1) := dk_9 (dk_at dksX4_count_1 13 rfl rfl)
theorem dX4_count_38 : decode cX4_count 38 = .ok (.lastore, 1) := dk_80 (dk_at dksX4_count_1 14 rfl rfl)
theorem dX4_count_39 : decode cX4_count 39 = .ok (.iinc 3 1, 3) := dk_132 3 1 (dk_at dksX4_count_1 15 rfl rfl)
theorem dX4_count_42 : decode cX4_count 42 = .ok (.goto (-17), 3) := dk_167 255 239 (dk_at dksX4_count_1 18 rfl rfl)
theorem dX4_count_45 : decode cX4_count 45 = .ok (.iconst 1, 1) := dk_4 (dk_at dksX4_count_1 21 rfl rfl)
theorem dX4_count_46 : decode cX4_count 46 = .ok (.istore_n 3, 1) := dk_62 (dk_at dksX4_count_1 22 rfl rfl)
theorem dX4_count_47 : decode cX4_count 47 = .ok (.iload_n 3, 1) := dk_29 (dk_at dksX4_count_1 23 rfl rfl)
theorem dX4_count_48 : decode cX4_count 48 = .ok (.iload_n 2, 1) := dk_28 (dk_at dksX4_count_2 0 rfl rfl)
theorem dX4_count_49 : decode cX4_count 49 = .ok (.if_icmp .gt 152, 3) := dk_163 0 152 (dk_at dksX4_count_2 1 rfl rfl)
theorem dX4_count_52 : decode cX4_count 52 = .ok (.iconst 0, 1) := dk_3 (dk_at dksX4_count_2 4 rfl rfl)
theorem dX4_count_53 : decode cX4_count 53 = .ok (.istore 4, 2) := dk_54 4 (dk_at dksX4_count_2 5 rfl rfl)
theorem dX4_count_55 : decode cX4_count 55 = .ok (.iload 4, 2) := dk_21 4 (dk_at dksX4_count_2 7 rfl rfl)
theorem dX4_count_57 : decode cX4_count 57 = .ok (.aload_n 0, 1) := dk_42 (dk_at dksX4_count_2 9 rfl rfl)
theorem dX4_count_58 : decode cX4_count 58 = .ok (.getfield 116, 3) := dk_180 0 116 (dk_at dksX4_count_2 10 rfl rfl)
theorem dX4_count_61 : decode cX4_count 61 = .ok (.if_icmp .ge 134, 3) := dk_162 0 134 (dk_at dksX4_count_2 13 rfl rfl)
theorem dX4_count_64 : decode cX4_count 64 = .ok (.aload_n 0, 1) := dk_42 (dk_at dksX4_count_2 16 rfl rfl)
theorem dX4_count_65 : decode cX4_count 65 = .ok (.getfield 13, 3) := dk_180 0 13 (dk_at dksX4_count_2 17 rfl rfl)
theorem dX4_count_68 : decode cX4_count 68 = .ok (.iload 4, 2) := dk_21 4 (dk_at dksX4_count_2 20 rfl rfl)
theorem dX4_count_70 : decode cX4_count 70 = .ok (.iaload, 1) := dk_46 (dk_at dksX4_count_2 22 rfl rfl)
theorem dX4_count_71 : decode cX4_count 71 = .ok (.istore 5, 2) := dk_54 5 (dk_at dksX4_count_3 0 rfl rfl)
theorem dX4_count_73 : decode cX4_count 73 = .ok (.iload 5, 2) := dk_21 5 (dk_at dksX4_count_3 2 rfl rfl)
theorem dX4_count_75 : decode cX4_count 75 = .ok (.bipush 110, 2) := dk_16 110 (dk_at dksX4_count_3 4 rfl rfl)
theorem dX4_count_77 : decode cX4_count 77 = .ok (.if_icmp .ne 9, 3) := dk_160 0 9 (dk_at dksX4_count_3 6 rfl rfl)
theorem dX4_count_80 : decode cX4_count 80 = .ok (.ldc2_w 190, 3) := dk_20 0 190 (dk_at dksX4_count_3 9 rfl rfl)
theorem dX4_count_83 : decode cX4_count 83 = .ok (.goto 30, 3) := dk_167 0 30 (dk_at dksX4_count_3 12 rfl rfl)
theorem dX4_count_86 : decode cX4_count 86 = .ok (.iload 5, 2) := dk_21 5 (dk_at dksX4_count_3 15 rfl rfl)
theorem dX4_count_88 : decode cX4_count 88 = .ok (.bipush 116, 2) := dk_16 116 (dk_at dksX4_count_3 17 rfl rfl)
theorem dX4_count_90 : decode cX4_count 90 = .ok (.if_icmp .ne 9, 3) := dk_160 0 9 (dk_at dksX4_count_3 19 rfl rfl)
theorem dX4_count_93 : decode cX4_count 93 = .ok (.ldc2_w 192, 3) := dk_20 0 192 (dk_at dksX4_count_4 0 rfl rfl)
theorem dX4_count_96 : decode cX4_count 96 = .ok (.goto 17, 3) := dk_167 0 17 (dk_at dksX4_count_4 3 rfl rfl)
theorem dX4_count_99 : decode cX4_count 99 = .ok (.iload 5, 2) := dk_21 5 (dk_at dksX4_count_4 6 rfl rfl)
theorem dX4_count_101 : decode cX4_count 101 = .ok (.bipush 115, 2) := dk_16 115 (dk_at dksX4_count_4 8 rfl rfl)
theorem dX4_count_103 : decode cX4_count 103 = .ok (.if_icmp .ne 9, 3) := dk_160 0 9 (dk_at dksX4_count_4 10 rfl rfl)
theorem dX4_count_106 : decode cX4_count 106 = .ok (.ldc2_w 194, 3) := dk_20 0 194 (dk_at dksX4_count_4 13 rfl rfl)
theorem dX4_count_109 : decode cX4_count 109 = .ok (.goto 4, 3) := dk_167 0 4 (dk_at dksX4_count_4 16 rfl rfl)
theorem dX4_count_112 : decode cX4_count 112 = .ok (.lconst 0, 1) := dk_9 (dk_at dksX4_count_4 19 rfl rfl)
theorem dX4_count_113 : decode cX4_count 113 = .ok (.lstore 6, 2) := dk_55 6 (dk_at dksX4_count_4 20 rfl rfl)
theorem dX4_count_115 : decode cX4_count 115 = .ok (.aload_n 0, 1) := dk_42 (dk_at dksX4_count_4 22 rfl rfl)
theorem dX4_count_116 : decode cX4_count 116 = .ok (.getfield 71, 3) := dk_180 0 71 (dk_at dksX4_count_5 0 rfl rfl)
theorem dX4_count_119 : decode cX4_count 119 = .ok (.bipush 13, 2) := dk_16 13 (dk_at dksX4_count_5 3 rfl rfl)
theorem dX4_count_121 : decode cX4_count 121 = .ok (.iload 4, 2) := dk_21 4 (dk_at dksX4_count_5 5 rfl rfl)
theorem dX4_count_123 : decode cX4_count 123 = .ok (.imul, 1) := dk_104 (dk_at dksX4_count_5 7 rfl rfl)
theorem dX4_count_124 : decode cX4_count 124 = .ok (.iload_n 3, 1) := dk_29 (dk_at dksX4_count_5 8 rfl rfl)
theorem dX4_count_125 : decode cX4_count 125 = .ok (.iadd, 1) := dk_96 (dk_at dksX4_count_5 9 rfl rfl)
theorem dX4_count_126 : decode cX4_count 126 = .ok (.iload 5, 2) := dk_21 5 (dk_at dksX4_count_5 10 rfl rfl)
theorem dX4_count_128 : decode cX4_count 128 = .ok (.bipush 123, 2) := dk_16 123 (dk_at dksX4_count_5 12 rfl rfl)
theorem dX4_count_130 : decode cX4_count 130 = .ok (.if_icmp .ne 13, 3) := dk_160 0 13 (dk_at dksX4_count_5 14 rfl rfl)
theorem dX4_count_133 : decode cX4_count 133 = .ok (.aload_n 0, 1) := dk_42 (dk_at dksX4_count_5 17 rfl rfl)
theorem dX4_count_134 : decode cX4_count 134 = .ok (.iload 4, 2) := dk_21 4 (dk_at dksX4_count_5 18 rfl rfl)
theorem dX4_count_136 : decode cX4_count 136 = .ok (.iload_n 3, 1) := dk_29 (dk_at dksX4_count_5 20 rfl rfl)
theorem dX4_count_137 : decode cX4_count 137 = .ok (.invokevirtual 196, 3) := dk_182 0 196 (dk_at dksX4_count_5 21 rfl rfl)
theorem dX4_count_140 : decode cX4_count 140 = .ok (.goto 48, 3) := dk_167 0 48 (dk_at dksX4_count_6 0 rfl rfl)
theorem dX4_count_143 : decode cX4_count 143 = .ok (.iload 5, 2) := dk_21 5 (dk_at dksX4_count_6 3 rfl rfl)
theorem dX4_count_145 : decode cX4_count 145 = .ok (.bipush 91, 2) := dk_16 91 (dk_at dksX4_count_6 5 rfl rfl)
theorem dX4_count_147 : decode cX4_count 147 = .ok (.if_icmp .ne 13, 3) := dk_160 0 13 (dk_at dksX4_count_6 7 rfl rfl)
theorem dX4_count_150 : decode cX4_count 150 = .ok (.aload_n 0, 1) := dk_42 (dk_at dksX4_count_6 10 rfl rfl)
theorem dX4_count_151 : decode cX4_count 151 = .ok (.iload 4, 2) := dk_21 4 (dk_at dksX4_count_6 11 rfl rfl)
theorem dX4_count_153 : decode cX4_count 153 = .ok (.iload_n 3, 1) := dk_29 (dk_at dksX4_count_6 13 rfl rfl)
theorem dX4_count_154 : decode cX4_count 154 = .ok (.invokevirtual 200, 3) := dk_182 0 200 (dk_at dksX4_count_6 14 rfl rfl)
theorem dX4_count_157 : decode cX4_count 157 = .ok (.goto 31, 3) := dk_167 0 31 (dk_at dksX4_count_6 17 rfl rfl)
theorem dX4_count_160 : decode cX4_count 160 = .ok (.iload 5, 2) := dk_21 5 (dk_at dksX4_count_6 20 rfl rfl)
theorem dX4_count_162 : decode cX4_count 162 = .ok (.bipush 42, 2) := dk_16 42 (dk_at dksX4_count_6 22 rfl rfl)
theorem dX4_count_164 : decode cX4_count 164 = .ok (.if_icmp .ne 13, 3) := dk_160 0 13 (dk_at dksX4_count_7 0 rfl rfl)
theorem dX4_count_167 : decode cX4_count 167 = .ok (.aload_n 0, 1) := dk_42 (dk_at dksX4_count_7 3 rfl rfl)
theorem dX4_count_168 : decode cX4_count 168 = .ok (.iload 4, 2) := dk_21 4 (dk_at dksX4_count_7 4 rfl rfl)
theorem dX4_count_170 : decode cX4_count 170 = .ok (.iload_n 3, 1) := dk_29 (dk_at dksX4_count_7 6 rfl rfl)
theorem dX4_count_171 : decode cX4_count 171 = .ok (.invokevirtual 203, 3) := dk_182 0 203 (dk_at dksX4_count_7 7 rfl rfl)
theorem dX4_count_174 : decode cX4_count 174 = .ok (.goto 14, 3) := dk_167 0 14 (dk_at dksX4_count_7 10 rfl rfl)
theorem dX4_count_177 : decode cX4_count 177 = .ok (.iload_n 3, 1) := dk_29 (dk_at dksX4_count_7 13 rfl rfl)
theorem dX4_count_178 : decode cX4_count 178 = .ok (.iconst 1, 1) := dk_4 (dk_at dksX4_count_7 14 rfl rfl)
theorem dX4_count_179 : decode cX4_count 179 = .ok (.if_icmp .ne 8, 3) := dk_160 0 8 (dk_at dksX4_count_7 15 rfl rfl)
theorem dX4_count_182 : decode cX4_count 182 = .ok (.lload 6, 2) := dk_22 6 (dk_at dksX4_count_7 18 rfl rfl)
theorem dX4_count_184 : decode cX4_count 184 = .ok (.goto 4, 3) := dk_167 0 4 (dk_at dksX4_count_7 20 rfl rfl)
theorem dX4_count_187 : decode cX4_count 187 = .ok (.lconst 0, 1) := dk_9 (dk_at dksX4_count_7 23 rfl rfl)
theorem dX4_count_188 : decode cX4_count 188 = .ok (.lastore, 1) := dk_80 (dk_at dksX4_count_8 0 rfl rfl)
theorem dX4_count_189 : decode cX4_count 189 = .ok (.iinc 4 1, 3) := dk_132 4 1 (dk_at dksX4_count_8 1 rfl rfl)
theorem dX4_count_192 : decode cX4_count 192 = .ok (.goto (-137), 3) := dk_167 255 119 (dk_at dksX4_count_8 4 rfl rfl)
theorem dX4_count_195 : decode cX4_count 195 = .ok (.iinc 3 1, 3) := dk_132 3 1 (dk_at dksX4_count_8 7 rfl rfl)
theorem dX4_count_198 : decode cX4_count 198 = .ok (.goto (-151), 3) := dk_167 255 105 (dk_at dksX4_count_8 10 rfl rfl)
theorem dX4_count_201 : decode cX4_count 201 = .ok (.aload_n 0, 1) := dk_42 (dk_at dksX4_count_8 13 rfl rfl)
theorem dX4_count_202 : decode cX4_count 202 = .ok (.getfield 71, 3) := dk_180 0 71 (dk_at dksX4_count_8 14 rfl rfl)
theorem dX4_count_205 : decode cX4_count 205 = .ok (.bipush 13, 2) := dk_16 13 (dk_at dksX4_count_8 17 rfl rfl)
theorem dX4_count_207 : decode cX4_count 207 = .ok (.iload_n 1, 1) := dk_27 (dk_at dksX4_count_8 19 rfl rfl)
theorem dX4_count_208 : decode cX4_count 208 = .ok (.imul, 1) := dk_104 (dk_at dksX4_count_8 20 rfl rfl)
theorem dX4_count_209 : decode cX4_count 209 = .ok (.iload_n 2, 1) := dk_28 (dk_at dksX4_count_8 21 rfl rfl)
theorem dX4_count_210 : decode cX4_count 210 = .ok (.iadd, 1) := dk_96 (dk_at dksX4_count_8 22 rfl rfl)
theorem dX4_count_211 : decode cX4_count 211 = .ok (.laload, 1) := dk_47 (dk_at dksX4_count_8 23 rfl rfl)
theorem dX4_count_212 : decode cX4_count 212 = .ok (.l2i, 1) := dk_136 (dk_at dksX4_count_9 0 rfl rfl)
theorem dX4_count_213 : decode cX4_count 213 = .ok (.ireturn, 1) := dk_172 (dk_at dksX4_count_9 1 rfl rfl)
abbrev cX4_recordCount : ByteArray := prog_6_method_38_code
def yX4_recordCount : MethodName := ⟨RX4, "recordCount", "(II)J"⟩
def dkwX4_recordCount_7 : List UInt8 := [167, 255, 233, 132, 3, 1, 167, 255, 116, 42, 180, 0, 75, 28, 47, 173]
abbrev dktX4_recordCount_7 : List UInt8 := dkwX4_recordCount_7 ++ []
def dkwX4_recordCount_6 : List UInt8 := [21, 5, 28, 163, 0, 23, 42, 180, 0, 75, 21, 5, 42, 180, 0, 78, 21, 5, 47, 80, 132, 5, 1]
abbrev dktX4_recordCount_6 : List UInt8 := dkwX4_recordCount_6 ++ dktX4_recordCount_7
def dkwX4_recordCount_5 : List UInt8 := [184, 0, 187, 97, 184, 0, 187, 80, 132, 6, 1, 167, 255, 201, 132, 5, 1, 167, 255, 178, 3, 54, 5]
abbrev dktX4_recordCount_5 : List UInt8 := dkwX4_recordCount_5 ++ dktX4_recordCount_6
def dkwX4_recordCount_4 : List UInt8 := [42, 180, 0, 75, 21, 5, 21, 6, 100, 47, 42, 180, 0, 71, 16, 13, 21, 4, 104, 21, 6, 96, 47, 105]
abbrev dktX4_recordCount_4 : List UInt8 := dkwX4_recordCount_4 ++ dktX4_recordCount_5
def dkwX4_recordCount_3 : List UInt8 := [80, 4, 54, 6, 21, 6, 21, 5, 162, 0, 54, 42, 180, 0, 78, 21, 5, 42, 180, 0, 78, 21, 5, 47]
abbrev dktX4_recordCount_3 : List UInt8 := dkwX4_recordCount_3 ++ dktX4_recordCount_4
def dkwX4_recordCount_2 : List UInt8 := [46, 54, 4, 21, 4, 155, 0, 116, 3, 54, 5, 21, 5, 28, 163, 0, 78, 42, 180, 0, 78, 21, 5, 9]
abbrev dktX4_recordCount_2 : List UInt8 := dkwX4_recordCount_2 ++ dktX4_recordCount_3
def dkwX4_recordCount_1 : List UInt8 := [132, 3, 1, 167, 255, 231, 3, 62, 29, 16, 8, 162, 0, 140, 42, 180, 0, 16, 16, 8, 27, 104, 29, 96]
abbrev dktX4_recordCount_1 : List UInt8 := dkwX4_recordCount_1 ++ dktX4_recordCount_2
def dkwX4_recordCount_0 : List UInt8 := [3, 62, 29, 16, 13, 162, 0, 25, 42, 180, 0, 75, 29, 29, 4, 160, 0, 7, 10, 167, 0, 4, 9, 80]
abbrev dktX4_recordCount_0 : List UInt8 := dkwX4_recordCount_0 ++ dktX4_recordCount_1
theorem dksX4_recordCount_0 : cX4_recordCount.data.toList.drop 0 = dktX4_recordCount_0 := by decide +kernel
theorem dksX4_recordCount_1 : cX4_recordCount.data.toList.drop 24 = dktX4_recordCount_1 := dk_seg dksX4_recordCount_0 24 rfl rfl
theorem dksX4_recordCount_2 : cX4_recordCount.data.toList.drop 48 = dktX4_recordCount_2 := dk_seg dksX4_recordCount_1 24 rfl rfl
theorem dksX4_recordCount_3 : cX4_recordCount.data.toList.drop 72 = dktX4_recordCount_3 := dk_seg dksX4_recordCount_2 24 rfl rfl
theorem dksX4_recordCount_4 : cX4_recordCount.data.toList.drop 96 = dktX4_recordCount_4 := dk_seg dksX4_recordCount_3 24 rfl rfl
theorem dksX4_recordCount_5 : cX4_recordCount.data.toList.drop 120 = dktX4_recordCount_5 := dk_seg dksX4_recordCount_4 24 rfl rfl
theorem dksX4_recordCount_6 : cX4_recordCount.data.toList.drop 143 = dktX4_recordCount_6 := dk_seg dksX4_recordCount_5 23 rfl rfl
theorem dksX4_recordCount_7 : cX4_recordCount.data.toList.drop 166 = dktX4_recordCount_7 := dk_seg dksX4_recordCount_6 23 rfl rfl
theorem dX4_recordCount_0 : decode cX4_recordCount 0 = .ok (.iconst 0, 1) := dk_3 (dk_at dksX4_recordCount_0 0 rfl rfl)
theorem dX4_recordCount_1 : decode cX4_recordCount 1 = .ok (.istore_n 3, 1) := dk_62 (dk_at dksX4_recordCount_0 1 rfl rfl)
theorem dX4_recordCount_2 : decode cX4_recordCount 2 = .ok (.iload_n 3, 1) := dk_29 (dk_at dksX4_recordCount_0 2 rfl rfl)
theorem dX4_recordCount_3 : decode cX4_recordCount 3 = .ok (.bipush 13, 2) := dk_16 13 (dk_at dksX4_recordCount_0 3 rfl rfl)
theorem dX4_recordCount_5 : decode cX4_recordCount 5 = .ok (.if_icmp .ge 25, 3) := dk_162 0 25 (dk_at dksX4_recordCount_0 5 rfl rfl)
theorem dX4_recordCount_8 : decode cX4_recordCount 8 = .ok (.aload_n 0, 1) := dk_42 (dk_at dksX4_recordCount_0 8 rfl rfl)
theorem dX4_recordCount_9 : decode cX4_recordCount 9 = .ok (.getfield 75, 3) := dk_180 0 75 (dk_at dksX4_recordCount_0 9 rfl rfl)
theorem dX4_recordCount_12 : decode cX4_recordCount 12 = .ok (.iload_n 3, 1) := dk_29 (dk_at dksX4_recordCount_0 12 rfl rfl)
theorem dX4_recordCount_13 : decode cX4_recordCount 13 = .ok (.iload_n 3, 1) := dk_29 (dk_at dksX4_recordCount_0 13 rfl rfl)
theorem dX4_recordCount_14 : decode cX4_recordCount 14 = .ok (.iconst 1, 1) := dk_4 (dk_at dksX4_recordCount_0 14 rfl rfl)
theorem dX4_recordCount_15 : decode cX4_recordCount 15 = .ok (.if_icmp .ne 7, 3) := dk_160 0 7 (dk_at dksX4_recordCount_0 15 rfl rfl)
theorem dX4_recordCount_18 : decode cX4_recordCount 18 = .ok (.lconst 1, 1) := dk_10 (dk_at dksX4_recordCount_0 18 rfl rfl)
theorem dX4_recordCount_19 : decode cX4_recordCount 19 = .ok (.goto 4, 3) := dk_167 0 4 (dk_at dksX4_recordCount_0 19 rfl rfl)
theorem dX4_recordCount_22 : decode cX4_recordCount 22 = .ok (.lconst 0, 1) := dk_9 (dk_at dksX4_recordCount_0 22 rfl rfl)
theorem dX4_recordCount_23 : decode cX4_recordCount 23 = .ok (.lastore, 1) := dk_80 (dk_at dksX4_recordCount_0 23 rfl rfl)
theorem dX4_recordCount_24 : decode cX4_recordCount 24 = .ok (.iinc 3 1, 3) := dk_132 3 1 (dk_at dksX4_recordCount_1 0 rfl rfl)
theorem dX4_recordCount_27 : decode cX4_recordCount 27 = .ok (.goto (-25), 3) := dk_167 255 231 (dk_at dksX4_recordCount_1 3 rfl rfl)
theorem dX4_recordCount_30 : decode cX4_recordCount 30 = .ok (.iconst 0, 1) := dk_3 (dk_at dksX4_recordCount_1 6 rfl rfl)
theorem dX4_recordCount_31 : decode cX4_recordCount 31 = .ok (.istore_n 3, 1) := dk_62 (dk_at dksX4_recordCount_1 7 rfl rfl)
theorem dX4_recordCount_32 : decode cX4_recordCount 32 = .ok (.iload_n 3, 1) := dk_29 (dk_at dksX4_recordCount_1 8 rfl rfl)
theorem dX4_recordCount_33 : decode cX4_recordCount 33 = .ok (.bipush 8, 2) := dk_16 8 (dk_at dksX4_recordCount_1 9 rfl rfl)
theorem dX4_recordCount_35 : decode cX4_recordCount 35 = .ok (.if_icmp .ge 140, 3) := dk_162 0 140 (dk_at dksX4_recordCount_1 11 rfl rfl)
theorem dX4_recordCount_38 : decode cX4_recordCount 38 = .ok (.aload_n 0, 1) := dk_42 (dk_at dksX4_recordCount_1 14 rfl rfl)
theorem dX4_recordCount_39 : decode cX4_recordCount 39 = .ok (.getfield 16, 3) := dk_180 0 16 (dk_at dksX4_recordCount_1 15 rfl rfl)
theorem dX4_recordCount_42 : decode cX4_recordCount 42 = .ok (.bipush 8, 2) := dk_16 8 (dk_at dksX4_recordCount_1 18 rfl rfl)
theorem dX4_recordCount_44 : decode cX4_recordCount 44 = .ok (.iload_n 1, 1) := dk_27 (dk_at dksX4_recordCount_1 20 rfl rfl)
theorem dX4_recordCount_45 : decode cX4_recordCount 45 = .ok (.imul, 1) := dk_104 (dk_at dksX4_recordCount_1 21 rfl rfl)
theorem dX4_recordCount_46 : decode cX4_recordCount 46 = .ok (.iload_n 3, 1) := dk_29 (dk_at dksX4_recordCount_1 22 rfl rfl)
theorem dX4_recordCount_47 : decode cX4_recordCount 47 = .ok (.iadd, 1) := dk_96 (dk_at dksX4_recordCount_1 23 rfl rfl)
theorem dX4_recordCount_48 : decode cX4_recordCount 48 = .ok (.iaload, 1) := dk_46 (dk_at dksX4_recordCount_2 0 rfl rfl)
theorem dX4_recordCount_49 : decode cX4_recordCount 49 = .ok (.istore 4, 2) := dk_54 4 (dk_at dksX4_recordCount_2 1 rfl rfl)
theorem dX4_recordCount_51 : decode cX4_recordCount 51 = .ok (.iload 4, 2) := dk_21 4 (dk_at dksX4_recordCount_2 3 rfl rfl)
theorem dX4_recordCount_53 : decode cX4_recordCount 53 = .ok (.ifCond .lt 116, 3) := dk_155 0 116 (dk_at dksX4_recordCount_2 5 rfl rfl)
theorem dX4_recordCount_56 : decode cX4_recordCount 56 = .ok (.iconst 0, 1) := dk_3 (dk_at dksX4_recordCount_2 8 rfl rfl)
theorem dX4_recordCount_57 : decode cX4_recordCount 57 = .ok (.istore 5, 2) := dk_54 5 (dk_at dksX4_recordCount_2 9 rfl rfl)
theorem dX4_recordCount_59 : decode cX4_recordCount 59 = .ok (.iload 5, 2) := dk_21 5 (dk_at dksX4_recordCount_2 11 rfl rfl)
theorem dX4_recordCount_61 : decode cX4_recordCount 61 = .ok (.iload_n 2, 1) := dk_28 (dk_at dksX4_recordCount_2 13 rfl rfl)
theorem dX4_recordCount_62 : decode cX4_recordCount 62 = .ok (.if_icmp .gt 78, 3) := dk_163 0 78 (dk_at dksX4_recordCount_2 14 rfl rfl)
theorem dX4_recordCount_65 : decode cX4_recordCount 65 = .ok (.aload_n 0, 1) := dk_42 (dk_at dksX4_recordCount_2 17 rfl rfl)
theorem dX4_recordCount_66 : decode cX4_recordCount 66 = .ok (.getfield 78, 3) := dk_180 0 78 (dk_at dksX4_recordCount_2 18 rfl rfl)
theorem dX4_recordCount_69 : decode cX4_recordCount 69 = .ok (.iload 5, 2) := dk_21 5 (dk_at dksX4_recordCount_2 21 rfl rfl)
theorem dX4_recordCount_71 : decode cX4_recordCount 71 = .ok (.lconst 0, 1) := dk_9 (dk_at dksX4_recordCount_2 23 rfl rfl)
theorem dX4_recordCount_72 : decode cX4_recordCount 72 = .ok (.lastore, 1) := dk_80 (dk_at dksX4_recordCount_3 0 rfl rfl)
theorem dX4_recordCount_73 : decode cX4_recordCount 73 = .ok (.iconst 1, 1) := dk_4 (dk_at dksX4_recordCount_3 1 rfl rfl)
theorem dX4_recordCount_74 : decode cX4_recordCount 74 = .ok (.istore 6, 2) := dk_54 6 (dk_at dksX4_recordCount_3 2 rfl rfl)
theorem dX4_recordCount_76 : decode cX4_recordCount 76 = .ok (.iload 6, 2) := dk_21 6 (dk_at dksX4_recordCount_3 4 rfl rfl)
theorem dX4_recordCount_78 : decode cX4_recordCount 78 = .ok (.iload 5, 2) := dk_21 5 (dk_at dksX4_recordCount_3 6 rfl rfl)
theorem dX4_recordCount_80 : decode cX4_recordCount 80 = .ok (.if_icmp .ge 54, 3) := dk_162 0 54 (dk_at dksX4_recordCount_3 8 rfl rfl)
theorem dX4_recordCount_83 : decode cX4_recordCount 83 = .ok (.aload_n 0, 1) := dk_42 (dk_at dksX4_recordCount_3 11 rfl rfl)
theorem dX4_recordCount_84 : decode cX4_recordCount 84 = .ok (.getfield 78, 3) := dk_180 0 78 (dk_at dksX4_recordCount_3 12 rfl rfl)
theorem dX4_recordCount_87 : decode cX4_recordCount 87 = .ok (.iload 5, 2) := dk_21 5 (dk_at dksX4_recordCount_3 15 rfl rfl)
theorem dX4_recordCount_89 : decode cX4_recordCount 89 = .ok (.aload_n 0, 1) := dk_42 (dk_at dksX4_recordCount_3 17 rfl rfl)
theorem dX4_recordCount_90 : decode cX4_recordCount 90 = .ok (.getfield 78, 3) := dk_180 0 78 (dk_at dksX4_recordCount_3 18 rfl rfl)
theorem dX4_recordCount_93 : decode cX4_recordCount 93 = .ok (.iload 5, 2) := dk_21 5 (dk_at dksX4_recordCount_3 21 rfl rfl)
theorem dX4_recordCount_95 : decode cX4_recordCount 95 = .ok (.laload, 1) := dk_47 (dk_at dksX4_recordCount_3 23 rfl rfl)
theorem dX4_recordCount_96 : decode cX4_recordCount 96 = .ok (.aload_n 0, 1) := dk_42 (dk_at dksX4_recordCount_4 0 rfl rfl)
theorem dX4_recordCount_97 : decode cX4_recordCount 97 = .ok (.getfield 75, 3) := dk_180 0 75 (dk_at dksX4_recordCount_4 1 rfl rfl)
theorem dX4_recordCount_100 : decode cX4_recordCount 100 = .ok (.iload 5, 2) := dk_21 5 (dk_at dksX4_recordCount_4 4 rfl rfl)
theorem dX4_recordCount_102 : decode cX4_recordCount 102 = .ok (.iload 6, 2) := dk_21 6 (dk_at dksX4_recordCount_4 6 rfl rfl)
theorem dX4_recordCount_104 : decode cX4_recordCount 104 = .ok (.isub, 1) := dk_100 (dk_at dksX4_recordCount_4 8 rfl rfl)
theorem dX4_recordCount_105 : decode cX4_recordCount 105 = .ok (.laload, 1) := dk_47 (dk_at dksX4_recordCount_4 9 rfl rfl)
theorem dX4_recordCount_106 : decode cX4_recordCount 106 = .ok (.aload_n 0, 1) := dk_42 (dk_at dksX4_recordCount_4 10 rfl rfl)
theorem dX4_recordCount_107 : decode cX4_recordCount 107 = .ok (.getfield 71, 3) := dk_180 0 71 (dk_at dksX4_recordCount_4 11 rfl rfl)
theorem dX4_recordCount_110 : decode cX4_recordCount 110 = .ok (.bipush 13, 2) := dk_16 13 (dk_at dksX4_recordCount_4 14 rfl rfl)
theorem dX4_recordCount_112 : decode cX4_recordCount 112 = .ok (.iload 4, 2) := dk_21 4 (dk_at dksX4_recordCount_4 16 rfl rfl)
theorem dX4_recordCount_114 : decode cX4_recordCount 114 = .ok (.imul, 1) := dk_104 (dk_at dksX4_recordCount_4 18 rfl rfl)
theorem dX4_recordCount_115 : decode cX4_recordCount 115 = .ok (.iload 6, 2) := dk_21 6 (dk_at dksX4_recordCount_4 19 rfl rfl)
theorem dX4_recordCount_117 : decode cX4_recordCount 117 = .ok (.iadd, 1) := dk_96 (dk_at dksX4_recordCount_4 21 rfl rfl)
theorem dX4_recordCount_118 : decode cX4_recordCount 118 = .ok (.laload, 1) := dk_47 (dk_at dksX4_recordCount_4 22 rfl rfl)
theorem dX4_recordCount_119 : decode cX4_recordCount 119 = .ok (.lmul, 1) := dk_105 (dk_at dksX4_recordCount_4 23 rfl rfl)
theorem dX4_recordCount_120 : decode cX4_recordCount 120 = .ok (.invokestatic 187, 3) := dk_184 0 187 (dk_at dksX4_recordCount_5 0 rfl rfl)
theorem dX4_recordCount_123 : decode cX4_recordCount 123 = .ok (.ladd, 1) := dk_97 (dk_at dksX4_recordCount_5 3 rfl rfl)
theorem dX4_recordCount_124 : decode cX4_recordCount 124 = .ok (.invokestatic 187, 3) := dk_184 0 187 (dk_at dksX4_recordCount_5 4 rfl rfl)
theorem dX4_recordCount_127 : decode cX4_recordCount 127 = .ok (.lastore, 1) := dk_80 (dk_at dksX4_recordCount_5 7 rfl rfl)
theorem dX4_recordCount_128 : decode cX4_recordCount 128 = .ok (.iinc 6 1, 3) := dk_132 6 1 (dk_at dksX4_recordCount_5 8 rfl rfl)
theorem dX4_recordCount_131 : decode cX4_recordCount 131 = .ok (.goto (-55), 3) := dk_167 255 201 (dk_at dksX4_recordCount_5 11 rfl rfl)
theorem dX4_recordCount_134 : decode cX4_recordCount 134 = .ok (.iinc 5 1, 3) := dk_132 5 1 (dk_at dksX4_recordCount_5 14 rfl rfl)
theorem dX4_recordCount_137 : decode cX4_recordCount 137 = .ok (.goto (-78), 3) := dk_167 255 178 (dk_at dksX4_recordCount_5 17 rfl rfl)
theorem dX4_recordCount_140 : decode cX4_recordCount 140 = .ok (.iconst 0, 1) := dk_3 (dk_at dksX4_recordCount_5 20 rfl rfl)
theorem dX4_recordCount_141 : decode cX4_recordCount 141 = .ok (.istore 5, 2) := dk_54 5 (dk_at dksX4_recordCount_5 21 rfl rfl)
theorem dX4_recordCount_143 : decode cX4_recordCount 143 = .ok (.iload 5, 2) := dk_21 5 (dk_at dksX4_recordCount_6 0 rfl rfl)
theorem dX4_recordCount_145 : decode cX4_recordCount 145 = .ok (.iload_n 2, 1) := dk_28 (dk_at dksX4_recordCount_6 2 rfl rfl)
theorem dX4_recordCount_146 : decode cX4_recordCount 146 = .ok (.if_icmp .gt 23, 3) := dk_163 0 23 (dk_at dksX4_recordCount_6 3 rfl rfl)
theorem dX4_recordCount_149 : decode cX4_recordCount 149 = .ok (.aload_n 0, 1) := dk_42 (dk_at dksX4_recordCount_6 6 rfl rfl)
theorem dX4_recordCount_150 : decode cX4_recordCount 150 = .ok (.getfield 75, 3) := dk_180 0 75 (dk_at dksX4_recordCount_6 7 rfl rfl)
theorem dX4_recordCount_153 : decode cX4_recordCount 153 = .ok (.iload 5, 2) := dk_21 5 (dk_at dksX4_recordCount_6 10 rfl rfl)
theorem dX4_recordCount_155 : decode cX4_recordCount 155 = .ok (.aload_n 0, 1) := dk_42 (dk_at dksX4_recordCount_6 12 rfl rfl)
theorem dX4_recordCount_156 : decode cX4_recordCount 156 = .ok (.getfield 78, 3) := dk_180 0 78 (dk_at dksX4_recordCount_6 13 rfl rfl)
theorem dX4_recordCount_159 : decode cX4_recordCount 159 = .ok (.iload 5, 2) := dk_21 5 (dk_at dksX4_recordCount_6 16 rfl rfl)
theorem dX4_recordCount_161 : decode cX4_recordCount 161 = .ok (.laload, 1) := dk_47 (dk_at dksX4_recordCount_6 18 rfl rfl)
theorem dX4_recordCount_162 : decode cX4_recordCount 162 = .ok (.lastore, 1) := dk_80 (dk_at dksX4_recordCount_6 19 rfl rfl)
theorem dX4_recordCount_163 : decode cX4_recordCount 163 = .ok (.iinc 5 1, 3) := dk_132 5 1 (dk_at dksX4_recordCount_6 20 rfl rfl)
theorem dX4_recordCount_166 : decode cX4_recordCount 166 = .ok (.goto (-23), 3) := dk_167 255 233 (dk_at dksX4_recordCount_7 0 rfl rfl)
theorem dX4_recordCount_169 : decode cX4_recordCount 169 = .ok (.iinc 3 1, 3) := dk_132 3 1 (dk_at dksX4_recordCount_7 3 rfl rfl)
theorem dX4_recordCount_172 : decode cX4_recordCount 172 = .ok (.goto (-140), 3) := dk_167 255 116 (dk_at dksX4_recordCount_7 6 rfl rfl)
theorem dX4_recordCount_175 : decode cX4_recordCount 175 = .ok (.aload_n 0, 1) := dk_42 (dk_at dksX4_recordCount_7 9 rfl rfl)
theorem dX4_recordCount_176 : decode cX4_recordCount 176 = .ok (.getfield 75, 3) := dk_180 0 75 (dk_at dksX4_recordCount_7 10 rfl rfl)
theorem dX4_recordCount_179 : decode cX4_recordCount 179 = .ok (.iload_n 2, 1) := dk_28 (dk_at dksX4_recordCount_7 13 rfl rfl)
theorem dX4_recordCount_180 : decode cX4_recordCount 180 = .ok (.laload, 1) := dk_47 (dk_at dksX4_recordCount_7 14 rfl rfl)
theorem dX4_recordCount_181 : decode cX4_recordCount 181 = .ok (.lreturn, 1) := dk_173 (dk_at dksX4_recordCount_7 15 rfl rfl)
abbrev cX4_held : ByteArray := prog_6_method_37_code
def yX4_held : MethodName := ⟨RX4, "held", "(J)J"⟩
def dkwX4_held_0 : List UInt8 := [30, 20, 0, 185, 148, 158, 0, 9, 20, 0, 185, 167, 0, 4, 30, 173]
abbrev dktX4_held_0 : List UInt8 := dkwX4_held_0 ++ []
theorem dksX4_held_0 : cX4_held.data.toList.drop 0 = dktX4_held_0 := by decide +kernel
theorem dX4_held_0 : decode cX4_held 0 = .ok (.lload_n 0, 1) := dk_30 (dk_at dksX4_held_0 0 rfl rfl)
theorem dX4_held_1 : decode cX4_held 1 = .ok (.ldc2_w 185, 3) := dk_20 0 185 (dk_at dksX4_held_0 1 rfl rfl)
theorem dX4_held_4 : decode cX4_held 4 = .ok (.lcmp, 1) := dk_148 (dk_at dksX4_held_0 4 rfl rfl)
theorem dX4_held_5 : decode cX4_held 5 = .ok (.ifCond .le 9, 3) := dk_158 0 9 (dk_at dksX4_held_0 5 rfl rfl)
theorem dX4_held_8 : decode cX4_held 8 = .ok (.ldc2_w 185, 3) := dk_20 0 185 (dk_at dksX4_held_0 8 rfl rfl)
theorem dX4_held_11 : decode cX4_held 11 = .ok (.goto 4, 3) := dk_167 0 4 (dk_at dksX4_held_0 11 rfl rfl)
theorem dX4_held_14 : decode cX4_held 14 = .ok (.lload_n 0, 1) := dk_30 (dk_at dksX4_held_0 14 rfl rfl)
theorem dX4_held_15 : decode cX4_held 15 = .ok (.lreturn, 1) := dk_173 (dk_at dksX4_held_0 15 rfl rfl)
abbrev cX4_choiceCount : ByteArray := prog_6_method_40_code
def yX4_choiceCount : MethodName := ⟨RX4, "choiceCount", "(II)J"⟩
def dkwX4_choiceCount_2 : List UInt8 := [96, 4, 100, 47, 167, 0, 4, 9, 97, 66, 132, 5, 1, 167, 255, 200, 33, 184, 0, 187, 173]
abbrev dktX4_choiceCount_2 : List UInt8 := dkwX4_choiceCount_2 ++ []
def dkwX4_choiceCount_1 : List UInt8 := [46, 155, 0, 30, 42, 180, 0, 71, 16, 13, 42, 180, 0, 16, 16, 8, 27, 104, 21, 5, 96, 46, 104, 28]
abbrev dktX4_choiceCount_1 : List UInt8 := dkwX4_choiceCount_1 ++ dktX4_choiceCount_2
def dkwX4_choiceCount_0 : List UInt8 := [9, 66, 3, 54, 5, 21, 5, 16, 8, 162, 0, 55, 33, 42, 180, 0, 16, 16, 8, 27, 104, 21, 5, 96]
abbrev dktX4_choiceCount_0 : List UInt8 := dkwX4_choiceCount_0 ++ dktX4_choiceCount_1
theorem dksX4_choiceCount_0 : cX4_choiceCount.data.toList.drop 0 = dktX4_choiceCount_0 := by decide +kernel
theorem dksX4_choiceCount_1 : cX4_choiceCount.data.toList.drop 24 = dktX4_choiceCount_1 := dk_seg dksX4_choiceCount_0 24 rfl rfl
theorem dksX4_choiceCount_2 : cX4_choiceCount.data.toList.drop 48 = dktX4_choiceCount_2 := dk_seg dksX4_choiceCount_1 24 rfl rfl
theorem dX4_choiceCount_0 : decode cX4_choiceCount 0 = .ok (.lconst 0, 1) := dk_9 (dk_at dksX4_choiceCount_0 0 rfl rfl)
theorem dX4_choiceCount_1 : decode cX4_choiceCount 1 = .ok (.lstore_n 3, 1) := dk_66 (dk_at dksX4_choiceCount_0 1 rfl rfl)
theorem dX4_choiceCount_2 : decode cX4_choiceCount 2 = .ok (.iconst 0, 1) := dk_3 (dk_at dksX4_choiceCount_0 2 rfl rfl)
theorem dX4_choiceCount_3 : decode cX4_choiceCount 3 = .ok (.istore 5, 2) := dk_54 5 (dk_at dksX4_choiceCount_0 3 rfl rfl)
theorem dX4_choiceCount_5 : decode cX4_choiceCount 5 = .ok (.iload 5, 2) := dk_21 5 (dk_at dksX4_choiceCount_0 5 rfl rfl)
theorem dX4_choiceCount_7 : decode cX4_choiceCount 7 = .ok (.bipush 8, 2) := dk_16 8 (dk_at dksX4_choiceCount_0 7 rfl rfl)
theorem dX4_choiceCount_9 : decode cX4_choiceCount 9 = .ok (.if_icmp .ge 55, 3) := dk_162 0 55 (dk_at dksX4_choiceCount_0 9 rfl rfl)
theorem dX4_choiceCount_12 : decode cX4_choiceCount 12 = .ok (.lload_n 3, 1) := dk_33 (dk_at dksX4_choiceCount_0 12 rfl rfl)
theorem dX4_choiceCount_13 : decode cX4_choiceCount 13 = .ok (.aload_n 0, 1) := dk_42 (dk_at dksX4_choiceCount_0 13 rfl rfl)
theorem dX4_choiceCount_14 : decode cX4_choiceCount 14 = .ok (.getfield 16, 3) := dk_180 0 16 (dk_at dksX4_choiceCount_0 14 rfl rfl)
theorem dX4_choiceCount_17 : decode cX4_choiceCount 17 = .ok (.bipush 8, 2) := dk_16 8 (dk_at dksX4_choiceCount_0 17 rfl rfl)
theorem dX4_choiceCount_19 : decode cX4_choiceCount 19 = .ok (.iload_n 1, 1) := dk_27 (dk_at dksX4_choiceCount_0 19 rfl rfl)
theorem dX4_choiceCount_20 : decode cX4_choiceCount 20 = .ok (.imul, 1) := dk_104 (dk_at dksX4_choiceCount_0 20 rfl rfl)
theorem dX4_choiceCount_21 : decode cX4_choiceCount 21 = .ok (.iload 5, 2) := dk_21 5 (dk_at dksX4_choiceCount_0 21 rfl rfl)
theorem dX4_choiceCount_23 : decode cX4_choiceCount 23 = .ok (.iadd, 1) := dk_96 (dk_at dksX4_choiceCount_0 23 rfl rfl)
theorem dX4_choiceCount_24 : decode cX4_choiceCount 24 = .ok (.iaload, 1) := dk_46 (dk_at dksX4_choiceCount_1 0 rfl rfl)
theorem dX4_choiceCount_25 : decode cX4_choiceCount 25 = .ok (.ifCond .lt 30, 3) := dk_155 0 30 (dk_at dksX4_choiceCount_1 1 rfl rfl)
theorem dX4_choiceCount_28 : decode cX4_choiceCount 28 = .ok (.aload_n 0, 1) := dk_42 (dk_at dksX4_choiceCount_1 4 rfl rfl)
theorem dX4_choiceCount_29 : decode cX4_choiceCount 29 = .ok (.getfield 71, 3) := dk_180 0 71 (dk_at dksX4_choiceCount_1 5 rfl rfl)
theorem dX4_choiceCount_32 : decode cX4_choiceCount 32 = .ok (.bipush 13, 2) := dk_16 13 (dk_at dksX4_choiceCount_1 8 rfl rfl)
theorem dX4_choiceCount_34 : decode cX4_choiceCount 34 = .ok (.aload_n 0, 1) := dk_42 (dk_at dksX4_choiceCount_1 10 rfl rfl)
theorem dX4_choiceCount_35 : decode cX4_choiceCount 35 = .ok (.getfield 16, 3) := dk_180 0 16 (dk_at dksX4_choiceCount_1 11 rfl rfl)
theorem dX4_choiceCount_38 : decode cX4_choiceCount 38 = .ok (.bipush 8, 2) := dk_16 8 (dk_at dksX4_choiceCount_1 14 rfl rfl)
theorem dX4_choiceCount_40 : decode cX4_choiceCount 40 = .ok (.iload_n 1, 1) := dk_27 (dk_at dksX4_choiceCount_1 16 rfl rfl)
theorem dX4_choiceCount_41 : decode cX4_choiceCount 41 = .ok (.imul, 1) := dk_104 (dk_at dksX4_choiceCount_1 17 rfl rfl)
theorem dX4_choiceCount_42 : decode cX4_choiceCount 42 = .ok (.iload 5, 2) := dk_21 5 (dk_at dksX4_choiceCount_1 18 rfl rfl)
theorem dX4_choiceCount_44 : decode cX4_choiceCount 44 = .ok (.iadd, 1) := dk_96 (dk_at dksX4_choiceCount_1 20 rfl rfl)
theorem dX4_choiceCount_45 : decode cX4_choiceCount 45 = .ok (.iaload, 1) := dk_46 (dk_at dksX4_choiceCount_1 21 rfl rfl)
theorem dX4_choiceCount_46 : decode cX4_choiceCount 46 = .ok (.imul, 1) := dk_104 (dk_at dksX4_choiceCount_1 22 rfl rfl)
theorem dX4_choiceCount_47 : decode cX4_choiceCount 47 = .ok (.iload_n 2, 1) := dk_28 (dk_at dksX4_choiceCount_1 23 rfl rfl)
theorem dX4_choiceCount_48 : decode cX4_choiceCount 48 = .ok (.iadd, 1) := dk_96 (dk_at dksX4_choiceCount_2 0 rfl rfl)
theorem dX4_choiceCount_49 : decode cX4_choiceCount 49 = .ok (.iconst 1, 1) := dk_4 (dk_at dksX4_choiceCount_2 1 rfl rfl)
theorem dX4_choiceCount_50 : decode cX4_choiceCount 50 = .ok (.isub, 1) := dk_100 (dk_at dksX4_choiceCount_2 2 rfl rfl)
theorem dX4_choiceCount_51 : decode cX4_choiceCount 51 = .ok (.laload, 1) := dk_47 (dk_at dksX4_choiceCount_2 3 rfl rfl)
theorem dX4_choiceCount_52 : decode cX4_choiceCount 52 = .ok (.goto 4, 3) := dk_167 0 4 (dk_at dksX4_choiceCount_2 4 rfl rfl)
theorem dX4_choiceCount_55 : decode cX4_choiceCount 55 = .ok (.lconst 0, 1) := dk_9 (dk_at dksX4_choiceCount_2 7 rfl rfl)
theorem dX4_choiceCount_56 : decode cX4_choiceCount 56 = .ok (.ladd, 1) := dk_97 (dk_at dksX4_choiceCount_2 8 rfl rfl)
theorem dX4_choiceCount_57 : decode cX4_choiceCount 57 = .ok (.lstore_n 3, 1) := dk_66 (dk_at dksX4_choiceCount_2 9 rfl rfl)
theorem dX4_choiceCount_58 : decode cX4_choiceCount 58 = .ok (.iinc 5 1, 3) := dk_132 5 1 (dk_at dksX4_choiceCount_2 10 rfl rfl)
theorem dX4_choiceCount_61 : decode cX4_choiceCount 61 = .ok (.goto (-56), 3) := dk_167 255 200 (dk_at dksX4_choiceCount_2 13 rfl rfl)
theorem dX4_choiceCount_64 : decode cX4_choiceCount 64 = .ok (.lload_n 3, 1) := dk_33 (dk_at dksX4_choiceCount_2 16 rfl rfl)
theorem dX4_choiceCount_65 : decode cX4_choiceCount 65 = .ok (.invokestatic 187, 3) := dk_184 0 187 (dk_at dksX4_choiceCount_2 17 rfl rfl)
theorem dX4_choiceCount_68 : decode cX4_choiceCount 68 = .ok (.lreturn, 1) := dk_173 (dk_at dksX4_choiceCount_2 20 rfl rfl)
abbrev cX4_listCount : ByteArray := prog_6_method_39_code
def yX4_listCount : MethodName := ⟨RX4, "listCount", "(II)J"⟩
def dkwX4_listCount_4 : List UInt8 := [167, 255, 202, 132, 4, 1, 167, 255, 179, 42, 180, 0, 75, 28, 4, 100, 47, 173]
abbrev dktX4_listCount_4 : List UInt8 := dkwX4_listCount_4 ++ []
def dkwX4_listCount_3 : List UInt8 := [180, 0, 71, 16, 13, 29, 104, 21, 5, 96, 47, 105, 184, 0, 187, 97, 184, 0, 187, 80, 132, 5, 1]
abbrev dktX4_listCount_3 : List UInt8 := dkwX4_listCount_3 ++ dktX4_listCount_4
def dkwX4_listCount_2 : List UInt8 := [180, 0, 75, 21, 4, 42, 180, 0, 75, 21, 4, 47, 42, 180, 0, 75, 21, 4, 21, 5, 100, 47, 42]
abbrev dktX4_listCount_2 : List UInt8 := dkwX4_listCount_2 ++ dktX4_listCount_3
def dkwX4_listCount_1 : List UInt8 := [162, 0, 77, 42, 180, 0, 75, 21, 4, 9, 80, 4, 54, 5, 21, 5, 21, 4, 163, 0, 53, 42]
abbrev dktX4_listCount_1 : List UInt8 := dkwX4_listCount_1 ++ dktX4_listCount_2
def dkwX4_listCount_0 : List UInt8 := [42, 180, 0, 16, 16, 8, 27, 104, 46, 62, 42, 180, 0, 75, 3, 10, 80, 4, 54, 4, 21, 4, 28]
abbrev dktX4_listCount_0 : List UInt8 := dkwX4_listCount_0 ++ dktX4_listCount_1
theorem dksX4_listCount_0 : cX4_listCount.data.toList.drop 0 = dktX4_listCount_0 := by decide +kernel
theorem dksX4_listCount_1 : cX4_listCount.data.toList.drop 23 = dktX4_listCount_1 := dk_seg dksX4_listCount_0 23 rfl rfl
theorem dksX4_listCount_2 : cX4_listCount.data.toList.drop 45 = dktX4_listCount_2 := dk_seg dksX4_listCount_1 22 rfl rfl
theorem dksX4_listCount_3 : cX4_listCount.data.toList.drop 68 = dktX4_listCount_3 := dk_seg dksX4_listCount_2 23 rfl rfl
theorem dksX4_listCount_4 : cX4_listCount.data.toList.drop 91 = dktX4_listCount_4 := dk_seg dksX4_listCount_3 23 rfl rfl
theorem dX4_listCount_0 : decode cX4_listCount 0 = .ok (.aload_n 0, 1) := dk_42 (dk_at dksX4_listCount_0 0 rfl rfl)
theorem dX4_listCount_1 : decode cX4_listCount 1 = .ok (.getfield 16, 3) := dk_180 0 16 (dk_at dksX4_listCount_0 1 rfl rfl)
theorem dX4_listCount_4 : decode cX4_listCount 4 = .ok (.bipush 8, 2) := dk_16 8 (dk_at dksX4_listCount_0 4 rfl rfl)
theorem dX4_listCount_6 : decode cX4_listCount 6 = .ok (.iload_n 1, 1) := dk_27 (dk_at dksX4_listCount_0 6 rfl rfl)
theorem dX4_listCount_7 : decode cX4_listCount 7 = .ok (.imul, 1) := dk_104 (dk_at dksX4_listCount_0 7 rfl rfl)
theorem dX4_listCount_8 : decode cX4_listCount 8 = .ok (.iaload, 1) := dk_46 (dk_at dksX4_listCount_0 8 rfl rfl)
theorem dX4_listCount_9 : decode cX4_listCount 9 = .ok (.istore_n 3, 1) := dk_62 (dk_at dksX4_listCount_0 9 rfl rfl)
theorem dX4_listCount_10 : decode cX4_listCount 10 = .ok (.aload_n 0, 1) := dk_42 (dk_at dksX4_listCount_0 10 rfl rfl)
theorem dX4_listCount_11 : decode cX4_listCount 11 = .ok (.getfield 75, 3) := dk_180 0 75 (dk_at dksX4_listCount_0 11 rfl rfl)
theorem dX4_listCount_14 : decode cX4_listCount 14 = .ok (.iconst 0, 1) := dk_3 (dk_at dksX4_listCount_0 14 rfl rfl)
theorem dX4_listCount_15 : decode cX4_listCount 15 = .ok (.lconst 1, 1) := dk_10 (dk_at dksX4_listCount_0 15 rfl rfl)
theorem dX4_listCount_16 : decode cX4_listCount 16 = .ok (.lastore, 1) := dk_80 (dk_at dksX4_listCount_0 16 rfl rfl)
theorem dX4_listCount_17 : decode cX4_listCount 17 = .ok (.iconst 1, 1) := dk_4 (dk_at dksX4_listCount_0 17 rfl rfl)
theorem dX4_listCount_18 : decode cX4_listCount 18 = .ok (.istore 4, 2) := dk_54 4 (dk_at dksX4_listCount_0 18 rfl rfl)
theorem dX4_listCount_20 : decode cX4_listCount 20 = .ok (.iload 4, 2) := dk_21 4 (dk_at dksX4_listCount_0 20 rfl rfl)
theorem dX4_listCount_22 : decode cX4_listCount 22 = .ok (.iload_n 2, 1) := dk_28 (dk_at dksX4_listCount_0 22 rfl rfl)
theorem dX4_listCount_23 : decode cX4_listCount 23 = .ok (.if_icmp .ge 77, 3) := dk_162 0 77 (dk_at dksX4_listCount_1 0 rfl rfl)
theorem dX4_listCount_26 : decode cX4_listCount 26 = .ok (.aload_n 0, 1) := dk_42 (dk_at dksX4_listCount_1 3 rfl rfl)
theorem dX4_listCount_27 : decode cX4_listCount 27 = .ok (.getfield 75, 3) := dk_180 0 75 (dk_at dksX4_listCount_1 4 rfl rfl)
theorem dX4_listCount_30 : decode cX4_listCount 30 = .ok (.iload 4, 2) := dk_21 4 (dk_at dksX4_listCount_1 7 rfl rfl)
theorem dX4_listCount_32 : decode cX4_listCount 32 = .ok (.lconst 0, 1) := dk_9 (dk_at dksX4_listCount_1 9 rfl rfl)
theorem dX4_listCount_33 : decode cX4_listCount 33 = .ok (.lastore, 1) := dk_80 (dk_at dksX4_listCount_1 10 rfl rfl)
theorem dX4_listCount_34 : decode cX4_listCount 34 = .ok (.iconst 1, 1) := dk_4 (dk_at dksX4_listCount_1 11 rfl rfl)
theorem dX4_listCount_35 : decode cX4_listCount 35 = .ok (.istore 5, 2) := dk_54 5 (dk_at dksX4_listCount_1 12 rfl rfl)
theorem dX4_listCount_37 : decode cX4_listCount 37 = .ok (.iload 5, 2) := dk_21 5 (dk_at dksX4_listCount_1 14 rfl rfl)
theorem dX4_listCount_39 : decode cX4_listCount 39 = .ok (.iload 4, 2) := dk_21 4 (dk_at dksX4_listCount_1 16 rfl rfl)
theorem dX4_listCount_41 : decode cX4_listCount 41 = .ok (.if_icmp .gt 53, 3) := dk_163 0 53 (dk_at dksX4_listCount_1 18 rfl rfl)
theorem dX4_listCount_44 : decode cX4_listCount 44 = .ok (.aload_n 0, 1) := dk_42 (dk_at dksX4_listCount_1 21 rfl rfl)
theorem dX4_listCount_45 : decode cX4_listCount 45 = .ok (.getfield 75, 3) := dk_180 0 75 (dk_at dksX4_listCount_2 0 rfl rfl)
theorem dX4_listCount_48 : decode cX4_listCount 48 = .ok (.iload 4, 2) := dk_21 4 (dk_at dksX4_listCount_2 3 rfl rfl)
theorem dX4_listCount_50 : decode cX4_listCount 50 = .ok (.aload_n 0, 1) := dk_42 (dk_at dksX4_listCount_2 5 rfl rfl)
theorem dX4_listCount_51 : decode cX4_listCount 51 = .ok (.getfield 75, 3) := dk_180 0 75 (dk_at dksX4_listCount_2 6 rfl rfl)
theorem dX4_listCount_54 : decode cX4_listCount 54 = .ok (.iload 4, 2) := dk_21 4 (dk_at dksX4_listCount_2 9 rfl rfl)
theorem dX4_listCount_56 : decode cX4_listCount 56 = .ok (.laload, 1) := dk_47 (dk_at dksX4_listCount_2 11 rfl rfl)
theorem dX4_listCount_57 : decode cX4_listCount 57 = .ok (.aload_n 0, 1) := dk_42 (dk_at dksX4_listCount_2 12 rfl rfl)
theorem dX4_listCount_58 : decode cX4_listCount 58 = .ok (.getfield 75, 3) := dk_180 0 75 (dk_at dksX4_listCount_2 13 rfl rfl)
theorem dX4_listCount_61 : decode cX4_listCount 61 = .ok (.iload 4, 2) := dk_21 4 (dk_at dksX4_listCount_2 16 rfl rfl)
theorem dX4_listCount_63 : decode cX4_listCount 63 = .ok (.iload 5, 2) := dk_21 5 (dk_at dksX4_listCount_2 18 rfl rfl)
theorem dX4_listCount_65 : decode cX4_listCount 65 = .ok (.isub, 1) := dk_100 (dk_at dksX4_listCount_2 20 rfl rfl)
theorem dX4_listCount_66 : decode cX4_listCount 66 = .ok (.laload, 1) := dk_47 (dk_at dksX4_listCount_2 21 rfl rfl)
theorem dX4_listCount_67 : decode cX4_listCount 67 = .ok (.aload_n 0, 1) := dk_42 (dk_at dksX4_listCount_2 22 rfl rfl)
theorem dX4_listCount_68 : decode cX4_listCount 68 = .ok (.getfield 71, 3) := dk_180 0 71 (dk_at dksX4_listCount_3 0 rfl rfl)
theorem dX4_listCount_71 : decode cX4_listCount 71 = .ok (.bipush 13, 2) := dk_16 13 (dk_at dksX4_listCount_3 3 rfl rfl)
theorem dX4_listCount_73 : decode cX4_listCount 73 = .ok (.iload_n 3, 1) := dk_29 (dk_at dksX4_listCount_3 5 rfl rfl)
theorem dX4_listCount_74 : decode cX4_listCount 74 = .ok (.imul, 1) := dk_104 (dk_at dksX4_listCount_3 6 rfl rfl)
theorem dX4_listCount_75 : decode cX4_listCount 75 = .ok (.iload 5, 2) := dk_21 5 (dk_at dksX4_listCount_3 7 rfl rfl)
theorem dX4_listCount_77 : decode cX4_listCount 77 = .ok (.iadd, 1) := dk_96 (dk_at dksX4_listCount_3 9 rfl rfl)
theorem dX4_listCount_78 : decode cX4_listCount 78 = .ok (.laload, 1) := dk_47 (dk_at dksX4_listCount_3 10 rfl rfl)
theorem dX4_listCount_79 : decode cX4_listCount 79 = .ok (.lmul, 1) := dk_105 (dk_at dksX4_listCount_3 11 rfl rfl)
theorem dX4_listCount_80 : decode cX4_listCount 80 = .ok (.invokestatic 187, 3) := dk_184 0 187 (dk_at dksX4_listCount_3 12 rfl rfl)
theorem dX4_listCount_83 : decode cX4_listCount 83 = .ok (.ladd, 1) := dk_97 (dk_at dksX4_listCount_3 15 rfl rfl)
theorem dX4_listCount_84 : decode cX4_listCount 84 = .ok (.invokestatic 187, 3) := dk_184 0 187 (dk_at dksX4_listCount_3 16 rfl rfl)
theorem dX4_listCount_87 : decode cX4_listCount 87 = .ok (.lastore, 1) := dk_80 (dk_at dksX4_listCount_3 19 rfl rfl)
theorem dX4_listCount_88 : decode cX4_listCount 88 = .ok (.iinc 5 1, 3) := dk_132 5 1 (dk_at dksX4_listCount_3 20 rfl rfl)
theorem dX4_listCount_91 : decode cX4_listCount 91 = .ok (.goto (-54), 3) := dk_167 255 202 (dk_at dksX4_listCount_4 0 rfl rfl)
theorem dX4_listCount_94 : decode cX4_listCount 94 = .ok (.iinc 4 1, 3) := dk_132 4 1 (dk_at dksX4_listCount_4 3 rfl rfl)
theorem dX4_listCount_97 : decode cX4_listCount 97 = .ok (.goto (-77), 3) := dk_167 255 179 (dk_at dksX4_listCount_4 6 rfl rfl)
theorem dX4_listCount_100 : decode cX4_listCount 100 = .ok (.aload_n 0, 1) := dk_42 (dk_at dksX4_listCount_4 9 rfl rfl)
theorem dX4_listCount_101 : decode cX4_listCount 101 = .ok (.getfield 75, 3) := dk_180 0 75 (dk_at dksX4_listCount_4 10 rfl rfl)
theorem dX4_listCount_104 : decode cX4_listCount 104 = .ok (.iload_n 2, 1) := dk_28 (dk_at dksX4_listCount_4 13 rfl rfl)
theorem dX4_listCount_105 : decode cX4_listCount 105 = .ok (.iconst 1, 1) := dk_4 (dk_at dksX4_listCount_4 14 rfl rfl)
theorem dX4_listCount_106 : decode cX4_listCount 106 = .ok (.isub, 1) := dk_100 (dk_at dksX4_listCount_4 15 rfl rfl)
theorem dX4_listCount_107 : decode cX4_listCount 107 = .ok (.laload, 1) := dk_47 (dk_at dksX4_listCount_4 16 rfl rfl)
theorem dX4_listCount_108 : decode cX4_listCount 108 = .ok (.lreturn, 1) := dk_173 (dk_at dksX4_listCount_4 17 rfl rfl)
abbrev cX4_least : ByteArray := prog_6_method_43_code
def yX4_least : MethodName := ⟨RX4, "least", "(I)I"⟩
def dkwX4_least_1 : List UInt8 := [164, 0, 8, 16, 250, 167, 0, 9, 42, 180, 0, 81, 27, 46, 172]
abbrev dktX4_least_1 : List UInt8 := dkwX4_least_1 ++ []
def dkwX4_least_0 : List UInt8 := [42, 27, 182, 0, 123, 154, 0, 5, 2, 172, 42, 182, 0, 206, 42, 180, 0, 81, 27, 46, 16, 40]
abbrev dktX4_least_0 : List UInt8 := dkwX4_least_0 ++ dktX4_least_1
theorem dksX4_least_0 : cX4_least.data.toList.drop 0 = dktX4_least_0 := by decide +kernel
theorem dksX4_least_1 : cX4_least.data.toList.drop 22 = dktX4_least_1 := dk_seg dksX4_least_0 22 rfl rfl
theorem dX4_least_0 : decode cX4_least 0 = .ok (.aload_n 0, 1) := dk_42 (dk_at dksX4_least_0 0 rfl rfl)
theorem dX4_least_1 : decode cX4_least 1 = .ok (.iload_n 1, 1) := dk_27 (dk_at dksX4_least_0 1 rfl rfl)
theorem dX4_least_2 : decode cX4_least 2 = .ok (.invokevirtual 123, 3) := dk_182 0 123 (dk_at dksX4_least_0 2 rfl rfl)
theorem dX4_least_5 : decode cX4_least 5 = .ok (.ifCond .ne 5, 3) := dk_154 0 5 (dk_at dksX4_least_0 5 rfl rfl)
theorem dX4_least_8 : decode cX4_least 8 = .ok (.iconst (-1), 1) := dk_2 (dk_at dksX4_least_0 8 rfl rfl)
theorem dX4_least_9 : decode cX4_least 9 = .ok (.ireturn, 1) := dk_172 (dk_at dksX4_least_0 9 rfl rfl)
theorem dX4_least_10 : decode cX4_least 10 = .ok (.aload_n 0, 1) := dk_42 (dk_at dksX4_least_0 10 rfl rfl)
theorem dX4_least_11 : decode cX4_least 11 = .ok (.invokevirtual 206, 3) := dk_182 0 206 (dk_at dksX4_least_0 11 rfl rfl)
theorem dX4_least_14 : decode cX4_least 14 = .ok (.aload_n 0, 1) := dk_42 (dk_at dksX4_least_0 14 rfl rfl)
theorem dX4_least_15 : decode cX4_least 15 = .ok (.getfield 81, 3) := dk_180 0 81 (dk_at dksX4_least_0 15 rfl rfl)
theorem dX4_least_18 : decode cX4_least 18 = .ok (.iload_n 1, 1) := dk_27 (dk_at dksX4_least_0 18 rfl rfl)
theorem dX4_least_19 : decode cX4_least 19 = .ok (.iaload, 1) := dk_46 (dk_at dksX4_least_0 19 rfl rfl)
theorem dX4_least_20 : decode cX4_least 20 = .ok (.bipush 40, 2) := dk_16 40 (dk_at dksX4_least_0 20 rfl rfl)
theorem dX4_least_22 : decode cX4_least 22 = .ok (.if_icmp .le 8, 3) := dk_164 0 8 (dk_at dksX4_least_1 0 rfl rfl)
theorem dX4_least_25 : decode cX4_least 25 = .ok (.bipush (-6), 2) := dk_16 250 (dk_at dksX4_least_1 3 rfl rfl)
theorem dX4_least_27 : decode cX4_least 27 = .ok (.goto 9, 3) := dk_167 0 9 (dk_at dksX4_least_1 5 rfl rfl)
theorem dX4_least_30 : decode cX4_least 30 = .ok (.aload_n 0, 1) := dk_42 (dk_at dksX4_least_1 8 rfl rfl)
theorem dX4_least_31 : decode cX4_least 31 = .ok (.getfield 81, 3) := dk_180 0 81 (dk_at dksX4_least_1 9 rfl rfl)
theorem dX4_least_34 : decode cX4_least 34 = .ok (.iload_n 1, 1) := dk_27 (dk_at dksX4_least_1 12 rfl rfl)
theorem dX4_least_35 : decode cX4_least 35 = .ok (.iaload, 1) := dk_46 (dk_at dksX4_least_1 13 rfl rfl)
theorem dX4_least_36 : decode cX4_least 36 = .ok (.ireturn, 1) := dk_172 (dk_at dksX4_least_1 14 rfl rfl)
abbrev cX4_layLeast : ByteArray := prog_6_method_42_code
def yX4_layLeast : MethodName := ⟨RX4, "layLeast", "()V"⟩
def dkwX4_layLeast_9 : List UInt8 := [21, 6, 79, 4, 60, 132, 2, 1, 167, 255, 72, 167, 255, 61, 177]
abbrev dktX4_layLeast_9 : List UInt8 := dkwX4_layLeast_9 ++ []
def dkwX4_layLeast_8 : List UInt8 := [167, 0, 5, 18, 137, 54, 6, 21, 6, 42, 180, 0, 81, 28, 46, 162, 0, 13, 42, 180, 0, 81, 28]
abbrev dktX4_layLeast_8 : List UInt8 := dkwX4_layLeast_8 ++ dktX4_layLeast_9
def dkwX4_layLeast_7 : List UInt8 := [167, 0, 29, 29, 16, 123, 160, 0, 8, 21, 4, 167, 0, 18, 29, 16, 91, 160, 0, 10, 21, 5, 4, 96]
abbrev dktX4_layLeast_7 : List UInt8 := dkwX4_layLeast_7 ++ dktX4_layLeast_8
def dkwX4_layLeast_6 : List UInt8 := [159, 0, 21, 29, 16, 116, 159, 0, 15, 29, 16, 115, 159, 0, 9, 29, 16, 42, 160, 0, 7, 4]
abbrev dktX4_layLeast_6 : List UInt8 := dkwX4_layLeast_6 ++ dktX4_layLeast_7
def dkwX4_layLeast_5 : List UInt8 := [42, 180, 0, 81, 21, 7, 46, 167, 0, 5, 21, 5, 54, 5, 132, 6, 1, 167, 255, 180, 29, 16, 110]
abbrev dktX4_layLeast_5 : List UInt8 := dkwX4_layLeast_5 ++ dktX4_layLeast_6
def dkwX4_layLeast_4 : List UInt8 := [167, 0, 4, 3, 96, 54, 4, 21, 7, 155, 0, 25, 42, 180, 0, 81, 21, 7, 46, 21, 5, 162, 0, 13]
abbrev dktX4_layLeast_4 : List UInt8 := dkwX4_layLeast_4 ++ dktX4_layLeast_5
def dkwX4_layLeast_3 : List UInt8 := [28, 104, 21, 6, 96, 46, 54, 7, 21, 4, 21, 7, 155, 0, 13, 42, 180, 0, 81, 21, 7, 46]
abbrev dktX4_layLeast_3 : List UInt8 := dkwX4_layLeast_3 ++ dktX4_layLeast_4
def dkwX4_layLeast_2 : List UInt8 := [62, 4, 54, 4, 18, 137, 54, 5, 3, 54, 6, 21, 6, 16, 8, 162, 0, 75, 42, 180, 0, 16, 16, 8]
abbrev dktX4_layLeast_2 : List UInt8 := dkwX4_layLeast_2 ++ dktX4_layLeast_3
def dkwX4_layLeast_1 : List UInt8 := [4, 60, 27, 153, 0, 197, 3, 60, 3, 61, 28, 42, 180, 0, 116, 162, 0, 182, 42, 180, 0, 13, 28, 46]
abbrev dktX4_layLeast_1 : List UInt8 := dkwX4_layLeast_1 ++ dktX4_layLeast_2
def dkwX4_layLeast_0 : List UInt8 := [3, 60, 27, 42, 180, 0, 116, 162, 0, 17, 42, 180, 0, 81, 27, 18, 137, 79, 132, 1, 1, 167, 255, 237]
abbrev dktX4_layLeast_0 : List UInt8 := dkwX4_layLeast_0 ++ dktX4_layLeast_1
theorem dksX4_layLeast_0 : cX4_layLeast.data.toList.drop 0 = dktX4_layLeast_0 := by decide +kernel
theorem dksX4_layLeast_1 : cX4_layLeast.data.toList.drop 24 = dktX4_layLeast_1 := dk_seg dksX4_layLeast_0 24 rfl rfl
theorem dksX4_layLeast_2 : cX4_layLeast.data.toList.drop 48 = dktX4_layLeast_2 := dk_seg dksX4_layLeast_1 24 rfl rfl
theorem dksX4_layLeast_3 : cX4_layLeast.data.toList.drop 72 = dktX4_layLeast_3 := dk_seg dksX4_layLeast_2 24 rfl rfl
theorem dksX4_layLeast_4 : cX4_layLeast.data.toList.drop 94 = dktX4_layLeast_4 := dk_seg dksX4_layLeast_3 22 rfl rfl
theorem dksX4_layLeast_5 : cX4_layLeast.data.toList.drop 118 = dktX4_layLeast_5 := dk_seg dksX4_layLeast_4 24 rfl rfl
theorem dksX4_layLeast_6 : cX4_layLeast.data.toList.drop 141 = dktX4_layLeast_6 := dk_seg dksX4_layLeast_5 23 rfl rfl
theorem dksX4_layLeast_7 : cX4_layLeast.data.toList.drop 163 = dktX4_layLeast_7 := dk_seg dksX4_layLeast_6 22 rfl rfl
theorem dksX4_layLeast_8 : cX4_layLeast.data.toList.drop 187 = dktX4_layLeast_8 := dk_seg dksX4_layLeast_7 24 rfl rfl
theorem dksX4_layLeast_9 : cX4_layLeast.data.toList.drop 210 = dktX4_layLeast_9 := dk_seg dksX4_layLeast_8 23 rfl rfl
theorem dX4_layLeast_0 : decode cX4_layLeast 0 = .ok (.iconst 0, 1) := dk_3 (dk_at dksX4_layLeast_0 0 rfl rfl)
theorem dX4_layLeast_1 : decode cX4_layLeast 1 = .ok (.istore_n 1, 1) := dk_60 (dk_at dksX4_layLeast_0 1 rfl rfl)
theorem dX4_layLeast_2 : decode cX4_layLeast 2 = .ok (.iload_n 1, 1) := dk_27 (dk_at dksX4_layLeast_0 2 rfl rfl)
theorem dX4_layLeast_3 : decode cX4_layLeast 3 = .ok (.aload_n 0, 1) := dk_42 (dk_at dksX4_layLeast_0 3 rfl rfl)
theorem dX4_layLeast_4 : decode cX4_layLeast 4 = .ok (.getfield 116, 3) := dk_180 0 116 (dk_at dksX4_layLeast_0 4 rfl rfl)
theorem dX4_layLeast_7 : decode cX4_layLeast 7 = .ok (.if_icmp .ge 17, 3) := dk_162 0 17 (dk_at dksX4_layLeast_0 7 rfl rfl)
theorem dX4_layLeast_10 : decode cX4_layLeast 10 = .ok (.aload_n 0, 1) := dk_42 (dk_at dksX4_layLeast_0 10 rfl rfl)
theorem dX4_layLeast_11 : decode cX4_layLeast 11 = .ok (.getfield 81, 3) := dk_180 0 81 (dk_at dksX4_layLeast_0 11 rfl rfl)
theorem dX4_layLeast_14 : decode cX4_layLeast 14 = .ok (.iload_n 1, 1) := dk_27 (dk_at dksX4_layLeast_0 14 rfl rfl)
theorem dX4_layLeast_15 : decode cX4_layLeast 15 = .ok (.ldc 137, 2) := dk_18 137 (dk_at dksX4_layLeast_0 15 rfl rfl)
theorem dX4_layLeast_17 : decode cX4_layLeast 17 = .ok (.iastore, 1) := dk_79 (dk_at dksX4_layLeast_0 17 rfl rfl)
theorem dX4_layLeast_18 : decode cX4_layLeast 18 = .ok (.iinc 1 1, 3) := dk_132 1 1 (dk_at dksX4_layLeast_0 18 rfl rfl)
theorem dX4_layLeast_21 : decode cX4_layLeast 21 = .ok (.goto (-19), 3) := dk_167 255 237 (dk_at dksX4_layLeast_0 21 rfl rfl)
theorem dX4_layLeast_24 : decode cX4_layLeast 24 = .ok (.iconst 1, 1) := dk_4 (dk_at dksX4_layLeast_1 0 rfl rfl)
theorem dX4_layLeast_25 : decode cX4_layLeast 25 = .ok (.istore_n 1, 1) := dk_60 (dk_at dksX4_layLeast_1 1 rfl rfl)
theorem dX4_layLeast_26 : decode cX4_layLeast 26 = .ok (.iload_n 1, 1) := dk_27 (dk_at dksX4_layLeast_1 2 rfl rfl)
theorem dX4_layLeast_27 : decode cX4_layLeast 27 = .ok (.ifCond .eq 197, 3) := dk_153 0 197 (dk_at dksX4_layLeast_1 3 rfl rfl)
theorem dX4_layLeast_30 : decode cX4_layLeast 30 = .ok (.iconst 0, 1) := dk_3 (dk_at dksX4_layLeast_1 6 rfl rfl)
theorem dX4_layLeast_31 : decode cX4_layLeast 31 = .ok (.istore_n 1, 1) := dk_60 (dk_at dksX4_layLeast_1 7 rfl rfl)
theorem dX4_layLeast_32 : decode cX4_layLeast 32 = .ok (.iconst 0, 1) := dk_3 (dk_at dksX4_layLeast_1 8 rfl rfl)
theorem dX4_layLeast_33 : decode cX4_layLeast 33 = .ok (.istore_n 2, 1) := dk_61 (dk_at dksX4_layLeast_1 9 rfl rfl)
theorem dX4_layLeast_34 : decode cX4_layLeast 34 = .ok (.iload_n 2, 1) := dk_28 (dk_at dksX4_layLeast_1 10 rfl rfl)
theorem dX4_layLeast_35 : decode cX4_layLeast 35 = .ok (.aload_n 0, 1) := dk_42 (dk_at dksX4_layLeast_1 11 rfl rfl)
theorem dX4_layLeast_36 : decode cX4_layLeast 36 = .ok (.getfield 116, 3) := dk_180 0 116 (dk_at dksX4_layLeast_1 12 rfl rfl)
theorem dX4_layLeast_39 : decode cX4_layLeast 39 = .ok (.if_icmp .ge 182, 3) := dk_162 0 182 (dk_at dksX4_layLeast_1 15 rfl rfl)
theorem dX4_layLeast_42 : decode cX4_layLeast 42 = .ok (.aload_n 0, 1) := dk_42 (dk_at dksX4_layLeast_1 18 rfl rfl)
theorem dX4_layLeast_43 : decode cX4_layLeast 43 = .ok (.getfield 13, 3) := dk_180 0 13 (dk_at dksX4_layLeast_1 19 rfl rfl)
theorem dX4_layLeast_46 : decode cX4_layLeast 46 = .ok (.iload_n 2, 1) := dk_28 (dk_at dksX4_layLeast_1 22 rfl rfl)
theorem dX4_layLeast_47 : decode cX4_layLeast 47 = .ok (.iaload, 1) := dk_46 (dk_at dksX4_layLeast_1 23 rfl rfl)
theorem dX4_layLeast_48 : decode cX4_layLeast 48 = .ok (.istore_n 3, 1) := dk_62 (dk_at dksX4_layLeast_2 0 rfl rfl)
theorem dX4_layLeast_49 : decode cX4_layLeast 49 = .ok (.iconst 1, 1) := dk_4 (dk_at dksX4_layLeast_2 1 rfl rfl)
theorem dX4_layLeast_50 : decode cX4_layLeast 50 = .ok (.istore 4, 2) := dk_54 4 (dk_at dksX4_layLeast_2 2 rfl rfl)
theorem dX4_layLeast_52 : decode cX4_layLeast 52 = .ok (.ldc 137, 2) := dk_18 137 (dk_at dksX4_layLeast_2 4 rfl rfl)
theorem dX4_layLeast_54 : decode cX4_layLeast 54 = .ok (.istore 5, 2) := dk_54 5 (dk_at dksX4_layLeast_2 6 rfl rfl)
theorem dX4_layLeast_56 : decode cX4_layLeast 56 = .ok (.iconst 0, 1) := dk_3 (dk_at dksX4_layLeast_2 8 rfl rfl)
theorem dX4_layLeast_57 : decode cX4_layLeast 57 = .ok (.istore 6, 2) := dk_54 6 (dk_at dksX4_layLeast_2 9 rfl rfl)
theorem dX4_layLeast_59 : decode cX4_layLeast 59 = .ok (.iload 6, 2) := dk_21 6 (dk_at dksX4_layLeast_2 11 rfl rfl)
theorem dX4_layLeast_61 : decode cX4_layLeast 61 = .ok (.bipush 8, 2) := dk_16 8 (dk_at dksX4_layLeast_2 13 rfl rfl)
theorem dX4_layLeast_63 : decode cX4_layLeast 63 = .ok (.if_icmp .ge 75, 3) := dk_162 0 75 (dk_at dksX4_layLeast_2 15 rfl rfl)
theorem dX4_layLeast_66 : decode cX4_layLeast 66 = .ok (.aload_n 0, 1) := dk_42 (dk_at dksX4_layLeast_2 18 rfl rfl)
theorem dX4_layLeast_67 : decode cX4_layLeast 67 = .ok (.getfield 16, 3) := dk_180 0 16 (dk_at dksX4_layLeast_2 19 rfl rfl)
theorem dX4_layLeast_70 : decode cX4_layLeast 70 = .ok (.bipush 8, 2) := dk_16 8 (dk_at dksX4_layLeast_2 22 rfl rfl)
theorem dX4_layLeast_72 : decode cX4_layLeast 72 = .ok (.iload_n 2, 1) := dk_28 (dk_at dksX4_layLeast_3 0 rfl rfl)
theorem dX4_layLeast_73 : decode cX4_layLeast 73 = .ok (.imul, 1) := dk_104 (dk_at dksX4_layLeast_3 1 rfl rfl)
theorem dX4_layLeast_74 : decode cX4_layLeast 74 = .ok (.iload 6, 2) := dk_21 6 (dk_at dksX4_layLeast_3 2 rfl rfl)
theorem dX4_layLeast_76 : decode cX4_layLeast 76 = .ok (.iadd, 1) := dk_96 (dk_at dksX4_layLeast_3 4 rfl rfl)
theorem dX4_layLeast_77 : decode cX4_layLeast 77 = .ok (.iaload, 1) := dk_46 (dk_at dksX4_layLeast_3 5 rfl rfl)
theorem dX4_layLeast_78 : decode cX4_layLeast 78 = .ok (.istore 7, 2) := dk_54 7 (dk_at dksX4_layLeast_3 6 rfl rfl)
theorem dX4_layLeast_80 : decode cX4_layLeast 80 = .ok (.iload 4, 2) := dk_21 4 (dk_at dksX4_layLeast_3 8 rfl rfl)
theorem dX4_layLeast_82 : decode cX4_layLeast 82 = .ok (.iload 7, 2) := dk_21 7 (dk_at dksX4_layLeast_3 10 rfl rfl)
theorem dX4_layLeast_84 : decode cX4_layLeast 84 = .ok (.ifCond .lt 13, 3) := dk_155 0 13 (dk_at dksX4_layLeast_3 12 rfl rfl)
theorem dX4_layLeast_87 : decode cX4_layLeast 87 = .ok (.aload_n 0, 1) := dk_42 (dk_at dksX4_layLeast_3 15 rfl rfl)
theorem dX4_layLeast_88 : decode cX4_layLeast 88 = .ok (.getfield 81, 3) := dk_180 0 81 (dk_at dksX4_layLeast_3 16 rfl rfl)
theorem dX4_layLeast_91 : decode cX4_layLeast 91 = .ok (.iload 7, 2) := dk_21 7 (dk_at dksX4_layLeast_3 19 rfl rfl)
theorem dX4_layLeast_93 : decode cX4_layLeast 93 = .ok (.iaload, 1) := dk_46 (dk_at dksX4_layLeast_3 21 rfl rfl)
theorem dX4_layLeast_94 : decode cX4_layLeast 94 = .ok (.goto 4, 3) := dk_167 0 4 (dk_at dksX4_layLeast_4 0 rfl rfl)
theorem dX4_layLeast_97 : decode cX4_layLeast 97 = .ok (.iconst 0, 1) := dk_3 (dk_at dksX4_layLeast_4 3 rfl rfl)
theorem dX4_layLeast_98 : decode cX4_layLeast 98 = .ok (.iadd, 1) := dk_96 (dk_at dksX4_layLeast_4 4 rfl rfl)
theorem dX4_layLeast_99 : decode cX4_layLeast 99 = .ok (.istore 4, 2) := dk_54 4 (dk_at dksX4_layLeast_4 5 rfl rfl)
theorem dX4_layLeast_101 : decode cX4_layLeast 101 = .ok (.iload 7, 2) := dk_21 7 (dk_at dksX4_layLeast_4 7 rfl rfl)
theorem dX4_layLeast_103 : decode cX4_layLeast 103 = .ok (.ifCond .lt 25, 3) := dk_155 0 25 (dk_at dksX4_layLeast_4 9 rfl rfl)
theorem dX4_layLeast_106 : decode cX4_layLeast 106 = .ok (.aload_n 0, 1) := dk_42 (dk_at dksX4_layLeast_4 12 rfl rfl)
theorem dX4_layLeast_107 : decode cX4_layLeast 107 = .ok (.getfield 81, 3) := dk_180 0 81 (dk_at dksX4_layLeast_4 13 rfl rfl)
theorem dX4_layLeast_110 : decode cX4_layLeast 110 = .ok (.iload 7, 2) := dk_21 7 (dk_at dksX4_layLeast_4 16 rfl rfl)
theorem dX4_layLeast_112 : decode cX4_layLeast 112 = .ok (.iaload, 1) := dk_46 (dk_at dksX4_layLeast_4 18 rfl rfl)
theorem dX4_layLeast_113 : decode cX4_layLeast 113 = .ok (.iload 5, 2) := dk_21 5 (dk_at dksX4_layLeast_4 19 rfl rfl)
theorem dX4_layLeast_115 : decode cX4_layLeast 115 = .ok (.if_icmp .ge 13, 3) := dk_162 0 13 (dk_at dksX4_layLeast_4 21 rfl rfl)
theorem dX4_layLeast_118 : decode cX4_layLeast 118 = .ok (.aload_n 0, 1) := dk_42 (dk_at dksX4_layLeast_5 0 rfl rfl)
theorem dX4_layLeast_119 : decode cX4_layLeast 119 = .ok (.getfield 81, 3) := dk_180 0 81 (dk_at dksX4_layLeast_5 1 rfl rfl)
theorem dX4_layLeast_122 : decode cX4_layLeast 122 = .ok (.iload 7, 2) := dk_21 7 (dk_at dksX4_layLeast_5 4 rfl rfl)
theorem dX4_layLeast_124 : decode cX4_layLeast 124 = .ok (.iaload, 1) := dk_46 (dk_at dksX4_layLeast_5 6 rfl rfl)
theorem dX4_layLeast_125 : decode cX4_layLeast 125 = .ok (.goto 5, 3) := dk_167 0 5 (dk_at dksX4_layLeast_5 7 rfl rfl)
theorem dX4_layLeast_128 : decode cX4_layLeast 128 = .ok (.iload 5, 2) := dk_21 5 (dk_at dksX4_layLeast_5 10 rfl rfl)
theorem dX4_layLeast_130 : decode cX4_layLeast 130 = .ok (.istore 5, 2) := dk_54 5 (dk_at dksX4_layLeast_5 12 rfl rfl)
theorem dX4_layLeast_132 : decode cX4_layLeast 132 = .ok (.iinc 6 1, 3) := dk_132 6 1 (dk_at dksX4_layLeast_5 14 rfl rfl)
theorem dX4_layLeast_135 : decode cX4_layLeast 135 = .ok (.goto (-76), 3) := dk_167 255 180 (dk_at dksX4_layLeast_5 17 rfl rfl)
theorem dX4_layLeast_138 : decode cX4_layLeast 138 = .ok (.iload_n 3, 1) := dk_29 (dk_at dksX4_layLeast_5 20 rfl rfl)
theorem dX4_layLeast_139 : decode cX4_layLeast 139 = .ok (.bipush 110, 2) := dk_16 110 (dk_at dksX4_layLeast_5 21 rfl rfl)
theorem dX4_layLeast_141 : decode cX4_layLeast 141 = .ok (.if_icmp .eq 21, 3) := dk_159 0 21 (dk_at dksX4_layLeast_6 0 rfl rfl)
theorem dX4_layLeast_144 : decode cX4_layLeast 144 = .ok (.iload_n 3, 1) := dk_29 (dk_at dksX4_layLeast_6 3 rfl rfl)
theorem dX4_layLeast_145 : decode cX4_layLeast 145 = .ok (.bipush 116, 2) := dk_16 116 (dk_at dksX4_layLeast_6 4 rfl rfl)
theorem dX4_layLeast_147 : decode cX4_layLeast 147 = .ok (.if_icmp .eq 15, 3) := dk_159 0 15 (dk_at dksX4_layLeast_6 6 rfl rfl)
theorem dX4_layLeast_150 : decode cX4_layLeast 150 = .ok (.iload_n 3, 1) := dk_29 (dk_at dksX4_layLeast_6 9 rfl rfl)
theorem dX4_layLeast_151 : decode cX4_layLeast 151 = .ok (.bipush 115, 2) := dk_16 115 (dk_at dksX4_layLeast_6 10 rfl rfl)
theorem dX4_layLeast_153 : decode cX4_layLeast 153 = .ok (.if_icmp .eq 9, 3) := dk_159 0 9 (dk_at dksX4_layLeast_6 12 rfl rfl)
theorem dX4_layLeast_156 : decode cX4_layLeast 156 = .ok (.iload_n 3, 1) := dk_29 (dk_at dksX4_layLeast_6 15 rfl rfl)
theorem dX4_layLeast_157 : decode cX4_layLeast 157 = .ok (.bipush 42, 2) := dk_16 42 (dk_at dksX4_layLeast_6 16 rfl rfl)
theorem dX4_layLeast_159 : decode cX4_layLeast 159 = .ok (.if_icmp .ne 7, 3) := dk_160 0 7 (dk_at dksX4_layLeast_6 18 rfl rfl)
theorem dX4_layLeast_162 : decode cX4_layLeast 162 = .ok (.iconst 1, 1) := dk_4 (dk_at dksX4_layLeast_6 21 rfl rfl)
theorem dX4_layLeast_163 : decode cX4_layLeast 163 = .ok (.goto 29, 3) := dk_167 0 29 (dk_at dksX4_layLeast_7 0 rfl rfl)
theorem dX4_layLeast_166 : decode cX4_layLeast 166 = .ok (.iload_n 3, 1) := dk_29 (dk_at dksX4_layLeast_7 3 rfl rfl)
theorem dX4_layLeast_167 : decode cX4_layLeast 167 = .ok (.bipush 123, 2) := dk_16 123 (dk_at dksX4_layLeast_7 4 rfl rfl)
theorem dX4_layLeast_169 : decode cX4_layLeast 169 = .ok (.if_icmp .ne 8, 3) := dk_160 0 8 (dk_at dksX4_layLeast_7 6 rfl rfl)
theorem dX4_layLeast_172 : decode cX4_layLeast 172 = .ok (.iload 4, 2) := dk_21 4 (dk_at dksX4_layLeast_7 9 rfl rfl)
theorem dX4_layLeast_174 : decode cX4_layLeast 174 = .ok (.goto 18, 3) := dk_167 0 18 (dk_at dksX4_layLeast_7 11 rfl rfl)
theorem dX4_layLeast_177 : decode cX4_layLeast 177 = .ok (.iload_n 3, 1) := dk_29 (dk_at dksX4_layLeast_7 14 rfl rfl)
theorem dX4_layLeast_178 : decode cX4_layLeast 178 = .ok (.bipush 91, 2) := dk_16 91 (dk_at dksX4_layLeast_7 15 rfl rfl)
theorem dX4_layLeast_180 : decode cX4_layLeast 180 = .ok (.if_icmp .ne 10, 3) := dk_160 0 10 (dk_at dksX4_layLeast_7 17 rfl rfl)
theorem dX4_layLeast_183 : decode cX4_layLeast 183 = .ok (.iload 5, 2) := dk_21 5 (dk_at dksX4_layLeast_7 20 rfl rfl)
theorem dX4_layLeast_185 : decode cX4_layLeast 185 = .ok (.iconst 1, 1) := dk_4 (dk_at dksX4_layLeast_7 22 rfl rfl)
theorem dX4_layLeast_186 : decode cX4_layLeast 186 = .ok (.iadd, 1) := dk_96 (dk_at dksX4_layLeast_7 23 rfl rfl)
theorem dX4_layLeast_187 : decode cX4_layLeast 187 = .ok (.goto 5, 3) := dk_167 0 5 (dk_at dksX4_layLeast_8 0 rfl rfl)
theorem dX4_layLeast_190 : decode cX4_layLeast 190 = .ok (.ldc 137, 2) := dk_18 137 (dk_at dksX4_layLeast_8 3 rfl rfl)
theorem dX4_layLeast_192 : decode cX4_layLeast 192 = .ok (.istore 6, 2) := dk_54 6 (dk_at dksX4_layLeast_8 5 rfl rfl)
theorem dX4_layLeast_194 : decode cX4_layLeast 194 = .ok (.iload 6, 2) := dk_21 6 (dk_at dksX4_layLeast_8 7 rfl rfl)
theorem dX4_layLeast_196 : decode cX4_layLeast 196 = .ok (.aload_n 0, 1) := dk_42 (dk_at dksX4_layLeast_8 9 rfl rfl)
theorem dX4_layLeast_197 : decode cX4_layLeast 197 = .ok (.getfield 81, 3) := dk_180 0 81 (dk_at dksX4_layLeast_8 10 rfl rfl)
theorem dX4_layLeast_200 : decode cX4_layLeast 200 = .ok (.iload_n 2, 1) := dk_28 (dk_at dksX4_layLeast_8 13 rfl rfl)
theorem dX4_layLeast_201 : decode cX4_layLeast 201 = .ok (.iaload, 1) := dk_46 (dk_at dksX4_layLeast_8 14 rfl rfl)
theorem dX4_layLeast_202 : decode cX4_layLeast 202 = .ok (.if_icmp .ge 13, 3) := dk_162 0 13 (dk_at dksX4_layLeast_8 15 rfl rfl)
theorem dX4_layLeast_205 : decode cX4_layLeast 205 = .ok (.aload_n 0, 1) := dk_42 (dk_at dksX4_layLeast_8 18 rfl rfl)
theorem dX4_layLeast_206 : decode cX4_layLeast 206 = .ok (.getfield 81, 3) := dk_180 0 81 (dk_at dksX4_layLeast_8 19 rfl rfl)
theorem dX4_layLeast_209 : decode cX4_layLeast 209 = .ok (.iload_n 2, 1) := dk_28 (dk_at dksX4_layLeast_8 22 rfl rfl)
theorem dX4_layLeast_210 : decode cX4_layLeast 210 = .ok (.iload 6, 2) := dk_21 6 (dk_at dksX4_layLeast_9 0 rfl rfl)
theorem dX4_layLeast_212 : decode cX4_layLeast 212 = .ok (.iastore, 1) := dk_79 (dk_at dksX4_layLeast_9 2 rfl rfl)
theorem dX4_layLeast_213 : decode cX4_layLeast 213 = .ok (.iconst 1, 1) := dk_4 (dk_at dksX4_layLeast_9 3 rfl rfl)
theorem dX4_layLeast_214 : decode cX4_layLeast 214 = .ok (.istore_n 1, 1) := dk_60 (dk_at dksX4_layLeast_9 4 rfl rfl)
theorem dX4_layLeast_215 : decode cX4_layLeast 215 = .ok (.iinc 2 1, 3) := dk_132 2 1 (dk_at dksX4_layLeast_9 5 rfl rfl)
theorem dX4_layLeast_218 : decode cX4_layLeast 218 = .ok (.goto (-184), 3) := dk_167 255 72 (dk_at dksX4_layLeast_9 8 rfl rfl)
theorem dX4_layLeast_221 : decode cX4_layLeast 221 = .ok (.goto (-195), 3) := dk_167 255 61 (dk_at dksX4_layLeast_9 11 rfl rfl)
theorem dX4_layLeast_224 : decode cX4_layLeast 224 = .ok (.return_, 1) := dk_177 (dk_at dksX4_layLeast_9 14 rfl rfl)
abbrev cX4_told : ByteArray := prog_6_method_44_code
def yX4_told : MethodName := ⟨RX4, "told", "(I)I"⟩
def dkwX4_told_8 : List UInt8 := [132, 4, 1, 167, 255, 215, 132, 3, 1, 167, 255, 198, 28, 172, 16, 254, 172]
abbrev dktX4_told_8 : List UInt8 := dkwX4_told_8 ++ []
def dkwX4_told_7 : List UInt8 := [16, 60, 29, 104, 21, 4, 96, 51, 153, 0, 13, 29, 21, 4, 159, 0, 7, 4, 167, 0, 4, 3, 96, 61]
abbrev dktX4_told_7 : List UInt8 := dkwX4_told_7 ++ dktX4_told_8
def dkwX4_told_6 : List UInt8 := [180, 0, 116, 162, 0, 56, 3, 54, 4, 21, 4, 42, 180, 0, 116, 162, 0, 38, 28, 42, 180, 0, 40]
abbrev dktX4_told_6 : List UInt8 := dkwX4_told_6 ++ dktX4_told_7
def dkwX4_told_5 : List UInt8 := [167, 0, 4, 3, 96, 61, 132, 3, 1, 167, 255, 226, 28, 172, 42, 182, 0, 145, 3, 62, 29, 42]
abbrev dktX4_told_5 : List UInt8 := dkwX4_told_5 ++ dktX4_told_6
def dkwX4_told_4 : List UInt8 := [62, 29, 42, 180, 0, 116, 162, 0, 28, 28, 42, 180, 0, 81, 29, 46, 16, 40, 164, 0, 7, 4]
abbrev dktX4_told_4 : List UInt8 := dkwX4_told_4 ++ dktX4_told_5
def dkwX4_told_3 : List UInt8 := [46, 155, 0, 7, 4, 167, 0, 4, 3, 96, 61, 132, 3, 1, 167, 255, 230, 28, 172, 42, 182, 0, 206, 3]
abbrev dktX4_told_3 : List UInt8 := dkwX4_told_3 ++ dktX4_told_4
def dkwX4_told_2 : List UInt8 := [42, 180, 0, 88, 172, 42, 180, 0, 116, 172, 3, 62, 29, 16, 8, 162, 0, 26, 28, 42, 180, 0, 19, 29]
abbrev dktX4_told_2 : List UInt8 := dkwX4_told_2 ++ dktX4_told_3
def dkwX4_told_1 : List UInt8 := [170, 0, 0, 0, 186, 0, 0, 0, 0, 0, 0, 0, 4, 0, 0, 0, 33, 0, 0, 0, 38, 0, 0, 0, 43, 0, 0, 0, 76, 0, 0, 0, 117]
abbrev dktX4_told_1 : List UInt8 := dkwX4_told_1 ++ dktX4_told_2
def dkwX4_told_0 : List UInt8 := [3, 61, 27]
abbrev dktX4_told_0 : List UInt8 := dkwX4_told_0 ++ dktX4_told_1
theorem dksX4_told_0 : cX4_told.data.toList.drop 0 = dktX4_told_0 := by decide +kernel
theorem dksX4_told_1 : cX4_told.data.toList.drop 3 = dktX4_told_1 := dk_seg dksX4_told_0 3 rfl rfl
theorem dksX4_told_2 : cX4_told.data.toList.drop 36 = dktX4_told_2 := dk_seg dksX4_told_1 33 rfl rfl
theorem dksX4_told_3 : cX4_told.data.toList.drop 60 = dktX4_told_3 := dk_seg dksX4_told_2 24 rfl rfl
theorem dksX4_told_4 : cX4_told.data.toList.drop 84 = dktX4_told_4 := dk_seg dksX4_told_3 24 rfl rfl
theorem dksX4_told_5 : cX4_told.data.toList.drop 106 = dktX4_told_5 := dk_seg dksX4_told_4 22 rfl rfl
theorem dksX4_told_6 : cX4_told.data.toList.drop 128 = dktX4_told_6 := dk_seg dksX4_told_5 22 rfl rfl
theorem dksX4_told_7 : cX4_told.data.toList.drop 151 = dktX4_told_7 := dk_seg dksX4_told_6 23 rfl rfl
theorem dksX4_told_8 : cX4_told.data.toList.drop 175 = dktX4_told_8 := dk_seg dksX4_told_7 24 rfl rfl
theorem dX4_told_0 : decode cX4_told 0 = .ok (.iconst 0, 1) := dk_3 (dk_at dksX4_told_0 0 rfl rfl)
theorem dX4_told_1 : decode cX4_told 1 = .ok (.istore_n 2, 1) := dk_61 (dk_at dksX4_told_0 1 rfl rfl)
theorem dX4_told_2 : decode cX4_told 2 = .ok (.iload_n 1, 1) := dk_27 (dk_at dksX4_told_0 2 rfl rfl)
theorem dX4_told_3 : decode cX4_told 3 = .ok (.tableswitch 186 0 4 #[33, 38, 43, 76, 117], 33) := by decide +kernel
theorem dX4_told_36 : decode cX4_told 36 = .ok (.aload_n 0, 1) := dk_42 (dk_at dksX4_told_2 0 rfl rfl)
theorem dX4_told_37 : decode cX4_told 37 = .ok (.getfield 88, 3) := dk_180 0 88 (dk_at dksX4_told_2 1 rfl rfl)
theorem dX4_told_40 : decode cX4_told 40 = .ok (.ireturn, 1) := dk_172 (dk_at dksX4_told_2 4 rfl rfl)
theorem dX4_told_41 : decode cX4_told 41 = .ok (.aload_n 0, 1) := dk_42 (dk_at dksX4_told_2 5 rfl rfl)
theorem dX4_told_42 : decode cX4_told 42 = .ok (.getfield 116, 3) := dk_180 0 116 (dk_at dksX4_told_2 6 rfl rfl)
theorem dX4_told_45 : decode cX4_told 45 = .ok (.ireturn, 1) := dk_172 (dk_at dksX4_told_2 9 rfl rfl)
theorem dX4_told_46 : decode cX4_told 46 = .ok (.iconst 0, 1) := dk_3 (dk_at dksX4_told_2 10 rfl rfl)
theorem dX4_told_47 : decode cX4_told 47 = .ok (.istore_n 3, 1) := dk_62 (dk_at dksX4_told_2 11 rfl rfl)
theorem dX4_told_48 : decode cX4_told 48 = .ok (.iload_n 3, 1) := dk_29 (dk_at dksX4_told_2 12 rfl rfl)
theorem dX4_told_49 : decode cX4_told 49 = .ok (.bipush 8, 2) := dk_16 8 (dk_at dksX4_told_2 13 rfl rfl)
theorem dX4_told_51 : decode cX4_told 51 = .ok (.if_icmp .ge 26, 3) := dk_162 0 26 (dk_at dksX4_told_2 15 rfl rfl)
theorem dX4_told_54 : decode cX4_told 54 = .ok (.iload_n 2, 1) := dk_28 (dk_at dksX4_told_2 18 rfl rfl)
theorem dX4_told_55 : decode cX4_told 55 = .ok (.aload_n 0, 1) := dk_42 (dk_at dksX4_told_2 19 rfl rfl)
theorem dX4_told_56 : decode cX4_told 56 = .ok (.getfield 19, 3) := dk_180 0 19 (dk_at dksX4_told_2 20 rfl rfl)
theorem dX4_told_59 : decode cX4_told 59 = .ok (.iload_n 3, 1) := dk_29 (dk_at dksX4_told_2 23 rfl rfl)
theorem dX4_told_60 : decode cX4_told 60 = .ok (.iaload, 1) := dk_46 (dk_at dksX4_told_3 0 rfl rfl)
theorem dX4_told_61 : decode cX4_told 61 = .ok (.ifCond .lt 7, 3) := dk_155 0 7 (dk_at dksX4_told_3 1 rfl rfl)
theorem dX4_told_64 : decode cX4_told 64 = .ok (.iconst 1, 1) := dk_4 (dk_at dksX4_told_3 4 rfl rfl)
theorem dX4_told_65 : decode cX4_told 65 = .ok (.goto 4, 3) := dk_167 0 4 (dk_at dksX4_told_3 5 rfl rfl)
theorem dX4_told_68 : decode cX4_told 68 = .ok (.iconst 0, 1) := dk_3 (dk_at dksX4_told_3 8 rfl rfl)
theorem dX4_told_69 : decode cX4_told 69 = .ok (.iadd, 1) := dk_96 (dk_at dksX4_told_3 9 rfl rfl)
theorem dX4_told_70 : decode cX4_told 70 = .ok (.istore_n 2, 1) := dk_61 (dk_at dksX4_told_3 10 rfl rfl)
theorem dX4_told_71 : decode cX4_told 71 = .ok (.iinc 3 1, 3) := dk_132 3 1 (dk_at dksX4_told_3 11 rfl rfl)
theorem dX4_told_74 : decode cX4_told 74 = .ok (.goto (-26), 3) := dk_167 255 230 (dk_at dksX4_told_3 14 rfl rfl)
theorem dX4_told_77 : decode cX4_told 77 = .ok (.iload_n 2, 1) := dk_28 (dk_at dksX4_told_3 17 rfl rfl)
theorem dX4_told_78 : decode cX4_told 78 = .ok (.ireturn, 1) := dk_172 (dk_at dksX4_told_3 18 rfl rfl)
theorem dX4_told_79 : decode cX4_told 79 = .ok (.aload_n 0, 1) := dk_42 (dk_at dksX4_told_3 19 rfl rfl)
theorem dX4_told_80 : decode cX4_told 80 = .ok (.invokevirtual 206, 3) := dk_182 0 206 (dk_at dksX4_told_3 20 rfl rfl)
theorem dX4_told_83 : decode cX4_told 83 = .ok (.iconst 0, 1) := dk_3 (dk_at dksX4_told_3 23 rfl rfl)
theorem dX4_told_84 : decode cX4_told 84 = .ok (.istore_n 3, 1) := dk_62 (dk_at dksX4_told_4 0 rfl rfl)
theorem dX4_told_85 : decode cX4_told 85 = .ok (.iload_n 3, 1) := dk_29 (dk_at dksX4_told_4 1 rfl rfl)
theorem dX4_told_86 : decode cX4_told 86 = .ok (.aload_n 0, 1) := dk_42 (dk_at dksX4_told_4 2 rfl rfl)
theorem dX4_told_87 : decode cX4_told 87 = .ok (.getfield 116, 3) := dk_180 0 116 (dk_at dksX4_told_4 3 rfl rfl)
theorem dX4_told_90 : decode cX4_told 90 = .ok (.if_icmp .ge 28, 3) := dk_162 0 28 (dk_at dksX4_told_4 6 rfl rfl)
theorem dX4_told_93 : decode cX4_told 93 = .ok (.iload_n 2, 1) := dk_28 (dk_at dksX4_told_4 9 rfl rfl)
theorem dX4_told_94 : decode cX4_told 94 = .ok (.aload_n 0, 1) := dk_42 (dk_at dksX4_told_4 10 rfl rfl)
theorem dX4_told_95 : decode cX4_told 95 = .ok (.getfield 81, 3) := dk_180 0 81 (dk_at dksX4_told_4 11 rfl rfl)
theorem dX4_told_98 : decode cX4_told 98 = .ok (.iload_n 3, 1) := dk_29 (dk_at dksX4_told_4 14 rfl rfl)
theorem dX4_told_99 : decode cX4_told 99 = .ok (.iaload, 1) := dk_46 (dk_at dksX4_told_4 15 rfl rfl)
theorem dX4_told_100 : decode cX4_told 100 = .ok (.bipush 40, 2) := dk_16 40 (dk_at dksX4_told_4 16 rfl rfl)
theorem dX4_told_102 : decode cX4_told 102 = .ok (.if_icmp .le 7, 3) := dk_164 0 7 (dk_at dksX4_told_4 18 rfl rfl)
theorem dX4_told_105 : decode cX4_told 105 = .ok (.iconst 1, 1) := dk_4 (dk_at dksX4_told_4 21 rfl rfl)
theorem dX4_told_106 : decode cX4_told 106 = .ok (.goto 4, 3) := dk_167 0 4 (dk_at dksX4_told_5 0 rfl rfl)
theorem dX4_told_109 : decode cX4_told 109 = .ok (.iconst 0, 1) := dk_3 (dk_at dksX4_told_5 3 rfl rfl)
theorem dX4_told_110 : decode cX4_told 110 = .ok (.iadd, 1) := dk_96 (dk_at dksX4_told_5 4 rfl rfl)
theorem dX4_told_111 : decode cX4_told 111 = .ok (.istore_n 2, 1) := dk_61 (dk_at dksX4_told_5 5 rfl rfl)
theorem dX4_told_112 : decode cX4_told 112 = .ok (.iinc 3 1, 3) := dk_132 3 1 (dk_at dksX4_told_5 6 rfl rfl)
theorem dX4_told_115 : decode cX4_told 115 = .ok (.goto (-30), 3) := dk_167 255 226 (dk_at dksX4_told_5 9 rfl rfl)
theorem dX4_told_118 : decode cX4_told 118 = .ok (.iload_n 2, 1) := dk_28 (dk_at dksX4_told_5 12 rfl rfl)
theorem dX4_told_119 : decode cX4_told 119 = .ok (.ireturn, 1) := dk_172 (dk_at dksX4_told_5 13 rfl rfl)
theorem dX4_told_120 : decode cX4_told 120 = .ok (.aload_n 0, 1) := dk_42 (dk_at dksX4_told_5 14 rfl rfl)
theorem dX4_told_121 : decode cX4_told 121 = .ok (.invokevirtual 145, 3) := dk_182 0 145 (dk_at dksX4_told_5 15 rfl rfl)
theorem dX4_told_124 : decode cX4_told 124 = .ok (.iconst 0, 1) := dk_3 (dk_at dksX4_told_5 18 rfl rfl)
theorem dX4_told_125 : decode cX4_told 125 = .ok (.istore_n 3, 1) := dk_62 (dk_at dksX4_told_5 19 rfl rfl)
theorem dX4_told_126 : decode cX4_told 126 = .ok (.iload_n 3, 1) := dk_29 (dk_at dksX4_told_5 20 rfl rfl)
theorem dX4_told_127 : decode cX4_told 127 = .ok (.aload_n 0, 1) := dk_42 (dk_at dksX4_told_5 21 rfl rfl)
theorem dX4_told_128 : decode cX4_told 128 = .ok (.getfield 116, 3) := dk_180 0 116 (dk_at dksX4_told_6 0 rfl rfl)
theorem dX4_told_131 : decode cX4_told 131 = .ok (.if_icmp .ge 56, 3) := dk_162 0 56 (dk_at dksX4_told_6 3 rfl rfl)
theorem dX4_told_134 : decode cX4_told 134 = .ok (.iconst 0, 1) := dk_3 (dk_at dksX4_told_6 6 rfl rfl)
theorem dX4_told_135 : decode cX4_told 135 = .ok (.istore 4, 2) := dk_54 4 (dk_at dksX4_told_6 7 rfl rfl)
theorem dX4_told_137 : decode cX4_told 137 = .ok (.iload 4, 2) := dk_21 4 (dk_at dksX4_told_6 9 rfl rfl)
theorem dX4_told_139 : decode cX4_told 139 = .ok (.aload_n 0, 1) := dk_42 (dk_at dksX4_told_6 11 rfl rfl)
theorem dX4_told_140 : decode cX4_told 140 = .ok (.getfield 116, 3) := dk_180 0 116 (dk_at dksX4_told_6 12 rfl rfl)
theorem dX4_told_143 : decode cX4_told 143 = .ok (.if_icmp .ge 38, 3) := dk_162 0 38 (dk_at dksX4_told_6 15 rfl rfl)
theorem dX4_told_146 : decode cX4_told 146 = .ok (.iload_n 2, 1) := dk_28 (dk_at dksX4_told_6 18 rfl rfl)
theorem dX4_told_147 : decode cX4_told 147 = .ok (.aload_n 0, 1) := dk_42 (dk_at dksX4_told_6 19 rfl rfl)
theorem dX4_told_148 : decode cX4_told 148 = .ok (.getfield 40, 3) := dk_180 0 40 (dk_at dksX4_told_6 20 rfl rfl)
theorem dX4_told_151 : decode cX4_told 151 = .ok (.bipush 60, 2) := dk_16 60 (dk_at dksX4_told_7 0 rfl rfl)
theorem dX4_told_153 : decode cX4_told 153 = .ok (.iload_n 3, 1) := dk_29 (dk_at dksX4_told_7 2 rfl rfl)
theorem dX4_told_154 : decode cX4_told 154 = .ok (.imul, 1) := dk_104 (dk_at dksX4_told_7 3 rfl rfl)
theorem dX4_told_155 : decode cX4_told 155 = .ok (.iload 4, 2) := dk_21 4 (dk_at dksX4_told_7 4 rfl rfl)
theorem dX4_told_157 : decode cX4_told 157 = .ok (.iadd, 1) := dk_96 (dk_at dksX4_told_7 6 rfl rfl)
theorem dX4_told_158 : decode cX4_told 158 = .ok (.baload, 1) := dk_51 (dk_at dksX4_told_7 7 rfl rfl)
theorem dX4_told_159 : decode cX4_told 159 = .ok (.ifCond .eq 13, 3) := dk_153 0 13 (dk_at dksX4_told_7 8 rfl rfl)
theorem dX4_told_162 : decode cX4_told 162 = .ok (.iload_n 3, 1) := dk_29 (dk_at dksX4_told_7 11 rfl rfl)
theorem dX4_told_163 : decode cX4_told 163 = .ok (.iload 4, 2) := dk_21 4 (dk_at dksX4_told_7 12 rfl rfl)
theorem dX4_told_165 : decode cX4_told 165 = .ok (.if_icmp .eq 7, 3) := dk_159 0 7 (dk_at dksX4_told_7 14 rfl rfl)
theorem dX4_told_168 : decode cX4_told 168 = .ok (.iconst 1, 1) := dk_4 (dk_at dksX4_told_7 17 rfl rfl)
theorem dX4_told_169 : decode cX4_told 169 = .ok (.goto 4, 3) := dk_167 0 4 (dk_at dksX4_told_7 18 rfl rfl)
theorem dX4_told_172 : decode cX4_told 172 = .ok (.iconst 0, 1) := dk_3 (dk_at dksX4_told_7 21 rfl rfl)
theorem dX4_told_173 : decode cX4_told 173 = .ok (.iadd, 1) := dk_96 (dk_at dksX4_told_7 22 rfl rfl)
theorem dX4_told_174 : decode cX4_told 174 = .ok (.istore_n 2, 1) := dk_61 (dk_at dksX4_told_7 23 rfl rfl)
theorem dX4_told_175 : decode cX4_told 175 = .ok (.iinc 4 1, 3) := dk_132 4 1 (dk_at dksX4_told_8 0 rfl rfl)
theorem dX4_told_178 : decode cX4_told 178 = .ok (.goto (-41), 3) := dk_167 255 215 (dk_at dksX4_told_8 3 rfl rfl)
theorem dX4_told_181 : decode cX4_told 181 = .ok (.iinc 3 1, 3) := dk_132 3 1 (dk_at dksX4_told_8 6 rfl rfl)
theorem dX4_told_184 : decode cX4_told 184 = .ok (.goto (-58), 3) := dk_167 255 198 (dk_at dksX4_told_8 9 rfl rfl)
theorem dX4_told_187 : decode cX4_told 187 = .ok (.iload_n 2, 1) := dk_28 (dk_at dksX4_told_8 12 rfl rfl)
theorem dX4_told_188 : decode cX4_told 188 = .ok (.ireturn, 1) := dk_172 (dk_at dksX4_told_8 13 rfl rfl)
theorem dX4_told_189 : decode cX4_told 189 = .ok (.bipush (-2), 2) := dk_16 254 (dk_at dksX4_told_8 14 rfl rfl)
theorem dX4_told_191 : decode cX4_told 191 = .ok (.ireturn, 1) := dk_172 (dk_at dksX4_told_8 16 rfl rfl)
theorem q60 : (Jvm.Cond.initialized "KindNetsModel") ∈ lw_all := lw_g (lw_at lw_m1 5 rfl) rfl
theorem q505 : (Jvm.Cond.instantiable "KindNetsModel" (34 : Nat)) ∈ lw_all := lw_g (lw_at lw_m2 210 rfl) rfl
theorem q507 : (Jvm.Cond.instanceMethod ({ cls := "KindNetsModel", name := "<init>", desc := "()V" } : Jvm.MethodName)) ∈ lw_all := lw_g (lw_at lw_m2 212 rfl) rfl
theorem q508 : (Jvm.Cond.code ({ cls := "KindNetsModel", name := "<init>", desc := "()V" } : Jvm.MethodName) prog_6_method_1_code (2 : Nat) (Option.none : Option Jvm.ClassFile.FieldType)) ∈ lw_all := lw_g (lw_at lw_m2 213 rfl) rfl
theorem q509 : (Jvm.Cond.methodLink "KindNetsModel" (1 : Nat) ({ cls := "java/lang/Object", name := "<init>", desc := "()V" } : Jvm.MethodName)) ∈ lw_all := lw_g (lw_at lw_m2 214 rfl) rfl
theorem q510 : (Jvm.Cond.fieldLink "KindNetsModel" (88 : Nat) "KindNetsModel" "signs" "I") ∈ lw_all := lw_g (lw_at lw_m2 215 rfl) rfl
theorem q511 : (Jvm.Cond.fieldLink "KindNetsModel" (7 : Nat) "KindNetsModel" "pad" "[I") ∈ lw_all := lw_g (lw_at lw_m2 216 rfl) rfl
theorem q512 : (Jvm.Cond.fieldLink "KindNetsModel" (116 : Nat) "KindNetsModel" "nodes" "I") ∈ lw_all := lw_g (lw_at lw_m2 217 rfl) rfl
theorem q513 : (Jvm.Cond.fieldLink "KindNetsModel" (13 : Nat) "KindNetsModel" "sign" "[I") ∈ lw_all := lw_g (lw_at lw_m2 218 rfl) rfl
theorem q514 : (Jvm.Cond.fieldLink "KindNetsModel" (16 : Nat) "KindNetsModel" "part" "[I") ∈ lw_all := lw_g (lw_at lw_m2 219 rfl) rfl
theorem q515 : (Jvm.Cond.fieldLink "KindNetsModel" (19 : Nat) "KindNetsModel" "named" "[I") ∈ lw_all := lw_g (lw_at lw_m2 220 rfl) rfl
theorem q516 : (Jvm.Cond.fieldLink "KindNetsModel" (98 : Nat) "KindNetsModel" "read" "I") ∈ lw_all := lw_g (lw_at lw_m2 221 rfl) rfl
theorem q517 : (Jvm.Cond.fieldLink "KindNetsModel" (22 : Nat) "KindNetsModel" "readSign" "[I") ∈ lw_all := lw_g (lw_at lw_m2 222 rfl) rfl
theorem q518 : (Jvm.Cond.fieldLink "KindNetsModel" (25 : Nat) "KindNetsModel" "readPart" "[I") ∈ lw_all := lw_g (lw_at lw_m2 223 rfl) rfl
theorem q519 : (Jvm.Cond.fieldLink "KindNetsModel" (28 : Nat) "KindNetsModel" "readName" "[I") ∈ lw_all := lw_g (lw_at lw_m2 224 rfl) rfl
theorem q520 : (Jvm.Cond.fieldLink "KindNetsModel" (92 : Nat) "KindNetsModel" "deep" "I") ∈ lw_all := lw_g (lw_at lw_m2 225 rfl) rfl
theorem q521 : (Jvm.Cond.fieldLink "KindNetsModel" (31 : Nat) "KindNetsModel" "open" "[I") ∈ lw_all := lw_g (lw_at lw_m2 226 rfl) rfl
theorem q522 : (Jvm.Cond.fieldLink "KindNetsModel" (34 : Nat) "KindNetsModel" "need" "[I") ∈ lw_all := lw_g (lw_at lw_m2 227 rfl) rfl
theorem q523 : (Jvm.Cond.fieldLink "KindNetsModel" (37 : Nat) "KindNetsModel" "last" "[I") ∈ lw_all := lw_g (lw_at lw_m2 228 rfl) rfl
theorem q524 : (Jvm.Cond.fieldLink "KindNetsModel" (95 : Nat) "KindNetsModel" "owner" "I") ∈ lw_all := lw_g (lw_at lw_m2 229 rfl) rfl
theorem q525 : (Jvm.Cond.fieldLink "KindNetsModel" (119 : Nat) "KindNetsModel" "isLaid" "Z") ∈ lw_all := lw_g (lw_at lw_m2 230 rfl) rfl
theorem q526 : (Jvm.Cond.fieldLink "KindNetsModel" (40 : Nat) "KindNetsModel" "may" "[Z") ∈ lw_all := lw_g (lw_at lw_m2 231 rfl) rfl
theorem q527 : (Jvm.Cond.fieldLink "KindNetsModel" (44 : Nat) "KindNetsModel" "down" "[I") ∈ lw_all := lw_g (lw_at lw_m2 232 rfl) rfl
theorem q528 : (Jvm.Cond.fieldLink "KindNetsModel" (148 : Nat) "KindNetsModel" "endPair" "I") ∈ lw_all := lw_g (lw_at lw_m2 233 rfl) rfl
theorem q529 : (Jvm.Cond.fieldLink "KindNetsModel" (47 : Nat) "KindNetsModel" "held" "[Z") ∈ lw_all := lw_g (lw_at lw_m2 234 rfl) rfl
theorem q530 : (Jvm.Cond.fieldLink "KindNetsModel" (50 : Nat) "KindNetsModel" "made" "[I") ∈ lw_all := lw_g (lw_at lw_m2 235 rfl) rfl
theorem q531 : (Jvm.Cond.fieldLink "KindNetsModel" (157 : Nat) "KindNetsModel" "waits" "I") ∈ lw_all := lw_g (lw_at lw_m2 236 rfl) rfl
theorem q532 : (Jvm.Cond.fieldLink "KindNetsModel" (53 : Nat) "KindNetsModel" "waitFor" "[I") ∈ lw_all := lw_g (lw_at lw_m2 237 rfl) rfl
theorem q533 : (Jvm.Cond.fieldLink "KindNetsModel" (56 : Nat) "KindNetsModel" "waitAt" "[I") ∈ lw_all := lw_g (lw_at lw_m2 238 rfl) rfl
theorem q534 : (Jvm.Cond.fieldLink "KindNetsModel" (169 : Nat) "KindNetsModel" "values" "I") ∈ lw_all := lw_g (lw_at lw_m2 239 rfl) rfl
theorem q535 : (Jvm.Cond.fieldLink "KindNetsModel" (59 : Nat) "KindNetsModel" "pile" "[I") ∈ lw_all := lw_g (lw_at lw_m3 0 rfl) rfl
theorem q536 : (Jvm.Cond.fieldLink "KindNetsModel" (62 : Nat) "KindNetsModel" "pileLast" "[I") ∈ lw_all := lw_g (lw_at lw_m3 1 rfl) rfl
theorem q537 : (Jvm.Cond.fieldLink "KindNetsModel" (172 : Nat) "KindNetsModel" "piled" "I") ∈ lw_all := lw_g (lw_at lw_m3 2 rfl) rfl
theorem q538 : (Jvm.Cond.fieldLink "KindNetsModel" (65 : Nat) "KindNetsModel" "must" "[I") ∈ lw_all := lw_g (lw_at lw_m3 3 rfl) rfl
theorem q539 : (Jvm.Cond.fieldLink "KindNetsModel" (68 : Nat) "KindNetsModel" "letters" "[I") ∈ lw_all := lw_g (lw_at lw_m3 4 rfl) rfl
theorem q540 : (Jvm.Cond.fieldLink "KindNetsModel" (71 : Nat) "KindNetsModel" "count" "[J") ∈ lw_all := lw_g (lw_at lw_m3 5 rfl) rfl
theorem q541 : (Jvm.Cond.fieldLink "KindNetsModel" (75 : Nat) "KindNetsModel" "row" "[J") ∈ lw_all := lw_g (lw_at lw_m3 6 rfl) rfl
theorem q542 : (Jvm.Cond.fieldLink "KindNetsModel" (78 : Nat) "KindNetsModel" "other" "[J") ∈ lw_all := lw_g (lw_at lw_m3 7 rfl) rfl
theorem q543 : (Jvm.Cond.fieldLink "KindNetsModel" (81 : Nat) "KindNetsModel" "leastOf" "[I") ∈ lw_all := lw_g (lw_at lw_m3 8 rfl) rfl
theorem q544 : (Jvm.Cond.lays "KindNetsModel" "KindNetsModel" "signs" "I") ∈ lw_all := lw_g (lw_at lw_m3 9 rfl) rfl
theorem q545 : (Jvm.Cond.soleField "KindNetsModel" "signs") ∈ lw_all := lw_g (lw_at lw_m3 10 rfl) rfl
theorem q546 : (Jvm.Cond.laysFinal "KindNetsModel" "KindNetsModel" "pad" "[I") ∈ lw_all := lw_g (lw_at lw_m3 11 rfl) rfl
theorem q547 : (Jvm.Cond.soleField "KindNetsModel" "pad") ∈ lw_all := lw_g (lw_at lw_m3 12 rfl) rfl
theorem q548 : (Jvm.Cond.lays "KindNetsModel" "KindNetsModel" "nodes" "I") ∈ lw_all := lw_g (lw_at lw_m3 13 rfl) rfl
theorem q549 : (Jvm.Cond.soleField "KindNetsModel" "nodes") ∈ lw_all := lw_g (lw_at lw_m3 14 rfl) rfl
theorem q550 : (Jvm.Cond.laysFinal "KindNetsModel" "KindNetsModel" "sign" "[I") ∈ lw_all := lw_g (lw_at lw_m3 15 rfl) rfl
theorem q551 : (Jvm.Cond.soleField "KindNetsModel" "sign") ∈ lw_all := lw_g (lw_at lw_m3 16 rfl) rfl
theorem q552 : (Jvm.Cond.laysFinal "KindNetsModel" "KindNetsModel" "part" "[I") ∈ lw_all := lw_g (lw_at lw_m3 17 rfl) rfl
theorem q553 : (Jvm.Cond.soleField "KindNetsModel" "part") ∈ lw_all := lw_g (lw_at lw_m3 18 rfl) rfl
theorem q554 : (Jvm.Cond.laysFinal "KindNetsModel" "KindNetsModel" "named" "[I") ∈ lw_all := lw_g (lw_at lw_m3 19 rfl) rfl
theorem q555 : (Jvm.Cond.soleField "KindNetsModel" "named") ∈ lw_all := lw_g (lw_at lw_m3 20 rfl) rfl
theorem q556 : (Jvm.Cond.lays "KindNetsModel" "KindNetsModel" "read" "I") ∈ lw_all := lw_g (lw_at lw_m3 21 rfl) rfl
theorem q557 : (Jvm.Cond.soleField "KindNetsModel" "read") ∈ lw_all := lw_g (lw_at lw_m3 22 rfl) rfl
theorem q558 : (Jvm.Cond.laysFinal "KindNetsModel" "KindNetsModel" "readSign" "[I") ∈ lw_all := lw_g (lw_at lw_m3 23 rfl) rfl
theorem q559 : (Jvm.Cond.soleField "KindNetsModel" "readSign") ∈ lw_all := lw_g (lw_at lw_m3 24 rfl) rfl
theorem q560 : (Jvm.Cond.laysFinal "KindNetsModel" "KindNetsModel" "readPart" "[I") ∈ lw_all := lw_g (lw_at lw_m3 25 rfl) rfl
theorem q561 : (Jvm.Cond.soleField "KindNetsModel" "readPart") ∈ lw_all := lw_g (lw_at lw_m3 26 rfl) rfl
theorem q562 : (Jvm.Cond.laysFinal "KindNetsModel" "KindNetsModel" "readName" "[I") ∈ lw_all := lw_g (lw_at lw_m3 27 rfl) rfl
theorem q563 : (Jvm.Cond.soleField "KindNetsModel" "readName") ∈ lw_all := lw_g (lw_at lw_m3 28 rfl) rfl
theorem q564 : (Jvm.Cond.lays "KindNetsModel" "KindNetsModel" "deep" "I") ∈ lw_all := lw_g (lw_at lw_m3 29 rfl) rfl
theorem q565 : (Jvm.Cond.soleField "KindNetsModel" "deep") ∈ lw_all := lw_g (lw_at lw_m3 30 rfl) rfl
theorem q566 : (Jvm.Cond.laysFinal "KindNetsModel" "KindNetsModel" "open" "[I") ∈ lw_all := lw_g (lw_at lw_m3 31 rfl) rfl
theorem q567 : (Jvm.Cond.soleField "KindNetsModel" "open") ∈ lw_all := lw_g (lw_at lw_m3 32 rfl) rfl
theorem q568 : (Jvm.Cond.laysFinal "KindNetsModel" "KindNetsModel" "need" "[I") ∈ lw_all := lw_g (lw_at lw_m3 33 rfl) rfl
theorem q569 : (Jvm.Cond.soleField "KindNetsModel" "need") ∈ lw_all := lw_g (lw_at lw_m3 34 rfl) rfl
theorem q570 : (Jvm.Cond.laysFinal "KindNetsModel" "KindNetsModel" "last" "[I") ∈ lw_all := lw_g (lw_at lw_m3 35 rfl) rfl
theorem q571 : (Jvm.Cond.soleField "KindNetsModel" "last") ∈ lw_all := lw_g (lw_at lw_m3 36 rfl) rfl
theorem q572 : (Jvm.Cond.lays "KindNetsModel" "KindNetsModel" "owner" "I") ∈ lw_all := lw_g (lw_at lw_m3 37 rfl) rfl
theorem q573 : (Jvm.Cond.soleField "KindNetsModel" "owner") ∈ lw_all := lw_g (lw_at lw_m3 38 rfl) rfl
theorem q574 : (Jvm.Cond.lays "KindNetsModel" "KindNetsModel" "isLaid" "Z") ∈ lw_all := lw_g (lw_at lw_m3 39 rfl) rfl
theorem q575 : (Jvm.Cond.soleField "KindNetsModel" "isLaid") ∈ lw_all := lw_g (lw_at lw_m3 40 rfl) rfl
theorem q576 : (Jvm.Cond.laysFinal "KindNetsModel" "KindNetsModel" "may" "[Z") ∈ lw_all := lw_g (lw_at lw_m3 41 rfl) rfl
theorem q577 : (Jvm.Cond.soleField "KindNetsModel" "may") ∈ lw_all := lw_g (lw_at lw_m3 42 rfl) rfl
theorem q578 : (Jvm.Cond.laysFinal "KindNetsModel" "KindNetsModel" "down" "[I") ∈ lw_all := lw_g (lw_at lw_m3 43 rfl) rfl
theorem q579 : (Jvm.Cond.soleField "KindNetsModel" "down") ∈ lw_all := lw_g (lw_at lw_m3 44 rfl) rfl
theorem q580 : (Jvm.Cond.lays "KindNetsModel" "KindNetsModel" "endPair" "I") ∈ lw_all := lw_g (lw_at lw_m3 45 rfl) rfl
theorem q581 : (Jvm.Cond.soleField "KindNetsModel" "endPair") ∈ lw_all := lw_g (lw_at lw_m3 46 rfl) rfl
theorem q582 : (Jvm.Cond.laysFinal "KindNetsModel" "KindNetsModel" "held" "[Z") ∈ lw_all := lw_g (lw_at lw_m3 47 rfl) rfl
theorem q583 : (Jvm.Cond.soleField "KindNetsModel" "held") ∈ lw_all := lw_g (lw_at lw_m3 48 rfl) rfl
theorem q584 : (Jvm.Cond.laysFinal "KindNetsModel" "KindNetsModel" "made" "[I") ∈ lw_all := lw_g (lw_at lw_m3 49 rfl) rfl
theorem q585 : (Jvm.Cond.soleField "KindNetsModel" "made") ∈ lw_all := lw_g (lw_at lw_m3 50 rfl) rfl
theorem q586 : (Jvm.Cond.lays "KindNetsModel" "KindNetsModel" "waits" "I") ∈ lw_all := lw_g (lw_at lw_m3 51 rfl) rfl
theorem q587 : (Jvm.Cond.soleField "KindNetsModel" "waits") ∈ lw_all := lw_g (lw_at lw_m3 52 rfl) rfl
theorem q588 : (Jvm.Cond.laysFinal "KindNetsModel" "KindNetsModel" "waitFor" "[I") ∈ lw_all := lw_g (lw_at lw_m3 53 rfl) rfl
theorem q589 : (Jvm.Cond.soleField "KindNetsModel" "waitFor") ∈ lw_all := lw_g (lw_at lw_m3 54 rfl) rfl
theorem q590 : (Jvm.Cond.laysFinal "KindNetsModel" "KindNetsModel" "waitAt" "[I") ∈ lw_all := lw_g (lw_at lw_m3 55 rfl) rfl
theorem q591 : (Jvm.Cond.soleField "KindNetsModel" "waitAt") ∈ lw_all := lw_g (lw_at lw_m3 56 rfl) rfl
theorem q592 : (Jvm.Cond.lays "KindNetsModel" "KindNetsModel" "values" "I") ∈ lw_all := lw_g (lw_at lw_m3 57 rfl) rfl
theorem q593 : (Jvm.Cond.soleField "KindNetsModel" "values") ∈ lw_all := lw_g (lw_at lw_m3 58 rfl) rfl
theorem q594 : (Jvm.Cond.laysFinal "KindNetsModel" "KindNetsModel" "pile" "[I") ∈ lw_all := lw_g (lw_at lw_m3 59 rfl) rfl
theorem q595 : (Jvm.Cond.soleField "KindNetsModel" "pile") ∈ lw_all := lw_g (lw_at lw_m3 60 rfl) rfl
theorem q596 : (Jvm.Cond.laysFinal "KindNetsModel" "KindNetsModel" "pileLast" "[I") ∈ lw_all := lw_g (lw_at lw_m3 61 rfl) rfl
theorem q597 : (Jvm.Cond.soleField "KindNetsModel" "pileLast") ∈ lw_all := lw_g (lw_at lw_m3 62 rfl) rfl
theorem q598 : (Jvm.Cond.lays "KindNetsModel" "KindNetsModel" "piled" "I") ∈ lw_all := lw_g (lw_at lw_m3 63 rfl) rfl
theorem q599 : (Jvm.Cond.soleField "KindNetsModel" "piled") ∈ lw_all := lw_g (lw_at lw_m3 64 rfl) rfl
theorem q600 : (Jvm.Cond.laysFinal "KindNetsModel" "KindNetsModel" "must" "[I") ∈ lw_all := lw_g (lw_at lw_m3 65 rfl) rfl
theorem q601 : (Jvm.Cond.soleField "KindNetsModel" "must") ∈ lw_all := lw_g (lw_at lw_m3 66 rfl) rfl
theorem q602 : (Jvm.Cond.laysFinal "KindNetsModel" "KindNetsModel" "letters" "[I") ∈ lw_all := lw_g (lw_at lw_m3 67 rfl) rfl
theorem q603 : (Jvm.Cond.soleField "KindNetsModel" "letters") ∈ lw_all := lw_g (lw_at lw_m3 68 rfl) rfl
theorem q604 : (Jvm.Cond.laysFinal "KindNetsModel" "KindNetsModel" "count" "[J") ∈ lw_all := lw_g (lw_at lw_m3 69 rfl) rfl
theorem q605 : (Jvm.Cond.soleField "KindNetsModel" "count") ∈ lw_all := lw_g (lw_at lw_m3 70 rfl) rfl
theorem q606 : (Jvm.Cond.laysFinal "KindNetsModel" "KindNetsModel" "row" "[J") ∈ lw_all := lw_g (lw_at lw_m3 71 rfl) rfl
theorem q607 : (Jvm.Cond.soleField "KindNetsModel" "row") ∈ lw_all := lw_g (lw_at lw_m3 72 rfl) rfl
theorem q608 : (Jvm.Cond.laysFinal "KindNetsModel" "KindNetsModel" "other" "[J") ∈ lw_all := lw_g (lw_at lw_m3 73 rfl) rfl
theorem q609 : (Jvm.Cond.soleField "KindNetsModel" "other") ∈ lw_all := lw_g (lw_at lw_m3 74 rfl) rfl
theorem q610 : (Jvm.Cond.laysFinal "KindNetsModel" "KindNetsModel" "leastOf" "[I") ∈ lw_all := lw_g (lw_at lw_m3 75 rfl) rfl
theorem q611 : (Jvm.Cond.soleField "KindNetsModel" "leastOf") ∈ lw_all := lw_g (lw_at lw_m3 76 rfl) rfl
theorem q612 : (Jvm.Cond.superclass "KindNetsModel" "java/lang/Object") ∈ lw_all := lw_g (lw_at lw_m3 77 rfl) rfl
theorem q614 : (Jvm.Cond.instanceMethod ({ cls := "KindNetsModel", name := "say", desc := "(I)I" } : Jvm.MethodName)) ∈ lw_all := lw_g (lw_at lw_m3 79 rfl) rfl
theorem q615 : (Jvm.Cond.selects "KindNetsModel" ({ cls := "KindNetsModel", name := "say", desc := "(I)I" } : Jvm.MethodName) ({ cls := "KindNetsModel", name := "say", desc := "(I)I" } : Jvm.MethodName)) ∈ lw_all := lw_g (lw_at lw_m3 80 rfl) rfl
theorem q616 : (Jvm.Cond.code ({ cls := "KindNetsModel", name := "say", desc := "(I)I" } : Jvm.MethodName) prog_6_method_3_code (2 : Nat) (Option.some Jvm.ClassFile.FieldType.int)) ∈ lw_all := lw_g (lw_at lw_m3 81 rfl) rfl
theorem q617 : (Jvm.Cond.methodLink "KindNetsModel" (84 : Nat) ({ cls := "KindNetsModel", name := "in", desc := "(III)Z" } : Jvm.MethodName)) ∈ lw_all := lw_g (lw_at lw_m3 82 rfl) rfl
theorem q618 : (Jvm.Cond.static ({ cls := "KindNetsModel", name := "in", desc := "(III)Z" } : Jvm.MethodName)) ∈ lw_all := lw_g (lw_at lw_m3 83 rfl) rfl
theorem q619 : (Jvm.Cond.code ({ cls := "KindNetsModel", name := "in", desc := "(III)Z" } : Jvm.MethodName) prog_6_method_2_code (3 : Nat) (Option.some Jvm.ClassFile.FieldType.boolean)) ∈ lw_all := lw_g (lw_at lw_m3 84 rfl) rfl
theorem q621 : (Jvm.Cond.instanceMethod ({ cls := "KindNetsModel", name := "wipe", desc := "()I" } : Jvm.MethodName)) ∈ lw_all := lw_g (lw_at lw_m3 86 rfl) rfl
theorem q622 : (Jvm.Cond.selects "KindNetsModel" ({ cls := "KindNetsModel", name := "wipe", desc := "()I" } : Jvm.MethodName) ({ cls := "KindNetsModel", name := "wipe", desc := "()I" } : Jvm.MethodName)) ∈ lw_all := lw_g (lw_at lw_m3 87 rfl) rfl
theorem q623 : (Jvm.Cond.code ({ cls := "KindNetsModel", name := "wipe", desc := "()I" } : Jvm.MethodName) prog_6_method_4_code (2 : Nat) (Option.some Jvm.ClassFile.FieldType.int)) ∈ lw_all := lw_g (lw_at lw_m3 88 rfl) rfl
theorem q625 : (Jvm.Cond.instanceMethod ({ cls := "KindNetsModel", name := "fault", desc := "()I" } : Jvm.MethodName)) ∈ lw_all := lw_g (lw_at lw_m3 90 rfl) rfl
theorem q626 : (Jvm.Cond.selects "KindNetsModel" ({ cls := "KindNetsModel", name := "fault", desc := "()I" } : Jvm.MethodName) ({ cls := "KindNetsModel", name := "fault", desc := "()I" } : Jvm.MethodName)) ∈ lw_all := lw_g (lw_at lw_m3 91 rfl) rfl
theorem q627 : (Jvm.Cond.code ({ cls := "KindNetsModel", name := "fault", desc := "()I" } : Jvm.MethodName) prog_6_method_8_code (1 : Nat) (Option.some Jvm.ClassFile.FieldType.int)) ∈ lw_all := lw_g (lw_at lw_m3 92 rfl) rfl
theorem q628 : (Jvm.Cond.methodLink "KindNetsModel" (109 : Nat) ({ cls := "KindNetsModel", name := "faultOf", desc := "()I" } : Jvm.MethodName)) ∈ lw_all := lw_g (lw_at lw_m3 93 rfl) rfl
theorem q629 : (Jvm.Cond.privateMethod ({ cls := "KindNetsModel", name := "faultOf", desc := "()I" } : Jvm.MethodName)) ∈ lw_tbl := lw_at lw_m3 94 rfl
theorem q630 : (Jvm.Cond.instanceMethod ({ cls := "KindNetsModel", name := "faultOf", desc := "()I" } : Jvm.MethodName)) ∈ lw_all := lw_g (lw_at lw_m3 95 rfl) rfl
theorem q631 : (Jvm.Cond.code ({ cls := "KindNetsModel", name := "faultOf", desc := "()I" } : Jvm.MethodName) prog_6_method_7_code (10 : Nat) (Option.some Jvm.ClassFile.FieldType.int)) ∈ lw_all := lw_g (lw_at lw_m3 96 rfl) rfl
theorem q632 : (Jvm.Cond.methodLink "KindNetsModel" (101 : Nat) ({ cls := "KindNetsModel", name := "come", desc := "(I)V" } : Jvm.MethodName)) ∈ lw_all := lw_g (lw_at lw_m3 97 rfl) rfl
theorem q633 : (Jvm.Cond.privateMethod ({ cls := "KindNetsModel", name := "come", desc := "(I)V" } : Jvm.MethodName)) ∈ lw_tbl := lw_at lw_m3 98 rfl
theorem q634 : (Jvm.Cond.instanceMethod ({ cls := "KindNetsModel", name := "come", desc := "(I)V" } : Jvm.MethodName)) ∈ lw_all := lw_g (lw_at lw_m3 99 rfl) rfl
theorem q635 : (Jvm.Cond.code ({ cls := "KindNetsModel", name := "come", desc := "(I)V" } : Jvm.MethodName) prog_6_method_5_code (5 : Nat) (Option.none : Option Jvm.ClassFile.FieldType)) ∈ lw_all := lw_g (lw_at lw_m3 100 rfl) rfl
theorem q636 : (Jvm.Cond.methodLink "KindNetsModel" (105 : Nat) ({ cls := "KindNetsModel", name := "settle", desc := "()I" } : Jvm.MethodName)) ∈ lw_all := lw_g (lw_at lw_m3 101 rfl) rfl
theorem q637 : (Jvm.Cond.privateMethod ({ cls := "KindNetsModel", name := "settle", desc := "()I" } : Jvm.MethodName)) ∈ lw_tbl := lw_at lw_m3 102 rfl
theorem q638 : (Jvm.Cond.instanceMethod ({ cls := "KindNetsModel", name := "settle", desc := "()I" } : Jvm.MethodName)) ∈ lw_all := lw_g (lw_at lw_m3 103 rfl) rfl
theorem q639 : (Jvm.Cond.code ({ cls := "KindNetsModel", name := "settle", desc := "()I" } : Jvm.MethodName) prog_6_method_6_code (1 : Nat) (Option.some Jvm.ClassFile.FieldType.int)) ∈ lw_all := lw_g (lw_at lw_m3 104 rfl) rfl
theorem q641 : (Jvm.Cond.instanceMethod ({ cls := "KindNetsModel", name := "take", desc := "()I" } : Jvm.MethodName)) ∈ lw_all := lw_g (lw_at lw_m3 106 rfl) rfl
theorem q642 : (Jvm.Cond.selects "KindNetsModel" ({ cls := "KindNetsModel", name := "take", desc := "()I" } : Jvm.MethodName) ({ cls := "KindNetsModel", name := "take", desc := "()I" } : Jvm.MethodName)) ∈ lw_all := lw_g (lw_at lw_m3 107 rfl) rfl
theorem q643 : (Jvm.Cond.code ({ cls := "KindNetsModel", name := "take", desc := "()I" } : Jvm.MethodName) prog_6_method_10_code (2 : Nat) (Option.some Jvm.ClassFile.FieldType.int)) ∈ lw_all := lw_g (lw_at lw_m3 108 rfl) rfl
theorem q644 : (Jvm.Cond.methodLink "KindNetsModel" (112 : Nat) ({ cls := "KindNetsModel", name := "comesTo", desc := "(I)I" } : Jvm.MethodName)) ∈ lw_all := lw_g (lw_at lw_m3 109 rfl) rfl
theorem q645 : (Jvm.Cond.privateMethod ({ cls := "KindNetsModel", name := "comesTo", desc := "(I)I" } : Jvm.MethodName)) ∈ lw_tbl := lw_at lw_m3 110 rfl
theorem q646 : (Jvm.Cond.instanceMethod ({ cls := "KindNetsModel", name := "comesTo", desc := "(I)I" } : Jvm.MethodName)) ∈ lw_all := lw_g (lw_at lw_m3 111 rfl) rfl
theorem q647 : (Jvm.Cond.code ({ cls := "KindNetsModel", name := "comesTo", desc := "(I)I" } : Jvm.MethodName) prog_6_method_9_code (4 : Nat) (Option.some Jvm.ClassFile.FieldType.int)) ∈ lw_all := lw_g (lw_at lw_m3 112 rfl) rfl
theorem q649 : (Jvm.Cond.instanceMethod ({ cls := "KindNetsModel", name := "name", desc := "(I)I" } : Jvm.MethodName)) ∈ lw_all := lw_g (lw_at lw_m3 114 rfl) rfl
theorem q650 : (Jvm.Cond.selects "KindNetsModel" ({ cls := "KindNetsModel", name := "name", desc := "(I)I" } : Jvm.MethodName) ({ cls := "KindNetsModel", name := "name", desc := "(I)I" } : Jvm.MethodName)) ∈ lw_all := lw_g (lw_at lw_m3 115 rfl) rfl
theorem q651 : (Jvm.Cond.code ({ cls := "KindNetsModel", name := "name", desc := "(I)I" } : Jvm.MethodName) prog_6_method_11_code (2 : Nat) (Option.some Jvm.ClassFile.FieldType.int)) ∈ lw_all := lw_g (lw_at lw_m3 116 rfl) rfl
theorem q653 : (Jvm.Cond.instanceMethod ({ cls := "KindNetsModel", name := "node", desc := "(II)I" } : Jvm.MethodName)) ∈ lw_all := lw_g (lw_at lw_m3 118 rfl) rfl
theorem q654 : (Jvm.Cond.selects "KindNetsModel" ({ cls := "KindNetsModel", name := "node", desc := "(II)I" } : Jvm.MethodName) ({ cls := "KindNetsModel", name := "node", desc := "(II)I" } : Jvm.MethodName)) ∈ lw_all := lw_g (lw_at lw_m3 119 rfl) rfl
theorem q655 : (Jvm.Cond.code ({ cls := "KindNetsModel", name := "node", desc := "(II)I" } : Jvm.MethodName) prog_6_method_14_code (3 : Nat) (Option.some Jvm.ClassFile.FieldType.int)) ∈ lw_all := lw_g (lw_at lw_m3 120 rfl) rfl
theorem q656 : (Jvm.Cond.methodLink "KindNetsModel" (123 : Nat) ({ cls := "KindNetsModel", name := "isNode", desc := "(I)Z" } : Jvm.MethodName)) ∈ lw_all := lw_g (lw_at lw_m3 121 rfl) rfl
theorem q657 : (Jvm.Cond.privateMethod ({ cls := "KindNetsModel", name := "isNode", desc := "(I)Z" } : Jvm.MethodName)) ∈ lw_tbl := lw_at lw_m3 122 rfl
theorem q658 : (Jvm.Cond.instanceMethod ({ cls := "KindNetsModel", name := "isNode", desc := "(I)Z" } : Jvm.MethodName)) ∈ lw_all := lw_g (lw_at lw_m3 123 rfl) rfl
theorem q659 : (Jvm.Cond.code ({ cls := "KindNetsModel", name := "isNode", desc := "(I)Z" } : Jvm.MethodName) prog_6_method_12_code (2 : Nat) (Option.some Jvm.ClassFile.FieldType.boolean)) ∈ lw_all := lw_g (lw_at lw_m3 124 rfl) rfl
theorem q660 : (Jvm.Cond.methodLink "KindNetsModel" (127 : Nat) ({ cls := "KindNetsModel", name := "partsOf", desc := "(I)I" } : Jvm.MethodName)) ∈ lw_all := lw_g (lw_at lw_m3 125 rfl) rfl
theorem q661 : (Jvm.Cond.privateMethod ({ cls := "KindNetsModel", name := "partsOf", desc := "(I)I" } : Jvm.MethodName)) ∈ lw_tbl := lw_at lw_m3 126 rfl
theorem q662 : (Jvm.Cond.instanceMethod ({ cls := "KindNetsModel", name := "partsOf", desc := "(I)I" } : Jvm.MethodName)) ∈ lw_all := lw_g (lw_at lw_m3 127 rfl) rfl
theorem q663 : (Jvm.Cond.code ({ cls := "KindNetsModel", name := "partsOf", desc := "(I)I" } : Jvm.MethodName) prog_6_method_13_code (4 : Nat) (Option.some Jvm.ClassFile.FieldType.int)) ∈ lw_all := lw_g (lw_at lw_m3 128 rfl) rfl
theorem q665 : (Jvm.Cond.instanceMethod ({ cls := "KindNetsModel", name := "may", desc := "(II)I" } : Jvm.MethodName)) ∈ lw_all := lw_g (lw_at lw_m3 130 rfl) rfl
theorem q666 : (Jvm.Cond.selects "KindNetsModel" ({ cls := "KindNetsModel", name := "may", desc := "(II)I" } : Jvm.MethodName) ({ cls := "KindNetsModel", name := "may", desc := "(II)I" } : Jvm.MethodName)) ∈ lw_all := lw_g (lw_at lw_m3 131 rfl) rfl
theorem q667 : (Jvm.Cond.code ({ cls := "KindNetsModel", name := "may", desc := "(II)I" } : Jvm.MethodName) prog_6_method_20_code (3 : Nat) (Option.some Jvm.ClassFile.FieldType.int)) ∈ lw_all := lw_g (lw_at lw_m3 132 rfl) rfl
theorem q668 : (Jvm.Cond.methodLink "KindNetsModel" (142 : Nat) ({ cls := "KindNetsModel", name := "areNodes", desc := "(II)Z" } : Jvm.MethodName)) ∈ lw_all := lw_g (lw_at lw_m3 133 rfl) rfl
theorem q669 : (Jvm.Cond.privateMethod ({ cls := "KindNetsModel", name := "areNodes", desc := "(II)Z" } : Jvm.MethodName)) ∈ lw_tbl := lw_at lw_m3 134 rfl
theorem q670 : (Jvm.Cond.instanceMethod ({ cls := "KindNetsModel", name := "areNodes", desc := "(II)Z" } : Jvm.MethodName)) ∈ lw_all := lw_g (lw_at lw_m3 135 rfl) rfl
theorem q671 : (Jvm.Cond.code ({ cls := "KindNetsModel", name := "areNodes", desc := "(II)Z" } : Jvm.MethodName) prog_6_method_19_code (3 : Nat) (Option.some Jvm.ClassFile.FieldType.boolean)) ∈ lw_all := lw_g (lw_at lw_m3 136 rfl) rfl
theorem q672 : (Jvm.Cond.methodLink "KindNetsModel" (145 : Nat) ({ cls := "KindNetsModel", name := "lay", desc := "()V" } : Jvm.MethodName)) ∈ lw_all := lw_g (lw_at lw_m3 137 rfl) rfl
theorem q673 : (Jvm.Cond.privateMethod ({ cls := "KindNetsModel", name := "lay", desc := "()V" } : Jvm.MethodName)) ∈ lw_tbl := lw_at lw_m3 138 rfl
theorem q674 : (Jvm.Cond.instanceMethod ({ cls := "KindNetsModel", name := "lay", desc := "()V" } : Jvm.MethodName)) ∈ lw_all := lw_g (lw_at lw_m3 139 rfl) rfl
theorem q675 : (Jvm.Cond.code ({ cls := "KindNetsModel", name := "lay", desc := "()V" } : Jvm.MethodName) prog_6_method_18_code (8 : Nat) (Option.none : Option Jvm.ClassFile.FieldType)) ∈ lw_all := lw_g (lw_at lw_m3 140 rfl) rfl
theorem q676 : (Jvm.Cond.methodLink "KindNetsModel" (133 : Nat) ({ cls := "KindNetsModel", name := "fitsAlone", desc := "(II)Z" } : Jvm.MethodName)) ∈ lw_all := lw_g (lw_at lw_m3 141 rfl) rfl
theorem q677 : (Jvm.Cond.privateMethod ({ cls := "KindNetsModel", name := "fitsAlone", desc := "(II)Z" } : Jvm.MethodName)) ∈ lw_tbl := lw_at lw_m3 142 rfl
theorem q678 : (Jvm.Cond.instanceMethod ({ cls := "KindNetsModel", name := "fitsAlone", desc := "(II)Z" } : Jvm.MethodName)) ∈ lw_all := lw_g (lw_at lw_m3 143 rfl) rfl
theorem q679 : (Jvm.Cond.code ({ cls := "KindNetsModel", name := "fitsAlone", desc := "(II)Z" } : Jvm.MethodName) prog_6_method_16_code (7 : Nat) (Option.some Jvm.ClassFile.FieldType.boolean)) ∈ lw_all := lw_g (lw_at lw_m3 144 rfl) rfl
theorem q680 : (Jvm.Cond.methodLink "KindNetsModel" (130 : Nat) ({ cls := "KindNetsModel", name := "isBoth", desc := "(I)Z" } : Jvm.MethodName)) ∈ lw_all := lw_g (lw_at lw_m3 145 rfl) rfl
theorem q681 : (Jvm.Cond.static ({ cls := "KindNetsModel", name := "isBoth", desc := "(I)Z" } : Jvm.MethodName)) ∈ lw_all := lw_g (lw_at lw_m3 146 rfl) rfl
theorem q682 : (Jvm.Cond.code ({ cls := "KindNetsModel", name := "isBoth", desc := "(I)Z" } : Jvm.MethodName) prog_6_method_15_code (1 : Nat) (Option.some Jvm.ClassFile.FieldType.boolean)) ∈ lw_all := lw_g (lw_at lw_m3 147 rfl) rfl
theorem q683 : (Jvm.Cond.constant "KindNetsModel" (137 : Nat) (100000 : Int32)) ∈ lw_all := lw_g (lw_at lw_m3 148 rfl) rfl
theorem q684 : (Jvm.Cond.methodLink "KindNetsModel" (138 : Nat) ({ cls := "KindNetsModel", name := "stepTo", desc := "(III)I" } : Jvm.MethodName)) ∈ lw_all := lw_g (lw_at lw_m3 149 rfl) rfl
theorem q685 : (Jvm.Cond.privateMethod ({ cls := "KindNetsModel", name := "stepTo", desc := "(III)I" } : Jvm.MethodName)) ∈ lw_tbl := lw_at lw_m3 150 rfl
theorem q686 : (Jvm.Cond.instanceMethod ({ cls := "KindNetsModel", name := "stepTo", desc := "(III)I" } : Jvm.MethodName)) ∈ lw_all := lw_g (lw_at lw_m3 151 rfl) rfl
theorem q687 : (Jvm.Cond.code ({ cls := "KindNetsModel", name := "stepTo", desc := "(III)I" } : Jvm.MethodName) prog_6_method_17_code (6 : Nat) (Option.some Jvm.ClassFile.FieldType.int)) ∈ lw_all := lw_g (lw_at lw_m3 152 rfl) rfl
theorem q689 : (Jvm.Cond.instanceMethod ({ cls := "KindNetsModel", name := "way", desc := "(III)I" } : Jvm.MethodName)) ∈ lw_all := lw_g (lw_at lw_m3 154 rfl) rfl
theorem q690 : (Jvm.Cond.selects "KindNetsModel" ({ cls := "KindNetsModel", name := "way", desc := "(III)I" } : Jvm.MethodName) ({ cls := "KindNetsModel", name := "way", desc := "(III)I" } : Jvm.MethodName)) ∈ lw_all := lw_g (lw_at lw_m3 155 rfl) rfl
theorem q691 : (Jvm.Cond.code ({ cls := "KindNetsModel", name := "way", desc := "(III)I" } : Jvm.MethodName) prog_6_method_22_code (4 : Nat) (Option.some Jvm.ClassFile.FieldType.int)) ∈ lw_all := lw_g (lw_at lw_m3 156 rfl) rfl
theorem q692 : (Jvm.Cond.methodLink "KindNetsModel" (151 : Nat) ({ cls := "KindNetsModel", name := "follow", desc := "(III)I" } : Jvm.MethodName)) ∈ lw_all := lw_g (lw_at lw_m3 157 rfl) rfl
theorem q693 : (Jvm.Cond.privateMethod ({ cls := "KindNetsModel", name := "follow", desc := "(III)I" } : Jvm.MethodName)) ∈ lw_tbl := lw_at lw_m3 158 rfl
theorem q694 : (Jvm.Cond.instanceMethod ({ cls := "KindNetsModel", name := "follow", desc := "(III)I" } : Jvm.MethodName)) ∈ lw_all := lw_g (lw_at lw_m3 159 rfl) rfl
theorem q695 : (Jvm.Cond.code ({ cls := "KindNetsModel", name := "follow", desc := "(III)I" } : Jvm.MethodName) prog_6_method_21_code (9 : Nat) (Option.some Jvm.ClassFile.FieldType.int)) ∈ lw_all := lw_g (lw_at lw_m3 160 rfl) rfl
theorem q697 : (Jvm.Cond.instanceMethod ({ cls := "KindNetsModel", name := "end", desc := "(II)I" } : Jvm.MethodName)) ∈ lw_all := lw_g (lw_at lw_m3 162 rfl) rfl
theorem q698 : (Jvm.Cond.selects "KindNetsModel" ({ cls := "KindNetsModel", name := "end", desc := "(II)I" } : Jvm.MethodName) ({ cls := "KindNetsModel", name := "end", desc := "(II)I" } : Jvm.MethodName)) ∈ lw_all := lw_g (lw_at lw_m3 163 rfl) rfl
theorem q699 : (Jvm.Cond.code ({ cls := "KindNetsModel", name := "end", desc := "(II)I" } : Jvm.MethodName) prog_6_method_23_code (3 : Nat) (Option.some Jvm.ClassFile.FieldType.int)) ∈ lw_all := lw_g (lw_at lw_m3 164 rfl) rfl
theorem q701 : (Jvm.Cond.instanceMethod ({ cls := "KindNetsModel", name := "alike", desc := "(II)I" } : Jvm.MethodName)) ∈ lw_all := lw_g (lw_at lw_m3 166 rfl) rfl
theorem q702 : (Jvm.Cond.selects "KindNetsModel" ({ cls := "KindNetsModel", name := "alike", desc := "(II)I" } : Jvm.MethodName) ({ cls := "KindNetsModel", name := "alike", desc := "(II)I" } : Jvm.MethodName)) ∈ lw_all := lw_g (lw_at lw_m3 167 rfl) rfl
theorem q703 : (Jvm.Cond.code ({ cls := "KindNetsModel", name := "alike", desc := "(II)I" } : Jvm.MethodName) prog_6_method_25_code (3 : Nat) (Option.some Jvm.ClassFile.FieldType.int)) ∈ lw_all := lw_g (lw_at lw_m3 168 rfl) rfl
theorem q704 : (Jvm.Cond.methodLink "KindNetsModel" (154 : Nat) ({ cls := "KindNetsModel", name := "areAlike", desc := "(II)Z" } : Jvm.MethodName)) ∈ lw_all := lw_g (lw_at lw_m3 169 rfl) rfl
theorem q705 : (Jvm.Cond.privateMethod ({ cls := "KindNetsModel", name := "areAlike", desc := "(II)Z" } : Jvm.MethodName)) ∈ lw_tbl := lw_at lw_m3 170 rfl
theorem q706 : (Jvm.Cond.instanceMethod ({ cls := "KindNetsModel", name := "areAlike", desc := "(II)Z" } : Jvm.MethodName)) ∈ lw_all := lw_g (lw_at lw_m3 171 rfl) rfl
theorem q707 : (Jvm.Cond.code ({ cls := "KindNetsModel", name := "areAlike", desc := "(II)Z" } : Jvm.MethodName) prog_6_method_24_code (3 : Nat) (Option.some Jvm.ClassFile.FieldType.boolean)) ∈ lw_all := lw_g (lw_at lw_m3 172 rfl) rfl
theorem q709 : (Jvm.Cond.instanceMethod ({ cls := "KindNetsModel", name := "pieces", desc := "(I)I" } : Jvm.MethodName)) ∈ lw_all := lw_g (lw_at lw_m3 174 rfl) rfl
theorem q710 : (Jvm.Cond.selects "KindNetsModel" ({ cls := "KindNetsModel", name := "pieces", desc := "(I)I" } : Jvm.MethodName) ({ cls := "KindNetsModel", name := "pieces", desc := "(I)I" } : Jvm.MethodName)) ∈ lw_all := lw_g (lw_at lw_m3 175 rfl) rfl
theorem q711 : (Jvm.Cond.code ({ cls := "KindNetsModel", name := "pieces", desc := "(I)I" } : Jvm.MethodName) prog_6_method_26_code (6 : Nat) (Option.some Jvm.ClassFile.FieldType.int)) ∈ lw_all := lw_g (lw_at lw_m3 176 rfl) rfl
theorem q713 : (Jvm.Cond.instanceMethod ({ cls := "KindNetsModel", name := "join", desc := "(III)I" } : Jvm.MethodName)) ∈ lw_all := lw_g (lw_at lw_m3 178 rfl) rfl
theorem q714 : (Jvm.Cond.selects "KindNetsModel" ({ cls := "KindNetsModel", name := "join", desc := "(III)I" } : Jvm.MethodName) ({ cls := "KindNetsModel", name := "join", desc := "(III)I" } : Jvm.MethodName)) ∈ lw_all := lw_g (lw_at lw_m3 179 rfl) rfl
theorem q715 : (Jvm.Cond.code ({ cls := "KindNetsModel", name := "join", desc := "(III)I" } : Jvm.MethodName) prog_6_method_30_code (11 : Nat) (Option.some Jvm.ClassFile.FieldType.int)) ∈ lw_all := lw_g (lw_at lw_m3 180 rfl) rfl
theorem q716 : (Jvm.Cond.methodLink "KindNetsModel" (160 : Nat) ({ cls := "KindNetsModel", name := "waitFor", desc := "(IIII)V" } : Jvm.MethodName)) ∈ lw_all := lw_g (lw_at lw_m3 181 rfl) rfl
theorem q717 : (Jvm.Cond.privateMethod ({ cls := "KindNetsModel", name := "waitFor", desc := "(IIII)V" } : Jvm.MethodName)) ∈ lw_tbl := lw_at lw_m3 182 rfl
theorem q718 : (Jvm.Cond.instanceMethod ({ cls := "KindNetsModel", name := "waitFor", desc := "(IIII)V" } : Jvm.MethodName)) ∈ lw_all := lw_g (lw_at lw_m3 183 rfl) rfl
theorem q719 : (Jvm.Cond.code ({ cls := "KindNetsModel", name := "waitFor", desc := "(IIII)V" } : Jvm.MethodName) prog_6_method_28_code (5 : Nat) (Option.none : Option Jvm.ClassFile.FieldType)) ∈ lw_all := lw_g (lw_at lw_m3 184 rfl) rfl
theorem q720 : (Jvm.Cond.methodLink "KindNetsModel" (163 : Nat) ({ cls := "KindNetsModel", name := "plain", desc := "(III)I" } : Jvm.MethodName)) ∈ lw_all := lw_g (lw_at lw_m3 185 rfl) rfl
theorem q721 : (Jvm.Cond.privateMethod ({ cls := "KindNetsModel", name := "plain", desc := "(III)I" } : Jvm.MethodName)) ∈ lw_tbl := lw_at lw_m3 186 rfl
theorem q722 : (Jvm.Cond.instanceMethod ({ cls := "KindNetsModel", name := "plain", desc := "(III)I" } : Jvm.MethodName)) ∈ lw_all := lw_g (lw_at lw_m3 187 rfl) rfl
theorem q723 : (Jvm.Cond.code ({ cls := "KindNetsModel", name := "plain", desc := "(III)I" } : Jvm.MethodName) prog_6_method_27_code (6 : Nat) (Option.some Jvm.ClassFile.FieldType.int)) ∈ lw_all := lw_g (lw_at lw_m3 188 rfl) rfl
theorem q724 : (Jvm.Cond.methodLink "KindNetsModel" (166 : Nat) ({ cls := "KindNetsModel", name := "shape", desc := "(IIII)V" } : Jvm.MethodName)) ∈ lw_all := lw_g (lw_at lw_m3 189 rfl) rfl
theorem q725 : (Jvm.Cond.privateMethod ({ cls := "KindNetsModel", name := "shape", desc := "(IIII)V" } : Jvm.MethodName)) ∈ lw_tbl := lw_at lw_m3 190 rfl
theorem q726 : (Jvm.Cond.instanceMethod ({ cls := "KindNetsModel", name := "shape", desc := "(IIII)V" } : Jvm.MethodName)) ∈ lw_all := lw_g (lw_at lw_m3 191 rfl) rfl
theorem q727 : (Jvm.Cond.code ({ cls := "KindNetsModel", name := "shape", desc := "(IIII)V" } : Jvm.MethodName) prog_6_method_29_code (11 : Nat) (Option.none : Option Jvm.ClassFile.FieldType)) ∈ lw_all := lw_g (lw_at lw_m3 192 rfl) rfl
theorem q729 : (Jvm.Cond.instanceMethod ({ cls := "KindNetsModel", name := "slip", desc := "()I" } : Jvm.MethodName)) ∈ lw_all := lw_g (lw_at lw_m3 194 rfl) rfl
theorem q730 : (Jvm.Cond.selects "KindNetsModel" ({ cls := "KindNetsModel", name := "slip", desc := "()I" } : Jvm.MethodName) ({ cls := "KindNetsModel", name := "slip", desc := "()I" } : Jvm.MethodName)) ∈ lw_all := lw_g (lw_at lw_m3 195 rfl) rfl
theorem q731 : (Jvm.Cond.code ({ cls := "KindNetsModel", name := "slip", desc := "()I" } : Jvm.MethodName) prog_6_method_32_code (1 : Nat) (Option.some Jvm.ClassFile.FieldType.int)) ∈ lw_all := lw_g (lw_at lw_m3 196 rfl) rfl
theorem q732 : (Jvm.Cond.methodLink "KindNetsModel" (175 : Nat) ({ cls := "KindNetsModel", name := "slipOf", desc := "()I" } : Jvm.MethodName)) ∈ lw_all := lw_g (lw_at lw_m3 197 rfl) rfl
theorem q733 : (Jvm.Cond.privateMethod ({ cls := "KindNetsModel", name := "slipOf", desc := "()I" } : Jvm.MethodName)) ∈ lw_tbl := lw_at lw_m3 198 rfl
theorem q734 : (Jvm.Cond.instanceMethod ({ cls := "KindNetsModel", name := "slipOf", desc := "()I" } : Jvm.MethodName)) ∈ lw_all := lw_g (lw_at lw_m3 199 rfl) rfl
theorem q735 : (Jvm.Cond.code ({ cls := "KindNetsModel", name := "slipOf", desc := "()I" } : Jvm.MethodName) prog_6_method_31_code (6 : Nat) (Option.some Jvm.ClassFile.FieldType.int)) ∈ lw_all := lw_g (lw_at lw_m3 200 rfl) rfl
theorem q737 : (Jvm.Cond.instanceMethod ({ cls := "KindNetsModel", name := "size", desc := "()I" } : Jvm.MethodName)) ∈ lw_all := lw_g (lw_at lw_m3 202 rfl) rfl
theorem q738 : (Jvm.Cond.selects "KindNetsModel" ({ cls := "KindNetsModel", name := "size", desc := "()I" } : Jvm.MethodName) ({ cls := "KindNetsModel", name := "size", desc := "()I" } : Jvm.MethodName)) ∈ lw_all := lw_g (lw_at lw_m3 203 rfl) rfl
theorem q739 : (Jvm.Cond.code ({ cls := "KindNetsModel", name := "size", desc := "()I" } : Jvm.MethodName) prog_6_method_33_code (1 : Nat) (Option.some Jvm.ClassFile.FieldType.int)) ∈ lw_all := lw_g (lw_at lw_m3 204 rfl) rfl
theorem q741 : (Jvm.Cond.instanceMethod ({ cls := "KindNetsModel", name := "fits", desc := "(I)I" } : Jvm.MethodName)) ∈ lw_all := lw_g (lw_at lw_m3 206 rfl) rfl
theorem q742 : (Jvm.Cond.selects "KindNetsModel" ({ cls := "KindNetsModel", name := "fits", desc := "(I)I" } : Jvm.MethodName) ({ cls := "KindNetsModel", name := "fits", desc := "(I)I" } : Jvm.MethodName)) ∈ lw_all := lw_g (lw_at lw_m3 207 rfl) rfl
theorem q743 : (Jvm.Cond.code ({ cls := "KindNetsModel", name := "fits", desc := "(I)I" } : Jvm.MethodName) prog_6_method_35_code (10 : Nat) (Option.some Jvm.ClassFile.FieldType.int)) ∈ lw_all := lw_g (lw_at lw_m3 208 rfl) rfl
theorem q744 : (Jvm.Cond.methodLink "KindNetsModel" (178 : Nat) ({ cls := "KindNetsModel", name := "inner", desc := "(I)I" } : Jvm.MethodName)) ∈ lw_all := lw_g (lw_at lw_m3 209 rfl) rfl
theorem q745 : (Jvm.Cond.privateMethod ({ cls := "KindNetsModel", name := "inner", desc := "(I)I" } : Jvm.MethodName)) ∈ lw_tbl := lw_at lw_m3 210 rfl
theorem q746 : (Jvm.Cond.instanceMethod ({ cls := "KindNetsModel", name := "inner", desc := "(I)I" } : Jvm.MethodName)) ∈ lw_all := lw_g (lw_at lw_m3 211 rfl) rfl
theorem q747 : (Jvm.Cond.code ({ cls := "KindNetsModel", name := "inner", desc := "(I)I" } : Jvm.MethodName) prog_6_method_34_code (3 : Nat) (Option.some Jvm.ClassFile.FieldType.int)) ∈ lw_all := lw_g (lw_at lw_m3 212 rfl) rfl
theorem q748 : (Jvm.Cond.methodLink "KindNetsModel" (181 : Nat) ({ cls := "KindNetsModel", name := "begin", desc := "(II)V" } : Jvm.MethodName)) ∈ lw_all := lw_g (lw_at lw_m3 213 rfl) rfl
theorem q749 : (Jvm.Cond.privateMethod ({ cls := "KindNetsModel", name := "begin", desc := "(II)V" } : Jvm.MethodName)) ∈ lw_tbl := lw_at lw_m3 214 rfl
theorem q750 : (Jvm.Cond.instanceMethod ({ cls := "KindNetsModel", name := "begin", desc := "(II)V" } : Jvm.MethodName)) ∈ lw_all := lw_g (lw_at lw_m3 215 rfl) rfl
theorem q751 : (Jvm.Cond.code ({ cls := "KindNetsModel", name := "begin", desc := "(II)V" } : Jvm.MethodName) prog_6_method_36_code (3 : Nat) (Option.none : Option Jvm.ClassFile.FieldType)) ∈ lw_all := lw_g (lw_at lw_m3 216 rfl) rfl
theorem q753 : (Jvm.Cond.instanceMethod ({ cls := "KindNetsModel", name := "count", desc := "(II)I" } : Jvm.MethodName)) ∈ lw_all := lw_g (lw_at lw_m3 218 rfl) rfl
theorem q754 : (Jvm.Cond.selects "KindNetsModel" ({ cls := "KindNetsModel", name := "count", desc := "(II)I" } : Jvm.MethodName) ({ cls := "KindNetsModel", name := "count", desc := "(II)I" } : Jvm.MethodName)) ∈ lw_all := lw_g (lw_at lw_m3 219 rfl) rfl
theorem q755 : (Jvm.Cond.code ({ cls := "KindNetsModel", name := "count", desc := "(II)I" } : Jvm.MethodName) prog_6_method_41_code (8 : Nat) (Option.some Jvm.ClassFile.FieldType.int)) ∈ lw_all := lw_g (lw_at lw_m3 220 rfl) rfl
theorem q756 : (Jvm.Cond.constantLong "KindNetsModel" (190 : Nat) (10 : Int64)) ∈ lw_all := lw_g (lw_at lw_m3 221 rfl) rfl
theorem q757 : (Jvm.Cond.constantLong "KindNetsModel" (192 : Nat) (2 : Int64)) ∈ lw_all := lw_g (lw_at lw_m3 222 rfl) rfl
theorem q758 : (Jvm.Cond.constantLong "KindNetsModel" (194 : Nat) (26 : Int64)) ∈ lw_all := lw_g (lw_at lw_m3 223 rfl) rfl
theorem q759 : (Jvm.Cond.methodLink "KindNetsModel" (196 : Nat) ({ cls := "KindNetsModel", name := "recordCount", desc := "(II)J" } : Jvm.MethodName)) ∈ lw_all := lw_g (lw_at lw_m3 224 rfl) rfl
theorem q760 : (Jvm.Cond.privateMethod ({ cls := "KindNetsModel", name := "recordCount", desc := "(II)J" } : Jvm.MethodName)) ∈ lw_tbl := lw_at lw_m3 225 rfl
theorem q761 : (Jvm.Cond.instanceMethod ({ cls := "KindNetsModel", name := "recordCount", desc := "(II)J" } : Jvm.MethodName)) ∈ lw_all := lw_g (lw_at lw_m3 226 rfl) rfl
theorem q762 : (Jvm.Cond.code ({ cls := "KindNetsModel", name := "recordCount", desc := "(II)J" } : Jvm.MethodName) prog_6_method_38_code (7 : Nat) (Option.some Jvm.ClassFile.FieldType.long)) ∈ lw_all := lw_g (lw_at lw_m3 227 rfl) rfl
theorem q763 : (Jvm.Cond.methodLink "KindNetsModel" (187 : Nat) ({ cls := "KindNetsModel", name := "held", desc := "(J)J" } : Jvm.MethodName)) ∈ lw_all := lw_g (lw_at lw_m3 228 rfl) rfl
theorem q764 : (Jvm.Cond.static ({ cls := "KindNetsModel", name := "held", desc := "(J)J" } : Jvm.MethodName)) ∈ lw_all := lw_g (lw_at lw_m3 229 rfl) rfl
theorem q765 : (Jvm.Cond.code ({ cls := "KindNetsModel", name := "held", desc := "(J)J" } : Jvm.MethodName) prog_6_method_37_code (2 : Nat) (Option.some Jvm.ClassFile.FieldType.long)) ∈ lw_all := lw_g (lw_at lw_m3 230 rfl) rfl
theorem q766 : (Jvm.Cond.constantLong "KindNetsModel" (185 : Nat) (1000000000 : Int64)) ∈ lw_all := lw_g (lw_at lw_m3 231 rfl) rfl
theorem q767 : (Jvm.Cond.methodLink "KindNetsModel" (200 : Nat) ({ cls := "KindNetsModel", name := "choiceCount", desc := "(II)J" } : Jvm.MethodName)) ∈ lw_all := lw_g (lw_at lw_m3 232 rfl) rfl
theorem q768 : (Jvm.Cond.privateMethod ({ cls := "KindNetsModel", name := "choiceCount", desc := "(II)J" } : Jvm.MethodName)) ∈ lw_tbl := lw_at lw_m3 233 rfl
theorem q769 : (Jvm.Cond.instanceMethod ({ cls := "KindNetsModel", name := "choiceCount", desc := "(II)J" } : Jvm.MethodName)) ∈ lw_all := lw_g (lw_at lw_m3 234 rfl) rfl
theorem q770 : (Jvm.Cond.code ({ cls := "KindNetsModel", name := "choiceCount", desc := "(II)J" } : Jvm.MethodName) prog_6_method_40_code (6 : Nat) (Option.some Jvm.ClassFile.FieldType.long)) ∈ lw_all := lw_g (lw_at lw_m3 235 rfl) rfl
theorem q771 : (Jvm.Cond.methodLink "KindNetsModel" (203 : Nat) ({ cls := "KindNetsModel", name := "listCount", desc := "(II)J" } : Jvm.MethodName)) ∈ lw_all := lw_g (lw_at lw_m3 236 rfl) rfl
theorem q772 : (Jvm.Cond.privateMethod ({ cls := "KindNetsModel", name := "listCount", desc := "(II)J" } : Jvm.MethodName)) ∈ lw_tbl := lw_at lw_m3 237 rfl
theorem q773 : (Jvm.Cond.instanceMethod ({ cls := "KindNetsModel", name := "listCount", desc := "(II)J" } : Jvm.MethodName)) ∈ lw_all := lw_g (lw_at lw_m3 238 rfl) rfl
theorem q774 : (Jvm.Cond.code ({ cls := "KindNetsModel", name := "listCount", desc := "(II)J" } : Jvm.MethodName) prog_6_method_39_code (6 : Nat) (Option.some Jvm.ClassFile.FieldType.long)) ∈ lw_all := lw_g (lw_at lw_m3 239 rfl) rfl
theorem q776 : (Jvm.Cond.instanceMethod ({ cls := "KindNetsModel", name := "least", desc := "(I)I" } : Jvm.MethodName)) ∈ lw_all := lw_g (lw_at lw_m4 1 rfl) rfl
theorem q777 : (Jvm.Cond.selects "KindNetsModel" ({ cls := "KindNetsModel", name := "least", desc := "(I)I" } : Jvm.MethodName) ({ cls := "KindNetsModel", name := "least", desc := "(I)I" } : Jvm.MethodName)) ∈ lw_all := lw_g (lw_at lw_m4 2 rfl) rfl
theorem q778 : (Jvm.Cond.code ({ cls := "KindNetsModel", name := "least", desc := "(I)I" } : Jvm.MethodName) prog_6_method_43_code (2 : Nat) (Option.some Jvm.ClassFile.FieldType.int)) ∈ lw_all := lw_g (lw_at lw_m4 3 rfl) rfl
theorem q779 : (Jvm.Cond.methodLink "KindNetsModel" (206 : Nat) ({ cls := "KindNetsModel", name := "layLeast", desc := "()V" } : Jvm.MethodName)) ∈ lw_all := lw_g (lw_at lw_m4 4 rfl) rfl
theorem q780 : (Jvm.Cond.privateMethod ({ cls := "KindNetsModel", name := "layLeast", desc := "()V" } : Jvm.MethodName)) ∈ lw_tbl := lw_at lw_m4 5 rfl
theorem q781 : (Jvm.Cond.instanceMethod ({ cls := "KindNetsModel", name := "layLeast", desc := "()V" } : Jvm.MethodName)) ∈ lw_all := lw_g (lw_at lw_m4 6 rfl) rfl
theorem q782 : (Jvm.Cond.code ({ cls := "KindNetsModel", name := "layLeast", desc := "()V" } : Jvm.MethodName) prog_6_method_42_code (8 : Nat) (Option.none : Option Jvm.ClassFile.FieldType)) ∈ lw_all := lw_g (lw_at lw_m4 7 rfl) rfl
theorem q784 : (Jvm.Cond.instanceMethod ({ cls := "KindNetsModel", name := "told", desc := "(I)I" } : Jvm.MethodName)) ∈ lw_all := lw_g (lw_at lw_m4 9 rfl) rfl
theorem q785 : (Jvm.Cond.selects "KindNetsModel" ({ cls := "KindNetsModel", name := "told", desc := "(I)I" } : Jvm.MethodName) ({ cls := "KindNetsModel", name := "told", desc := "(I)I" } : Jvm.MethodName)) ∈ lw_all := lw_g (lw_at lw_m4 10 rfl) rfl
theorem q786 : (Jvm.Cond.code ({ cls := "KindNetsModel", name := "told", desc := "(I)I" } : Jvm.MethodName) prog_6_method_44_code (5 : Nat) (Option.some Jvm.ClassFile.FieldType.int)) ∈ lw_all := lw_g (lw_at lw_m4 11 rfl) rfl
theorem in_X4 : ∀ w ∈ wsX40, w ∈ lw_all := lw_in wsX40 [544, 546, 548, 550, 552, 554, 556, 558, 560, 562, 564, 566, 568, 570, 572, 574, 576, 578, 580, 582, 584, 586, 588, 590, 592, 594, 596, 598, 600, 602, 604, 606, 608, 610] (by decide +kernel) (by decide +kernel)
