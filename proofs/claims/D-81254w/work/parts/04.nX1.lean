/-! KindNets$Reader -/
set_option maxRecDepth 100000
def RX1 : String := "KindNets$Reader"
def TX1 : u_T := fun k => match k with
  | 0 => ("KindNets$Reader", "read", "[LKindNets$Kind;", true)
  | 1 => ("KindNets$Reader", "up", "[I", true)
  | 2 => ("KindNets$Reader", "depth", "[I", true)
  | 3 => ("KindNets$Reader", "last", "[I", true)
  | 4 => ("KindNets$Reader", "root", "[I", true)
  | 5 => ("KindNets$Reader", "many", "I", false)
  | 6 => ("KindNets$Reader", "open", "I", false)
  | _ => ("KindNets$Reader", "name", "I", false)
def tyX1 : Nat → FieldType := fun k => match k with
  | 0 => .array (.object "KindNets$Kind")
  | 1 => .array .int
  | 2 => .array .int
  | 3 => .array .int
  | 4 => .array .int
  | 5 => .int
  | 6 => .int
  | _ => .int
abbrev wsX10 : List Cond := u_ws RX1 TX1 8
theorem nmX1 : ∀ a, a < 8 → ∀ b, b < 8 → a ≠ b → (TX1 a).2.1 ≠ (TX1 b).2.1 := by decide +kernel
theorem tyX1_ok : ∀ k, k < 8 → parseFieldDescriptor (TX1 k).2.2.1 = some (tyX1 k) := by decide +kernel
abbrev cX1_init : ByteArray := prog_3_method_1_code
def yX1_init : MethodName := ⟨RX1, "<init>", "()V"⟩
def dkwX1_init_3 : List UInt8 := [177]
abbrev dktX1_init_3 : List UInt8 := dkwX1_init_3 ++ []
def dkwX1_init_2 : List UInt8 := [16, 100, 162, 0, 22, 42, 180, 0, 11, 27, 187, 0, 9, 89, 183, 0, 30, 83, 132, 1, 1, 167, 255, 234]
abbrev dktX1_init_2 : List UInt8 := dkwX1_init_2 ++ dktX1_init_3
def dkwX1_init_1 : List UInt8 := [188, 10, 181, 0, 21, 42, 16, 100, 188, 10, 181, 0, 24, 42, 16, 8, 188, 10, 181, 0, 27, 3, 60, 27]
abbrev dktX1_init_1 : List UInt8 := dkwX1_init_1 ++ dktX1_init_2
def dkwX1_init_0 : List UInt8 := [42, 183, 0, 3, 42, 16, 100, 189, 0, 9, 181, 0, 11, 42, 16, 100, 188, 10, 181, 0, 17, 42, 16, 100]
abbrev dktX1_init_0 : List UInt8 := dkwX1_init_0 ++ dktX1_init_1
theorem dksX1_init_0 : cX1_init.data.toList.drop 0 = dktX1_init_0 := by decide +kernel
theorem dksX1_init_1 : cX1_init.data.toList.drop 24 = dktX1_init_1 := dk_seg dksX1_init_0 24 rfl rfl
theorem dksX1_init_2 : cX1_init.data.toList.drop 48 = dktX1_init_2 := dk_seg dksX1_init_1 24 rfl rfl
theorem dksX1_init_3 : cX1_init.data.toList.drop 72 = dktX1_init_3 := dk_seg dksX1_init_2 24 rfl rfl
theorem dX1_init_0 : decode cX1_init 0 = .ok (.aload_n 0, 1) := dk_42 (dk_at dksX1_init_0 0 rfl rfl)
theorem dX1_init_1 : decode cX1_init 1 = .ok (.invokespecial 3, 3) := dk_183 0 3 (dk_at dksX1_init_0 1 rfl rfl)
theorem dX1_init_4 : decode cX1_init 4 = .ok (.aload_n 0, 1) := dk_42 (dk_at dksX1_init_0 4 rfl rfl)
theorem dX1_init_5 : decode cX1_init 5 = .ok (.bipush 100, 2) := dk_16 100 (dk_at dksX1_init_0 5 rfl rfl)
theorem dX1_init_7 : decode cX1_init 7 = .ok (.anewarray 9, 3) := dk_189 0 9 (dk_at dksX1_init_0 7 rfl rfl)
theorem dX1_init_10 : decode cX1_init 10 = .ok (.putfield 11, 3) := dk_181 0 11 (dk_at dksX1_init_0 10 rfl rfl)
theorem dX1_init_13 : decode cX1_init 13 = .ok (.aload_n 0, 1) := dk_42 (dk_at dksX1_init_0 13 rfl rfl)
theorem dX1_init_14 : decode cX1_init 14 = .ok (.bipush 100, 2) := dk_16 100 (dk_at dksX1_init_0 14 rfl rfl)
theorem dX1_init_16 : decode cX1_init 16 = .ok (.newarray .int, 2) := dk_188_10 (dk_at dksX1_init_0 16 rfl rfl)
theorem dX1_init_18 : decode cX1_init 18 = .ok (.putfield 17, 3) := dk_181 0 17 (dk_at dksX1_init_0 18 rfl rfl)
theorem dX1_init_21 : decode cX1_init 21 = .ok (.aload_n 0, 1) := dk_42 (dk_at dksX1_init_0 21 rfl rfl)
theorem dX1_init_22 : decode cX1_init 22 = .ok (.bipush 100, 2) := dk_16 100 (dk_at dksX1_init_0 22 rfl rfl)
theorem dX1_init_24 : decode cX1_init 24 = .ok (.newarray .int, 2) := dk_188_10 (dk_at dksX1_init_1 0 rfl rfl)
theorem dX1_init_26 : decode cX1_init 26 = .ok (.putfield 21, 3) := dk_181 0 21 (dk_at dksX1_init_1 2 rfl rfl)
theorem dX1_init_29 : decode cX1_init 29 = .ok (.aload_n 0, 1) := dk_42 (dk_at dksX1_init_1 5 rfl rfl)
theorem dX1_init_30 : decode cX1_init 30 = .ok (.bipush 100, 2) := dk_16 100 (dk_at dksX1_init_1 6 rfl rfl)
theorem dX1_init_32 : decode cX1_init 32 = .ok (.newarray .int, 2) := dk_188_10 (dk_at dksX1_init_1 8 rfl rfl)
theorem dX1_init_34 : decode cX1_init 34 = .ok (.putfield 24, 3) := dk_181 0 24 (dk_at dksX1_init_1 10 rfl rfl)
theorem dX1_init_37 : decode cX1_init 37 = .ok (.aload_n 0, 1) := dk_42 (dk_at dksX1_init_1 13 rfl rfl)
theorem dX1_init_38 : decode cX1_init 38 = .ok (.bipush 8, 2) := dk_16 8 (dk_at dksX1_init_1 14 rfl rfl)
theorem dX1_init_40 : decode cX1_init 40 = .ok (.newarray .int, 2) := dk_188_10 (dk_at dksX1_init_1 16 rfl rfl)
theorem dX1_init_42 : decode cX1_init 42 = .ok (.putfield 27, 3) := dk_181 0 27 (dk_at dksX1_init_1 18 rfl rfl)
theorem dX1_init_45 : decode cX1_init 45 = .ok (.iconst 0, 1) := dk_3 (dk_at dksX1_init_1 21 rfl rfl)
theorem dX1_init_46 : decode cX1_init 46 = .ok (.istore_n 1, 1) := dk_60 (dk_at dksX1_init_1 22 rfl rfl)
theorem dX1_init_47 : decode cX1_init 47 = .ok (.iload_n 1, 1) := dk_27 (dk_at dksX1_init_1 23 rfl rfl)
theorem dX1_init_48 : decode cX1_init 48 = .ok (.bipush 100, 2) := dk_16 100 (dk_at dksX1_init_2 0 rfl rfl)
theorem dX1_init_50 : decode cX1_init 50 = .ok (.if_icmp .ge 22, 3) := dk_162 0 22 (dk_at dksX1_init_2 2 rfl rfl)
theorem dX1_init_53 : decode cX1_init 53 = .ok (.aload_n 0, 1) := dk_42 (dk_at dksX1_init_2 5 rfl rfl)
theorem dX1_init_54 : decode cX1_init 54 = .ok (.getfield 11, 3) := dk_180 0 11 (dk_at dksX1_init_2 6 rfl rfl)
theorem dX1_init_57 : decode cX1_init 57 = .ok (.iload_n 1, 1) := dk_27 (dk_at dksX1_init_2 9 rfl rfl)
theorem dX1_init_58 : decode cX1_init 58 = .ok (.new 9, 3) := dk_187 0 9 (dk_at dksX1_init_2 10 rfl rfl)
theorem dX1_init_61 : decode cX1_init 61 = .ok (.dup, 1) := dk_89 (dk_at dksX1_init_2 13 rfl rfl)
theorem dX1_init_62 : decode cX1_init 62 = .ok (.invokespecial 30, 3) := dk_183 0 30 (dk_at dksX1_init_2 14 rfl rfl)
theorem dX1_init_65 : decode cX1_init 65 = .ok (.aastore, 1) := dk_83 (dk_at dksX1_init_2 17 rfl rfl)
theorem dX1_init_66 : decode cX1_init 66 = .ok (.iinc 1 1, 3) := dk_132 1 1 (dk_at dksX1_init_2 18 rfl rfl)
theorem dX1_init_69 : decode cX1_init 69 = .ok (.goto (-22), 3) := dk_167 255 234 (dk_at dksX1_init_2 21 rfl rfl)
theorem dX1_init_72 : decode cX1_init 72 = .ok (.return_, 1) := dk_177 (dk_at dksX1_init_3 0 rfl rfl)
abbrev cX1_fault : ByteArray := prog_3_method_10_code
def yX1_fault : MethodName := ⟨RX1, "fault", "([CI)I"⟩
def dkwX1_fault_5 : List UInt8 := [167, 255, 177, 29, 7, 160, 0, 8, 16, 250, 167, 0, 4, 28, 172]
abbrev dktX1_fault_5 : List UInt8 := dkwX1_fault_5 ++ []
def dkwX1_fault_4 : List UInt8 := [42, 29, 43, 21, 4, 52, 21, 5, 182, 0, 86, 62, 29, 156, 0, 6, 21, 4, 172, 132, 4, 1]
abbrev dktX1_fault_4 : List UInt8 := dkwX1_fault_4 ++ dktX1_fault_5
def dkwX1_fault_3 : List UInt8 := [21, 4, 4, 100, 52, 16, 97, 100, 167, 0, 14, 42, 180, 0, 24, 42, 180, 0, 31, 46, 4, 96, 54, 5]
abbrev dktX1_fault_3 : List UInt8 := dkwX1_fault_3 ++ dktX1_fault_4
def dkwX1_fault_2 : List UInt8 := [156, 0, 7, 3, 167, 0, 41, 42, 180, 0, 11, 42, 180, 0, 31, 50, 182, 0, 76, 153, 0, 15, 43]
abbrev dktX1_fault_2 : List UInt8 := dkwX1_fault_2 ++ dktX1_fault_3
def dkwX1_fault_1 : List UInt8 := [16, 250, 79, 132, 3, 1, 167, 255, 239, 3, 62, 3, 54, 4, 21, 4, 28, 162, 0, 79, 42, 180, 0, 31]
abbrev dktX1_fault_1 : List UInt8 := dkwX1_fault_1 ++ dktX1_fault_2
def dkwX1_fault_0 : List UInt8 := [42, 3, 181, 0, 45, 42, 2, 181, 0, 31, 3, 62, 29, 16, 8, 162, 0, 17, 42, 180, 0, 27, 29]
abbrev dktX1_fault_0 : List UInt8 := dkwX1_fault_0 ++ dktX1_fault_1
theorem dksX1_fault_0 : cX1_fault.data.toList.drop 0 = dktX1_fault_0 := by decide +kernel
theorem dksX1_fault_1 : cX1_fault.data.toList.drop 23 = dktX1_fault_1 := dk_seg dksX1_fault_0 23 rfl rfl
theorem dksX1_fault_2 : cX1_fault.data.toList.drop 47 = dktX1_fault_2 := dk_seg dksX1_fault_1 24 rfl rfl
theorem dksX1_fault_3 : cX1_fault.data.toList.drop 70 = dktX1_fault_3 := dk_seg dksX1_fault_2 23 rfl rfl
theorem dksX1_fault_4 : cX1_fault.data.toList.drop 94 = dktX1_fault_4 := dk_seg dksX1_fault_3 24 rfl rfl
theorem dksX1_fault_5 : cX1_fault.data.toList.drop 116 = dktX1_fault_5 := dk_seg dksX1_fault_4 22 rfl rfl
theorem dX1_fault_0 : decode cX1_fault 0 = .ok (.aload_n 0, 1) := dk_42 (dk_at dksX1_fault_0 0 rfl rfl)
theorem dX1_fault_1 : decode cX1_fault 1 = .ok (.iconst 0, 1) := dk_3 (dk_at dksX1_fault_0 1 rfl rfl)
theorem dX1_fault_2 : decode cX1_fault 2 = .ok (.putfield 45, 3) := dk_181 0 45 (dk_at dksX1_fault_0 2 rfl rfl)
theorem dX1_fault_5 : decode cX1_fault 5 = .ok (.aload_n 0, 1) := dk_42 (dk_at dksX1_fault_0 5 rfl rfl)
theorem dX1_fault_6 : decode cX1_fault 6 = .ok (.iconst (-1), 1) := dk_2 (dk_at dksX1_fault_0 6 rfl rfl)
theorem dX1_fault_7 : decode cX1_fault 7 = .ok (.putfield 31, 3) := dk_181 0 31 (dk_at dksX1_fault_0 7 rfl rfl)
theorem dX1_fault_10 : decode cX1_fault 10 = .ok (.iconst 0, 1) := dk_3 (dk_at dksX1_fault_0 10 rfl rfl)
theorem dX1_fault_11 : decode cX1_fault 11 = .ok (.istore_n 3, 1) := dk_62 (dk_at dksX1_fault_0 11 rfl rfl)
theorem dX1_fault_12 : decode cX1_fault 12 = .ok (.iload_n 3, 1) := dk_29 (dk_at dksX1_fault_0 12 rfl rfl)
theorem dX1_fault_13 : decode cX1_fault 13 = .ok (.bipush 8, 2) := dk_16 8 (dk_at dksX1_fault_0 13 rfl rfl)
theorem dX1_fault_15 : decode cX1_fault 15 = .ok (.if_icmp .ge 17, 3) := dk_162 0 17 (dk_at dksX1_fault_0 15 rfl rfl)
theorem dX1_fault_18 : decode cX1_fault 18 = .ok (.aload_n 0, 1) := dk_42 (dk_at dksX1_fault_0 18 rfl rfl)
theorem dX1_fault_19 : decode cX1_fault 19 = .ok (.getfield 27, 3) := dk_180 0 27 (dk_at dksX1_fault_0 19 rfl rfl)
theorem dX1_fault_22 : decode cX1_fault 22 = .ok (.iload_n 3, 1) := dk_29 (dk_at dksX1_fault_0 22 rfl rfl)
theorem dX1_fault_23 : decode cX1_fault 23 = .ok (.bipush (-6), 2) := dk_16 250 (dk_at dksX1_fault_1 0 rfl rfl)
theorem dX1_fault_25 : decode cX1_fault 25 = .ok (.iastore, 1) := dk_79 (dk_at dksX1_fault_1 2 rfl rfl)
theorem dX1_fault_26 : decode cX1_fault 26 = .ok (.iinc 3 1, 3) := dk_132 3 1 (dk_at dksX1_fault_1 3 rfl rfl)
theorem dX1_fault_29 : decode cX1_fault 29 = .ok (.goto (-17), 3) := dk_167 255 239 (dk_at dksX1_fault_1 6 rfl rfl)
theorem dX1_fault_32 : decode cX1_fault 32 = .ok (.iconst 0, 1) := dk_3 (dk_at dksX1_fault_1 9 rfl rfl)
theorem dX1_fault_33 : decode cX1_fault 33 = .ok (.istore_n 3, 1) := dk_62 (dk_at dksX1_fault_1 10 rfl rfl)
theorem dX1_fault_34 : decode cX1_fault 34 = .ok (.iconst 0, 1) := dk_3 (dk_at dksX1_fault_1 11 rfl rfl)
theorem dX1_fault_35 : decode cX1_fault 35 = .ok (.istore 4, 2) := dk_54 4 (dk_at dksX1_fault_1 12 rfl rfl)
theorem dX1_fault_37 : decode cX1_fault 37 = .ok (.iload 4, 2) := dk_21 4 (dk_at dksX1_fault_1 14 rfl rfl)
theorem dX1_fault_39 : decode cX1_fault 39 = .ok (.iload_n 2, 1) := dk_28 (dk_at dksX1_fault_1 16 rfl rfl)
theorem dX1_fault_40 : decode cX1_fault 40 = .ok (.if_icmp .ge 79, 3) := dk_162 0 79 (dk_at dksX1_fault_1 17 rfl rfl)
theorem dX1_fault_43 : decode cX1_fault 43 = .ok (.aload_n 0, 1) := dk_42 (dk_at dksX1_fault_1 20 rfl rfl)
theorem dX1_fault_44 : decode cX1_fault 44 = .ok (.getfield 31, 3) := dk_180 0 31 (dk_at dksX1_fault_1 21 rfl rfl)
theorem dX1_fault_47 : decode cX1_fault 47 = .ok (.ifCond .ge 7, 3) := dk_156 0 7 (dk_at dksX1_fault_2 0 rfl rfl)
theorem dX1_fault_50 : decode cX1_fault 50 = .ok (.iconst 0, 1) := dk_3 (dk_at dksX1_fault_2 3 rfl rfl)
theorem dX1_fault_51 : decode cX1_fault 51 = .ok (.goto 41, 3) := dk_167 0 41 (dk_at dksX1_fault_2 4 rfl rfl)
theorem dX1_fault_54 : decode cX1_fault 54 = .ok (.aload_n 0, 1) := dk_42 (dk_at dksX1_fault_2 7 rfl rfl)
theorem dX1_fault_55 : decode cX1_fault 55 = .ok (.getfield 11, 3) := dk_180 0 11 (dk_at dksX1_fault_2 8 rfl rfl)
theorem dX1_fault_58 : decode cX1_fault 58 = .ok (.aload_n 0, 1) := dk_42 (dk_at dksX1_fault_2 11 rfl rfl)
theorem dX1_fault_59 : decode cX1_fault 59 = .ok (.getfield 31, 3) := dk_180 0 31 (dk_at dksX1_fault_2 12 rfl rfl)
theorem dX1_fault_62 : decode cX1_fault 62 = .ok (.aaload, 1) := dk_50 (dk_at dksX1_fault_2 15 rfl rfl)
theorem dX1_fault_63 : decode cX1_fault 63 = .ok (.invokevirtual 76, 3) := dk_182 0 76 (dk_at dksX1_fault_2 16 rfl rfl)
theorem dX1_fault_66 : decode cX1_fault 66 = .ok (.ifCond .eq 15, 3) := dk_153 0 15 (dk_at dksX1_fault_2 19 rfl rfl)
theorem dX1_fault_69 : decode cX1_fault 69 = .ok (.aload_n 1, 1) := dk_43 (dk_at dksX1_fault_2 22 rfl rfl)
theorem dX1_fault_70 : decode cX1_fault 70 = .ok (.iload 4, 2) := dk_21 4 (dk_at dksX1_fault_3 0 rfl rfl)
theorem dX1_fault_72 : decode cX1_fault 72 = .ok (.iconst 1, 1) := dk_4 (dk_at dksX1_fault_3 2 rfl rfl)
theorem dX1_fault_73 : decode cX1_fault 73 = .ok (.isub, 1) := dk_100 (dk_at dksX1_fault_3 3 rfl rfl)
theorem dX1_fault_74 : decode cX1_fault 74 = .ok (.caload, 1) := dk_52 (dk_at dksX1_fault_3 4 rfl rfl)
theorem dX1_fault_75 : decode cX1_fault 75 = .ok (.bipush 97, 2) := dk_16 97 (dk_at dksX1_fault_3 5 rfl rfl)
theorem dX1_fault_77 : decode cX1_fault 77 = .ok (.isub, 1) := dk_100 (dk_at dksX1_fault_3 7 rfl rfl)
theorem dX1_fault_78 : decode cX1_fault 78 = .ok (.goto 14, 3) := dk_167 0 14 (dk_at dksX1_fault_3 8 rfl rfl)
theorem dX1_fault_81 : decode cX1_fault 81 = .ok (.aload_n 0, 1) := dk_42 (dk_at dksX1_fault_3 11 rfl rfl)
theorem dX1_fault_82 : decode cX1_fault 82 = .ok (.getfield 24, 3) := dk_180 0 24 (dk_at dksX1_fault_3 12 rfl rfl)
theorem dX1_fault_85 : decode cX1_fault 85 = .ok (.aload_n 0, 1) := dk_42 (dk_at dksX1_fault_3 15 rfl rfl)
theorem dX1_fault_86 : decode cX1_fault 86 = .ok (.getfield 31, 3) := dk_180 0 31 (dk_at dksX1_fault_3 16 rfl rfl)
theorem dX1_fault_89 : decode cX1_fault 89 = .ok (.iaload, 1) := dk_46 (dk_at dksX1_fault_3 19 rfl rfl)
theorem dX1_fault_90 : decode cX1_fault 90 = .ok (.iconst 1, 1) := dk_4 (dk_at dksX1_fault_3 20 rfl rfl)
theorem dX1_fault_91 : decode cX1_fault 91 = .ok (.iadd, 1) := dk_96 (dk_at dksX1_fault_3 21 rfl rfl)
theorem dX1_fault_92 : decode cX1_fault 92 = .ok (.istore 5, 2) := dk_54 5 (dk_at dksX1_fault_3 22 rfl rfl)
theorem dX1_fault_94 : decode cX1_fault 94 = .ok (.aload_n 0, 1) := dk_42 (dk_at dksX1_fault_4 0 rfl rfl)
theorem dX1_fault_95 : decode cX1_fault 95 = .ok (.iload_n 3, 1) := dk_29 (dk_at dksX1_fault_4 1 rfl rfl)
theorem dX1_fault_96 : decode cX1_fault 96 = .ok (.aload_n 1, 1) := dk_43 (dk_at dksX1_fault_4 2 rfl rfl)
theorem dX1_fault_97 : decode cX1_fault 97 = .ok (.iload 4, 2) := dk_21 4 (dk_at dksX1_fault_4 3 rfl rfl)
theorem dX1_fault_99 : decode cX1_fault 99 = .ok (.caload, 1) := dk_52 (dk_at dksX1_fault_4 5 rfl rfl)
theorem dX1_fault_100 : decode cX1_fault 100 = .ok (.iload 5, 2) := dk_21 5 (dk_at dksX1_fault_4 6 rfl rfl)
theorem dX1_fault_102 : decode cX1_fault 102 = .ok (.invokevirtual 86, 3) := dk_182 0 86 (dk_at dksX1_fault_4 8 rfl rfl)
theorem dX1_fault_105 : decode cX1_fault 105 = .ok (.istore_n 3, 1) := dk_62 (dk_at dksX1_fault_4 11 rfl rfl)
theorem dX1_fault_106 : decode cX1_fault 106 = .ok (.iload_n 3, 1) := dk_29 (dk_at dksX1_fault_4 12 rfl rfl)
theorem dX1_fault_107 : decode cX1_fault 107 = .ok (.ifCond .ge 6, 3) := dk_156 0 6 (dk_at dksX1_fault_4 13 rfl rfl)
theorem dX1_fault_110 : decode cX1_fault 110 = .ok (.iload 4, 2) := dk_21 4 (dk_at dksX1_fault_4 16 rfl rfl)
theorem dX1_fault_112 : decode cX1_fault 112 = .ok (.ireturn, 1) := dk_172 (dk_at dksX1_fault_4 18 rfl rfl)
theorem dX1_fault_113 : decode cX1_fault 113 = .ok (.iinc 4 1, 3) := dk_132 4 1 (dk_at dksX1_fault_4 19 rfl rfl)
theorem dX1_fault_116 : decode cX1_fault 116 = .ok (.goto (-79), 3) := dk_167 255 177 (dk_at dksX1_fault_5 0 rfl rfl)
theorem dX1_fault_119 : decode cX1_fault 119 = .ok (.iload_n 3, 1) := dk_29 (dk_at dksX1_fault_5 3 rfl rfl)
theorem dX1_fault_120 : decode cX1_fault 120 = .ok (.iconst 4, 1) := dk_7 (dk_at dksX1_fault_5 4 rfl rfl)
theorem dX1_fault_121 : decode cX1_fault 121 = .ok (.if_icmp .ne 8, 3) := dk_160 0 8 (dk_at dksX1_fault_5 5 rfl rfl)
theorem dX1_fault_124 : decode cX1_fault 124 = .ok (.bipush (-6), 2) := dk_16 250 (dk_at dksX1_fault_5 8 rfl rfl)
theorem dX1_fault_126 : decode cX1_fault 126 = .ok (.goto 4, 3) := dk_167 0 4 (dk_at dksX1_fault_5 10 rfl rfl)
theorem dX1_fault_129 : decode cX1_fault 129 = .ok (.iload_n 2, 1) := dk_28 (dk_at dksX1_fault_5 13 rfl rfl)
theorem dX1_fault_130 : decode cX1_fault 130 = .ok (.ireturn, 1) := dk_172 (dk_at dksX1_fault_5 14 rfl rfl)
abbrev cX1_next : ByteArray := prog_3_method_7_code
def yX1_next : MethodName := ⟨RX1, "next", "(III)I"⟩
def dkwX1_next_5 : List UInt8 := [160, 0, 7, 3, 167, 0, 4, 2, 172]
abbrev dktX1_next_5 : List UInt8 := dkwX1_next_5 ++ []
def dkwX1_next_4 : List UInt8 := [182, 0, 61, 153, 0, 10, 42, 182, 0, 65, 167, 0, 4, 2, 172, 42, 28, 182, 0, 69, 172, 28, 16, 59]
abbrev dktX1_next_4 : List UInt8 := dkwX1_next_4 ++ dktX1_next_5
def dkwX1_next_3 : List UInt8 := [156, 0, 7, 4, 167, 0, 4, 2, 172, 28, 16, 61, 160, 0, 7, 5, 167, 0, 4, 2, 172, 42, 28, 29]
abbrev dktX1_next_3 : List UInt8 := dkwX1_next_3 ++ dktX1_next_4
def dkwX1_next_2 : List UInt8 := [42, 28, 16, 65, 100, 181, 0, 51, 28, 184, 0, 35, 153, 0, 19, 42, 180, 0, 27, 42, 180, 0, 51, 46]
abbrev dktX1_next_2 : List UInt8 := dkwX1_next_2 ++ dktX1_next_3
def dkwX1_next_1 : List UInt8 := [170, 0, 0, 0, 0, 0, 100, 0, 0, 0, 0, 0, 0, 0, 3, 0, 0, 0, 31, 0, 0, 0, 64, 0, 0, 0, 76, 0, 0, 0, 94]
abbrev dktX1_next_1 : List UInt8 := dkwX1_next_1 ++ dktX1_next_2
def dkwX1_next_0 : List UInt8 := [27]
abbrev dktX1_next_0 : List UInt8 := dkwX1_next_0 ++ dktX1_next_1
theorem dksX1_next_0 : cX1_next.data.toList.drop 0 = dktX1_next_0 := by decide +kernel
theorem dksX1_next_1 : cX1_next.data.toList.drop 1 = dktX1_next_1 := dk_seg dksX1_next_0 1 rfl rfl
theorem dksX1_next_2 : cX1_next.data.toList.drop 32 = dktX1_next_2 := dk_seg dksX1_next_1 31 rfl rfl
theorem dksX1_next_3 : cX1_next.data.toList.drop 56 = dktX1_next_3 := dk_seg dksX1_next_2 24 rfl rfl
theorem dksX1_next_4 : cX1_next.data.toList.drop 80 = dktX1_next_4 := dk_seg dksX1_next_3 24 rfl rfl
theorem dksX1_next_5 : cX1_next.data.toList.drop 104 = dktX1_next_5 := dk_seg dksX1_next_4 24 rfl rfl
theorem dX1_next_0 : decode cX1_next 0 = .ok (.iload_n 1, 1) := dk_27 (dk_at dksX1_next_0 0 rfl rfl)
theorem dX1_next_1 : decode cX1_next 1 = .ok (.tableswitch 100 0 3 #[31, 64, 76, 94], 31) := by decide +kernel
theorem dX1_next_32 : decode cX1_next 32 = .ok (.aload_n 0, 1) := dk_42 (dk_at dksX1_next_2 0 rfl rfl)
theorem dX1_next_33 : decode cX1_next 33 = .ok (.iload_n 2, 1) := dk_28 (dk_at dksX1_next_2 1 rfl rfl)
theorem dX1_next_34 : decode cX1_next 34 = .ok (.bipush 65, 2) := dk_16 65 (dk_at dksX1_next_2 2 rfl rfl)
theorem dX1_next_36 : decode cX1_next 36 = .ok (.isub, 1) := dk_100 (dk_at dksX1_next_2 4 rfl rfl)
theorem dX1_next_37 : decode cX1_next 37 = .ok (.putfield 51, 3) := dk_181 0 51 (dk_at dksX1_next_2 5 rfl rfl)
theorem dX1_next_40 : decode cX1_next 40 = .ok (.iload_n 2, 1) := dk_28 (dk_at dksX1_next_2 8 rfl rfl)
theorem dX1_next_41 : decode cX1_next 41 = .ok (.invokestatic 35, 3) := dk_184 0 35 (dk_at dksX1_next_2 9 rfl rfl)
theorem dX1_next_44 : decode cX1_next 44 = .ok (.ifCond .eq 19, 3) := dk_153 0 19 (dk_at dksX1_next_2 12 rfl rfl)
theorem dX1_next_47 : decode cX1_next 47 = .ok (.aload_n 0, 1) := dk_42 (dk_at dksX1_next_2 15 rfl rfl)
theorem dX1_next_48 : decode cX1_next 48 = .ok (.getfield 27, 3) := dk_180 0 27 (dk_at dksX1_next_2 16 rfl rfl)
theorem dX1_next_51 : decode cX1_next 51 = .ok (.aload_n 0, 1) := dk_42 (dk_at dksX1_next_2 19 rfl rfl)
theorem dX1_next_52 : decode cX1_next 52 = .ok (.getfield 51, 3) := dk_180 0 51 (dk_at dksX1_next_2 20 rfl rfl)
theorem dX1_next_55 : decode cX1_next 55 = .ok (.iaload, 1) := dk_46 (dk_at dksX1_next_2 23 rfl rfl)
theorem dX1_next_56 : decode cX1_next 56 = .ok (.ifCond .ge 7, 3) := dk_156 0 7 (dk_at dksX1_next_3 0 rfl rfl)
theorem dX1_next_59 : decode cX1_next 59 = .ok (.iconst 1, 1) := dk_4 (dk_at dksX1_next_3 3 rfl rfl)
theorem dX1_next_60 : decode cX1_next 60 = .ok (.goto 4, 3) := dk_167 0 4 (dk_at dksX1_next_3 4 rfl rfl)
theorem dX1_next_63 : decode cX1_next 63 = .ok (.iconst (-1), 1) := dk_2 (dk_at dksX1_next_3 7 rfl rfl)
theorem dX1_next_64 : decode cX1_next 64 = .ok (.ireturn, 1) := dk_172 (dk_at dksX1_next_3 8 rfl rfl)
theorem dX1_next_65 : decode cX1_next 65 = .ok (.iload_n 2, 1) := dk_28 (dk_at dksX1_next_3 9 rfl rfl)
theorem dX1_next_66 : decode cX1_next 66 = .ok (.bipush 61, 2) := dk_16 61 (dk_at dksX1_next_3 10 rfl rfl)
theorem dX1_next_68 : decode cX1_next 68 = .ok (.if_icmp .ne 7, 3) := dk_160 0 7 (dk_at dksX1_next_3 12 rfl rfl)
theorem dX1_next_71 : decode cX1_next 71 = .ok (.iconst 2, 1) := dk_5 (dk_at dksX1_next_3 15 rfl rfl)
theorem dX1_next_72 : decode cX1_next 72 = .ok (.goto 4, 3) := dk_167 0 4 (dk_at dksX1_next_3 16 rfl rfl)
theorem dX1_next_75 : decode cX1_next 75 = .ok (.iconst (-1), 1) := dk_2 (dk_at dksX1_next_3 19 rfl rfl)
theorem dX1_next_76 : decode cX1_next 76 = .ok (.ireturn, 1) := dk_172 (dk_at dksX1_next_3 20 rfl rfl)
theorem dX1_next_77 : decode cX1_next 77 = .ok (.aload_n 0, 1) := dk_42 (dk_at dksX1_next_3 21 rfl rfl)
theorem dX1_next_78 : decode cX1_next 78 = .ok (.iload_n 2, 1) := dk_28 (dk_at dksX1_next_3 22 rfl rfl)
theorem dX1_next_79 : decode cX1_next 79 = .ok (.iload_n 3, 1) := dk_29 (dk_at dksX1_next_3 23 rfl rfl)
theorem dX1_next_80 : decode cX1_next 80 = .ok (.invokevirtual 61, 3) := dk_182 0 61 (dk_at dksX1_next_4 0 rfl rfl)
theorem dX1_next_83 : decode cX1_next 83 = .ok (.ifCond .eq 10, 3) := dk_153 0 10 (dk_at dksX1_next_4 3 rfl rfl)
theorem dX1_next_86 : decode cX1_next 86 = .ok (.aload_n 0, 1) := dk_42 (dk_at dksX1_next_4 6 rfl rfl)
theorem dX1_next_87 : decode cX1_next 87 = .ok (.invokevirtual 65, 3) := dk_182 0 65 (dk_at dksX1_next_4 7 rfl rfl)
theorem dX1_next_90 : decode cX1_next 90 = .ok (.goto 4, 3) := dk_167 0 4 (dk_at dksX1_next_4 10 rfl rfl)
theorem dX1_next_93 : decode cX1_next 93 = .ok (.iconst (-1), 1) := dk_2 (dk_at dksX1_next_4 13 rfl rfl)
theorem dX1_next_94 : decode cX1_next 94 = .ok (.ireturn, 1) := dk_172 (dk_at dksX1_next_4 14 rfl rfl)
theorem dX1_next_95 : decode cX1_next 95 = .ok (.aload_n 0, 1) := dk_42 (dk_at dksX1_next_4 15 rfl rfl)
theorem dX1_next_96 : decode cX1_next 96 = .ok (.iload_n 2, 1) := dk_28 (dk_at dksX1_next_4 16 rfl rfl)
theorem dX1_next_97 : decode cX1_next 97 = .ok (.invokevirtual 69, 3) := dk_182 0 69 (dk_at dksX1_next_4 17 rfl rfl)
theorem dX1_next_100 : decode cX1_next 100 = .ok (.ireturn, 1) := dk_172 (dk_at dksX1_next_4 20 rfl rfl)
theorem dX1_next_101 : decode cX1_next 101 = .ok (.iload_n 2, 1) := dk_28 (dk_at dksX1_next_4 21 rfl rfl)
theorem dX1_next_102 : decode cX1_next 102 = .ok (.bipush 59, 2) := dk_16 59 (dk_at dksX1_next_4 22 rfl rfl)
theorem dX1_next_104 : decode cX1_next 104 = .ok (.if_icmp .ne 7, 3) := dk_160 0 7 (dk_at dksX1_next_5 0 rfl rfl)
theorem dX1_next_107 : decode cX1_next 107 = .ok (.iconst 0, 1) := dk_3 (dk_at dksX1_next_5 3 rfl rfl)
theorem dX1_next_108 : decode cX1_next 108 = .ok (.goto 4, 3) := dk_167 0 4 (dk_at dksX1_next_5 4 rfl rfl)
theorem dX1_next_111 : decode cX1_next 111 = .ok (.iconst (-1), 1) := dk_2 (dk_at dksX1_next_5 7 rfl rfl)
theorem dX1_next_112 : decode cX1_next 112 = .ok (.ireturn, 1) := dk_172 (dk_at dksX1_next_5 8 rfl rfl)
abbrev cX1_isName : ByteArray := prog_3_method_2_code
def yX1_isName : MethodName := ⟨RX1, "isName", "(I)Z"⟩
def dkwX1_isName_0 : List UInt8 := [26, 16, 65, 161, 0, 13, 26, 16, 72, 163, 0, 7, 4, 167, 0, 4, 3, 172]
abbrev dktX1_isName_0 : List UInt8 := dkwX1_isName_0 ++ []
theorem dksX1_isName_0 : cX1_isName.data.toList.drop 0 = dktX1_isName_0 := by decide +kernel
theorem dX1_isName_0 : decode cX1_isName 0 = .ok (.iload_n 0, 1) := dk_26 (dk_at dksX1_isName_0 0 rfl rfl)
theorem dX1_isName_1 : decode cX1_isName 1 = .ok (.bipush 65, 2) := dk_16 65 (dk_at dksX1_isName_0 1 rfl rfl)
theorem dX1_isName_3 : decode cX1_isName 3 = .ok (.if_icmp .lt 13, 3) := dk_161 0 13 (dk_at dksX1_isName_0 3 rfl rfl)
theorem dX1_isName_6 : decode cX1_isName 6 = .ok (.iload_n 0, 1) := dk_26 (dk_at dksX1_isName_0 6 rfl rfl)
theorem dX1_isName_7 : decode cX1_isName 7 = .ok (.bipush 72, 2) := dk_16 72 (dk_at dksX1_isName_0 7 rfl rfl)
theorem dX1_isName_9 : decode cX1_isName 9 = .ok (.if_icmp .gt 7, 3) := dk_163 0 7 (dk_at dksX1_isName_0 9 rfl rfl)
theorem dX1_isName_12 : decode cX1_isName 12 = .ok (.iconst 1, 1) := dk_4 (dk_at dksX1_isName_0 12 rfl rfl)
theorem dX1_isName_13 : decode cX1_isName 13 = .ok (.goto 4, 3) := dk_167 0 4 (dk_at dksX1_isName_0 13 rfl rfl)
theorem dX1_isName_16 : decode cX1_isName 16 = .ok (.iconst 0, 1) := dk_3 (dk_at dksX1_isName_0 16 rfl rfl)
theorem dX1_isName_17 : decode cX1_isName 17 = .ok (.ireturn, 1) := dk_172 (dk_at dksX1_isName_0 17 rfl rfl)
abbrev cX1_begin : ByteArray := prog_3_method_5_code
def yX1_begin : MethodName := ⟨RX1, "begin", "(II)Z"⟩
def dkwX1_begin_8 : List UInt8 := [42, 180, 0, 31, 181, 0, 31, 42, 89, 180, 0, 45, 4, 96, 181, 0, 45, 4, 172]
abbrev dktX1_begin_8 : List UInt8 := dkwX1_begin_8 ++ []
def dkwX1_begin_7 : List UInt8 := [180, 0, 24, 42, 180, 0, 31, 28, 79, 42, 27, 184, 0, 42, 153, 0, 10, 42, 180, 0, 45, 167, 0, 7]
abbrev dktX1_begin_7 : List UInt8 := dkwX1_begin_7 ++ dktX1_begin_8
def dkwX1_begin_6 : List UInt8 := [79, 167, 0, 31, 42, 180, 0, 11, 42, 180, 0, 31, 50, 180, 0, 54, 28, 42, 180, 0, 45, 79, 42]
abbrev dktX1_begin_6 : List UInt8 := dkwX1_begin_6 ++ dktX1_begin_7
def dkwX1_begin_5 : List UInt8 := [180, 0, 45, 2, 79, 42, 180, 0, 31, 156, 0, 19, 42, 180, 0, 27, 42, 180, 0, 51, 42, 180, 0, 45]
abbrev dktX1_begin_5 : List UInt8 := dkwX1_begin_5 ++ dktX1_begin_6
def dkwX1_begin_4 : List UInt8 := [42, 180, 0, 45, 42, 180, 0, 31, 79, 42, 180, 0, 21, 42, 180, 0, 45, 29, 79, 42, 180, 0, 24, 42]
abbrev dktX1_begin_4 : List UInt8 := dkwX1_begin_4 ++ dktX1_begin_5
def dkwX1_begin_3 : List UInt8 := [16, 12, 160, 0, 5, 3, 172, 42, 180, 0, 11, 42, 180, 0, 45, 50, 27, 182, 0, 48, 42, 180, 0, 17]
abbrev dktX1_begin_3 : List UInt8 := dkwX1_begin_3 ++ dktX1_begin_4
def dkwX1_begin_2 : List UInt8 := [154, 0, 17, 27, 184, 0, 39, 154, 0, 10, 27, 184, 0, 42, 153, 0, 14, 21, 4, 153, 0, 11, 29]
abbrev dktX1_begin_2 : List UInt8 := dkwX1_begin_2 ++ dktX1_begin_3
def dkwX1_begin_1 : List UInt8 := [16, 42, 159, 0, 9, 27, 16, 62, 160, 0, 7, 4, 167, 0, 4, 3, 54, 4, 27, 184, 0, 35]
abbrev dktX1_begin_1 : List UInt8 := dkwX1_begin_1 ++ dktX1_begin_2
def dkwX1_begin_0 : List UInt8 := [42, 180, 0, 31, 156, 0, 7, 3, 167, 0, 14, 42, 180, 0, 21, 42, 180, 0, 31, 46, 4, 96, 62, 27]
abbrev dktX1_begin_0 : List UInt8 := dkwX1_begin_0 ++ dktX1_begin_1
theorem dksX1_begin_0 : cX1_begin.data.toList.drop 0 = dktX1_begin_0 := by decide +kernel
theorem dksX1_begin_1 : cX1_begin.data.toList.drop 24 = dktX1_begin_1 := dk_seg dksX1_begin_0 24 rfl rfl
theorem dksX1_begin_2 : cX1_begin.data.toList.drop 46 = dktX1_begin_2 := dk_seg dksX1_begin_1 22 rfl rfl
theorem dksX1_begin_3 : cX1_begin.data.toList.drop 69 = dktX1_begin_3 := dk_seg dksX1_begin_2 23 rfl rfl
theorem dksX1_begin_4 : cX1_begin.data.toList.drop 93 = dktX1_begin_4 := dk_seg dksX1_begin_3 24 rfl rfl
theorem dksX1_begin_5 : cX1_begin.data.toList.drop 117 = dktX1_begin_5 := dk_seg dksX1_begin_4 24 rfl rfl
theorem dksX1_begin_6 : cX1_begin.data.toList.drop 141 = dktX1_begin_6 := dk_seg dksX1_begin_5 24 rfl rfl
theorem dksX1_begin_7 : cX1_begin.data.toList.drop 164 = dktX1_begin_7 := dk_seg dksX1_begin_6 23 rfl rfl
theorem dksX1_begin_8 : cX1_begin.data.toList.drop 188 = dktX1_begin_8 := dk_seg dksX1_begin_7 24 rfl rfl
theorem dX1_begin_0 : decode cX1_begin 0 = .ok (.aload_n 0, 1) := dk_42 (dk_at dksX1_begin_0 0 rfl rfl)
theorem dX1_begin_1 : decode cX1_begin 1 = .ok (.getfield 31, 3) := dk_180 0 31 (dk_at dksX1_begin_0 1 rfl rfl)
theorem dX1_begin_4 : decode cX1_begin 4 = .ok (.ifCond .ge 7, 3) := dk_156 0 7 (dk_at dksX1_begin_0 4 rfl rfl)
theorem dX1_begin_7 : decode cX1_begin 7 = .ok (.iconst 0, 1) := dk_3 (dk_at dksX1_begin_0 7 rfl rfl)
theorem dX1_begin_8 : decode cX1_begin 8 = .ok (.goto 14, 3) := dk_167 0 14 (dk_at dksX1_begin_0 8 rfl rfl)
theorem dX1_begin_11 : decode cX1_begin 11 = .ok (.aload_n 0, 1) := dk_42 (dk_at dksX1_begin_0 11 rfl rfl)
theorem dX1_begin_12 : decode cX1_begin 12 = .ok (.getfield 21, 3) := dk_180 0 21 (dk_at dksX1_begin_0 12 rfl rfl)
theorem dX1_begin_15 : decode cX1_begin 15 = .ok (.aload_n 0, 1) := dk_42 (dk_at dksX1_begin_0 15 rfl rfl)
theorem dX1_begin_16 : decode cX1_begin 16 = .ok (.getfield 31, 3) := dk_180 0 31 (dk_at dksX1_begin_0 16 rfl rfl)
theorem dX1_begin_19 : decode cX1_begin 19 = .ok (.iaload, 1) := dk_46 (dk_at dksX1_begin_0 19 rfl rfl)
theorem dX1_begin_20 : decode cX1_begin 20 = .ok (.iconst 1, 1) := dk_4 (dk_at dksX1_begin_0 20 rfl rfl)
theorem dX1_begin_21 : decode cX1_begin 21 = .ok (.iadd, 1) := dk_96 (dk_at dksX1_begin_0 21 rfl rfl)
theorem dX1_begin_22 : decode cX1_begin 22 = .ok (.istore_n 3, 1) := dk_62 (dk_at dksX1_begin_0 22 rfl rfl)
theorem dX1_begin_23 : decode cX1_begin 23 = .ok (.iload_n 1, 1) := dk_27 (dk_at dksX1_begin_0 23 rfl rfl)
theorem dX1_begin_24 : decode cX1_begin 24 = .ok (.bipush 42, 2) := dk_16 42 (dk_at dksX1_begin_1 0 rfl rfl)
theorem dX1_begin_26 : decode cX1_begin 26 = .ok (.if_icmp .eq 9, 3) := dk_159 0 9 (dk_at dksX1_begin_1 2 rfl rfl)
theorem dX1_begin_29 : decode cX1_begin 29 = .ok (.iload_n 1, 1) := dk_27 (dk_at dksX1_begin_1 5 rfl rfl)
theorem dX1_begin_30 : decode cX1_begin 30 = .ok (.bipush 62, 2) := dk_16 62 (dk_at dksX1_begin_1 6 rfl rfl)
theorem dX1_begin_32 : decode cX1_begin 32 = .ok (.if_icmp .ne 7, 3) := dk_160 0 7 (dk_at dksX1_begin_1 8 rfl rfl)
theorem dX1_begin_35 : decode cX1_begin 35 = .ok (.iconst 1, 1) := dk_4 (dk_at dksX1_begin_1 11 rfl rfl)
theorem dX1_begin_36 : decode cX1_begin 36 = .ok (.goto 4, 3) := dk_167 0 4 (dk_at dksX1_begin_1 12 rfl rfl)
theorem dX1_begin_39 : decode cX1_begin 39 = .ok (.iconst 0, 1) := dk_3 (dk_at dksX1_begin_1 15 rfl rfl)
theorem dX1_begin_40 : decode cX1_begin 40 = .ok (.istore 4, 2) := dk_54 4 (dk_at dksX1_begin_1 16 rfl rfl)
theorem dX1_begin_42 : decode cX1_begin 42 = .ok (.iload_n 1, 1) := dk_27 (dk_at dksX1_begin_1 18 rfl rfl)
theorem dX1_begin_43 : decode cX1_begin 43 = .ok (.invokestatic 35, 3) := dk_184 0 35 (dk_at dksX1_begin_1 19 rfl rfl)
theorem dX1_begin_46 : decode cX1_begin 46 = .ok (.ifCond .ne 17, 3) := dk_154 0 17 (dk_at dksX1_begin_2 0 rfl rfl)
theorem dX1_begin_49 : decode cX1_begin 49 = .ok (.iload_n 1, 1) := dk_27 (dk_at dksX1_begin_2 3 rfl rfl)
theorem dX1_begin_50 : decode cX1_begin 50 = .ok (.invokestatic 39, 3) := dk_184 0 39 (dk_at dksX1_begin_2 4 rfl rfl)
theorem dX1_begin_53 : decode cX1_begin 53 = .ok (.ifCond .ne 10, 3) := dk_154 0 10 (dk_at dksX1_begin_2 7 rfl rfl)
theorem dX1_begin_56 : decode cX1_begin 56 = .ok (.iload_n 1, 1) := dk_27 (dk_at dksX1_begin_2 10 rfl rfl)
theorem dX1_begin_57 : decode cX1_begin 57 = .ok (.invokestatic 42, 3) := dk_184 0 42 (dk_at dksX1_begin_2 11 rfl rfl)
theorem dX1_begin_60 : decode cX1_begin 60 = .ok (.ifCond .eq 14, 3) := dk_153 0 14 (dk_at dksX1_begin_2 14 rfl rfl)
theorem dX1_begin_63 : decode cX1_begin 63 = .ok (.iload 4, 2) := dk_21 4 (dk_at dksX1_begin_2 17 rfl rfl)
theorem dX1_begin_65 : decode cX1_begin 65 = .ok (.ifCond .eq 11, 3) := dk_153 0 11 (dk_at dksX1_begin_2 19 rfl rfl)
theorem dX1_begin_68 : decode cX1_begin 68 = .ok (.iload_n 3, 1) := dk_29 (dk_at dksX1_begin_2 22 rfl rfl)
theorem dX1_begin_69 : decode cX1_begin 69 = .ok (.bipush 12, 2) := dk_16 12 (dk_at dksX1_begin_3 0 rfl rfl)
theorem dX1_begin_71 : decode cX1_begin 71 = .ok (.if_icmp .ne 5, 3) := dk_160 0 5 (dk_at dksX1_begin_3 2 rfl rfl)
theorem dX1_begin_74 : decode cX1_begin 74 = .ok (.iconst 0, 1) := dk_3 (dk_at dksX1_begin_3 5 rfl rfl)
theorem dX1_begin_75 : decode cX1_begin 75 = .ok (.ireturn, 1) := dk_172 (dk_at dksX1_begin_3 6 rfl rfl)
theorem dX1_begin_76 : decode cX1_begin 76 = .ok (.aload_n 0, 1) := dk_42 (dk_at dksX1_begin_3 7 rfl rfl)
theorem dX1_begin_77 : decode cX1_begin 77 = .ok (.getfield 11, 3) := dk_180 0 11 (dk_at dksX1_begin_3 8 rfl rfl)
theorem dX1_begin_80 : decode cX1_begin 80 = .ok (.aload_n 0, 1) := dk_42 (dk_at dksX1_begin_3 11 rfl rfl)
theorem dX1_begin_81 : decode cX1_begin 81 = .ok (.getfield 45, 3) := dk_180 0 45 (dk_at dksX1_begin_3 12 rfl rfl)
theorem dX1_begin_84 : decode cX1_begin 84 = .ok (.aaload, 1) := dk_50 (dk_at dksX1_begin_3 15 rfl rfl)
theorem dX1_begin_85 : decode cX1_begin 85 = .ok (.iload_n 1, 1) := dk_27 (dk_at dksX1_begin_3 16 rfl rfl)
theorem dX1_begin_86 : decode cX1_begin 86 = .ok (.invokevirtual 48, 3) := dk_182 0 48 (dk_at dksX1_begin_3 17 rfl rfl)
theorem dX1_begin_89 : decode cX1_begin 89 = .ok (.aload_n 0, 1) := dk_42 (dk_at dksX1_begin_3 20 rfl rfl)
theorem dX1_begin_90 : decode cX1_begin 90 = .ok (.getfield 17, 3) := dk_180 0 17 (dk_at dksX1_begin_3 21 rfl rfl)
theorem dX1_begin_93 : decode cX1_begin 93 = .ok (.aload_n 0, 1) := dk_42 (dk_at dksX1_begin_4 0 rfl rfl)
theorem dX1_begin_94 : decode cX1_begin 94 = .ok (.getfield 45, 3) := dk_180 0 45 (dk_at dksX1_begin_4 1 rfl rfl)
theorem dX1_begin_97 : decode cX1_begin 97 = .ok (.aload_n 0, 1) := dk_42 (dk_at dksX1_begin_4 4 rfl rfl)
theorem dX1_begin_98 : decode cX1_begin 98 = .ok (.getfield 31, 3) := dk_180 0 31 (dk_at dksX1_begin_4 5 rfl rfl)
theorem dX1_begin_101 : decode cX1_begin 101 = .ok (.iastore, 1) := dk_79 (dk_at dksX1_begin_4 8 rfl rfl)
theorem dX1_begin_102 : decode cX1_begin 102 = .ok (.aload_n 0, 1) := dk_42 (dk_at dksX1_begin_4 9 rfl rfl)
theorem dX1_begin_103 : decode cX1_begin 103 = .ok (.getfield 21, 3) := dk_180 0 21 (dk_at dksX1_begin_4 10 rfl rfl)
theorem dX1_begin_106 : decode cX1_begin 106 = .ok (.aload_n 0, 1) := dk_42 (dk_at dksX1_begin_4 13 rfl rfl)
theorem dX1_begin_107 : decode cX1_begin 107 = .ok (.getfield 45, 3) := dk_180 0 45 (dk_at dksX1_begin_4 14 rfl rfl)
theorem dX1_begin_110 : decode cX1_begin 110 = .ok (.iload_n 3, 1) := dk_29 (dk_at dksX1_begin_4 17 rfl rfl)
theorem dX1_begin_111 : decode cX1_begin 111 = .ok (.iastore, 1) := dk_79 (dk_at dksX1_begin_4 18 rfl rfl)
theorem dX1_begin_112 : decode cX1_begin 112 = .ok (.aload_n 0, 1) := dk_42 (dk_at dksX1_begin_4 19 rfl rfl)
theorem dX1_begin_113 : decode cX1_begin 113 = .ok (.getfield 24, 3) := dk_180 0 24 (dk_at dksX1_begin_4 20 rfl rfl)
theorem dX1_begin_116 : decode cX1_begin 116 = .ok (.aload_n 0, 1) := dk_42 (dk_at dksX1_begin_4 23 rfl rfl)
theorem dX1_begin_117 : decode cX1_begin 117 = .ok (.getfield 45, 3) := dk_180 0 45 (dk_at dksX1_begin_5 0 rfl rfl)
theorem dX1_begin_120 : decode cX1_begin 120 = .ok (.iconst (-1), 1) := dk_2 (dk_at dksX1_begin_5 3 rfl rfl)
theorem dX1_begin_121 : decode cX1_begin 121 = .ok (.iastore, 1) := dk_79 (dk_at dksX1_begin_5 4 rfl rfl)
theorem dX1_begin_122 : decode cX1_begin 122 = .ok (.aload_n 0, 1) := dk_42 (dk_at dksX1_begin_5 5 rfl rfl)
theorem dX1_begin_123 : decode cX1_begin 123 = .ok (.getfield 31, 3) := dk_180 0 31 (dk_at dksX1_begin_5 6 rfl rfl)
theorem dX1_begin_126 : decode cX1_begin 126 = .ok (.ifCond .ge 19, 3) := dk_156 0 19 (dk_at dksX1_begin_5 9 rfl rfl)
theorem dX1_begin_129 : decode cX1_begin 129 = .ok (.aload_n 0, 1) := dk_42 (dk_at dksX1_begin_5 12 rfl rfl)
theorem dX1_begin_130 : decode cX1_begin 130 = .ok (.getfield 27, 3) := dk_180 0 27 (dk_at dksX1_begin_5 13 rfl rfl)
theorem dX1_begin_133 : decode cX1_begin 133 = .ok (.aload_n 0, 1) := dk_42 (dk_at dksX1_begin_5 16 rfl rfl)
theorem dX1_begin_134 : decode cX1_begin 134 = .ok (.getfield 51, 3) := dk_180 0 51 (dk_at dksX1_begin_5 17 rfl rfl)
theorem dX1_begin_137 : decode cX1_begin 137 = .ok (.aload_n 0, 1) := dk_42 (dk_at dksX1_begin_5 20 rfl rfl)
theorem dX1_begin_138 : decode cX1_begin 138 = .ok (.getfield 45, 3) := dk_180 0 45 (dk_at dksX1_begin_5 21 rfl rfl)
theorem dX1_begin_141 : decode cX1_begin 141 = .ok (.iastore, 1) := dk_79 (dk_at dksX1_begin_6 0 rfl rfl)
theorem dX1_begin_142 : decode cX1_begin 142 = .ok (.goto 31, 3) := dk_167 0 31 (dk_at dksX1_begin_6 1 rfl rfl)
theorem dX1_begin_145 : decode cX1_begin 145 = .ok (.aload_n 0, 1) := dk_42 (dk_at dksX1_begin_6 4 rfl rfl)
theorem dX1_begin_146 : decode cX1_begin 146 = .ok (.getfield 11, 3) := dk_180 0 11 (dk_at dksX1_begin_6 5 rfl rfl)
theorem dX1_begin_149 : decode cX1_begin 149 = .ok (.aload_n 0, 1) := dk_42 (dk_at dksX1_begin_6 8 rfl rfl)
theorem dX1_begin_150 : decode cX1_begin 150 = .ok (.getfield 31, 3) := dk_180 0 31 (dk_at dksX1_begin_6 9 rfl rfl)
theorem dX1_begin_153 : decode cX1_begin 153 = .ok (.aaload, 1) := dk_50 (dk_at dksX1_begin_6 12 rfl rfl)
theorem dX1_begin_154 : decode cX1_begin 154 = .ok (.getfield 54, 3) := dk_180 0 54 (dk_at dksX1_begin_6 13 rfl rfl)
theorem dX1_begin_157 : decode cX1_begin 157 = .ok (.iload_n 2, 1) := dk_28 (dk_at dksX1_begin_6 16 rfl rfl)
theorem dX1_begin_158 : decode cX1_begin 158 = .ok (.aload_n 0, 1) := dk_42 (dk_at dksX1_begin_6 17 rfl rfl)
theorem dX1_begin_159 : decode cX1_begin 159 = .ok (.getfield 45, 3) := dk_180 0 45 (dk_at dksX1_begin_6 18 rfl rfl)
theorem dX1_begin_162 : decode cX1_begin 162 = .ok (.iastore, 1) := dk_79 (dk_at dksX1_begin_6 21 rfl rfl)
theorem dX1_begin_163 : decode cX1_begin 163 = .ok (.aload_n 0, 1) := dk_42 (dk_at dksX1_begin_6 22 rfl rfl)
theorem dX1_begin_164 : decode cX1_begin 164 = .ok (.getfield 24, 3) := dk_180 0 24 (dk_at dksX1_begin_7 0 rfl rfl)
theorem dX1_begin_167 : decode cX1_begin 167 = .ok (.aload_n 0, 1) := dk_42 (dk_at dksX1_begin_7 3 rfl rfl)
theorem dX1_begin_168 : decode cX1_begin 168 = .ok (.getfield 31, 3) := dk_180 0 31 (dk_at dksX1_begin_7 4 rfl rfl)
theorem dX1_begin_171 : decode cX1_begin 171 = .ok (.iload_n 2, 1) := dk_28 (dk_at dksX1_begin_7 7 rfl rfl)
theorem dX1_begin_172 : decode cX1_begin 172 = .ok (.iastore, 1) := dk_79 (dk_at dksX1_begin_7 8 rfl rfl)
theorem dX1_begin_173 : decode cX1_begin 173 = .ok (.aload_n 0, 1) := dk_42 (dk_at dksX1_begin_7 9 rfl rfl)
theorem dX1_begin_174 : decode cX1_begin 174 = .ok (.iload_n 1, 1) := dk_27 (dk_at dksX1_begin_7 10 rfl rfl)
theorem dX1_begin_175 : decode cX1_begin 175 = .ok (.invokestatic 42, 3) := dk_184 0 42 (dk_at dksX1_begin_7 11 rfl rfl)
theorem dX1_begin_178 : decode cX1_begin 178 = .ok (.ifCond .eq 10, 3) := dk_153 0 10 (dk_at dksX1_begin_7 14 rfl rfl)
theorem dX1_begin_181 : decode cX1_begin 181 = .ok (.aload_n 0, 1) := dk_42 (dk_at dksX1_begin_7 17 rfl rfl)
theorem dX1_begin_182 : decode cX1_begin 182 = .ok (.getfield 45, 3) := dk_180 0 45 (dk_at dksX1_begin_7 18 rfl rfl)
theorem dX1_begin_185 : decode cX1_begin 185 = .ok (.goto 7, 3) := dk_167 0 7 (dk_at dksX1_begin_7 21 rfl rfl)
theorem dX1_begin_188 : decode cX1_begin 188 = .ok (.aload_n 0, 1) := dk_42 (dk_at dksX1_begin_8 0 rfl rfl)
theorem dX1_begin_189 : decode cX1_begin 189 = .ok (.getfield 31, 3) := dk_180 0 31 (dk_at dksX1_begin_8 1 rfl rfl)
theorem dX1_begin_192 : decode cX1_begin 192 = .ok (.putfield 31, 3) := dk_181 0 31 (dk_at dksX1_begin_8 4 rfl rfl)
theorem dX1_begin_195 : decode cX1_begin 195 = .ok (.aload_n 0, 1) := dk_42 (dk_at dksX1_begin_8 7 rfl rfl)
theorem dX1_begin_196 : decode cX1_begin 196 = .ok (.dup, 1) := dk_89 (dk_at dksX1_begin_8 8 rfl rfl)
theorem dX1_begin_197 : decode cX1_begin 197 = .ok (.getfield 45, 3) := dk_180 0 45 (dk_at dksX1_begin_8 9 rfl rfl)
theorem dX1_begin_200 : decode cX1_begin 200 = .ok (.iconst 1, 1) := dk_4 (dk_at dksX1_begin_8 12 rfl rfl)
theorem dX1_begin_201 : decode cX1_begin 201 = .ok (.iadd, 1) := dk_96 (dk_at dksX1_begin_8 13 rfl rfl)
theorem dX1_begin_202 : decode cX1_begin 202 = .ok (.putfield 45, 3) := dk_181 0 45 (dk_at dksX1_begin_8 14 rfl rfl)
theorem dX1_begin_205 : decode cX1_begin 205 = .ok (.iconst 1, 1) := dk_4 (dk_at dksX1_begin_8 17 rfl rfl)
theorem dX1_begin_206 : decode cX1_begin 206 = .ok (.ireturn, 1) := dk_172 (dk_at dksX1_begin_8 18 rfl rfl)
abbrev cX1_isPlain : ByteArray := prog_3_method_3_code
def yX1_isPlain : MethodName := ⟨RX1, "isPlain", "(I)Z"⟩
def dkwX1_isPlain_1 : List UInt8 := [26, 16, 33, 160, 0, 7, 4, 167, 0, 4, 3, 172]
abbrev dktX1_isPlain_1 : List UInt8 := dkwX1_isPlain_1 ++ []
def dkwX1_isPlain_0 : List UInt8 := [26, 16, 110, 159, 0, 27, 26, 16, 116, 159, 0, 21, 26, 16, 115, 159, 0, 15, 26, 16, 46, 159, 0, 9]
abbrev dktX1_isPlain_0 : List UInt8 := dkwX1_isPlain_0 ++ dktX1_isPlain_1
theorem dksX1_isPlain_0 : cX1_isPlain.data.toList.drop 0 = dktX1_isPlain_0 := by decide +kernel
theorem dksX1_isPlain_1 : cX1_isPlain.data.toList.drop 24 = dktX1_isPlain_1 := dk_seg dksX1_isPlain_0 24 rfl rfl
theorem dX1_isPlain_0 : decode cX1_isPlain 0 = .ok (.iload_n 0, 1) := dk_26 (dk_at dksX1_isPlain_0 0 rfl rfl)
theorem dX1_isPlain_1 : decode cX1_isPlain 1 = .ok (.bipush 110, 2) := dk_16 110 (dk_at dksX1_isPlain_0 1 rfl rfl)
theorem dX1_isPlain_3 : decode cX1_isPlain 3 = .ok (.if_icmp .eq 27, 3) := dk_159 0 27 (dk_at dksX1_isPlain_0 3 rfl rfl)
theorem dX1_isPlain_6 : decode cX1_isPlain 6 = .ok (.iload_n 0, 1) := dk_26 (dk_at dksX1_isPlain_0 6 rfl rfl)
theorem dX1_isPlain_7 : decode cX1_isPlain 7 = .ok (.bipush 116, 2) := dk_16 116 (dk_at dksX1_isPlain_0 7 rfl rfl)
theorem dX1_isPlain_9 : decode cX1_isPlain 9 = .ok (.if_icmp .eq 21, 3) := dk_159 0 21 (dk_at dksX1_isPlain_0 9 rfl rfl)
theorem dX1_isPlain_12 : decode cX1_isPlain 12 = .ok (.iload_n 0, 1) := dk_26 (dk_at dksX1_isPlain_0 12 rfl rfl)
theorem dX1_isPlain_13 : decode cX1_isPlain 13 = .ok (.bipush 115, 2) := dk_16 115 (dk_at dksX1_isPlain_0 13 rfl rfl)
theorem dX1_isPlain_15 : decode cX1_isPlain 15 = .ok (.if_icmp .eq 15, 3) := dk_159 0 15 (dk_at dksX1_isPlain_0 15 rfl rfl)
theorem dX1_isPlain_18 : decode cX1_isPlain 18 = .ok (.iload_n 0, 1) := dk_26 (dk_at dksX1_isPlain_0 18 rfl rfl)
theorem dX1_isPlain_19 : decode cX1_isPlain 19 = .ok (.bipush 46, 2) := dk_16 46 (dk_at dksX1_isPlain_0 19 rfl rfl)
theorem dX1_isPlain_21 : decode cX1_isPlain 21 = .ok (.if_icmp .eq 9, 3) := dk_159 0 9 (dk_at dksX1_isPlain_0 21 rfl rfl)
theorem dX1_isPlain_24 : decode cX1_isPlain 24 = .ok (.iload_n 0, 1) := dk_26 (dk_at dksX1_isPlain_1 0 rfl rfl)
theorem dX1_isPlain_25 : decode cX1_isPlain 25 = .ok (.bipush 33, 2) := dk_16 33 (dk_at dksX1_isPlain_1 1 rfl rfl)
theorem dX1_isPlain_27 : decode cX1_isPlain 27 = .ok (.if_icmp .ne 7, 3) := dk_160 0 7 (dk_at dksX1_isPlain_1 3 rfl rfl)
theorem dX1_isPlain_30 : decode cX1_isPlain 30 = .ok (.iconst 1, 1) := dk_4 (dk_at dksX1_isPlain_1 6 rfl rfl)
theorem dX1_isPlain_31 : decode cX1_isPlain 31 = .ok (.goto 4, 3) := dk_167 0 4 (dk_at dksX1_isPlain_1 7 rfl rfl)
theorem dX1_isPlain_34 : decode cX1_isPlain 34 = .ok (.iconst 0, 1) := dk_3 (dk_at dksX1_isPlain_1 10 rfl rfl)
theorem dX1_isPlain_35 : decode cX1_isPlain 35 = .ok (.ireturn, 1) := dk_172 (dk_at dksX1_isPlain_1 11 rfl rfl)
abbrev cX1_isNest : ByteArray := prog_3_method_4_code
def yX1_isNest : MethodName := ⟨RX1, "isNest", "(I)Z"⟩
def dkwX1_isNest_1 : List UInt8 := [4, 167, 0, 4, 3, 172]
abbrev dktX1_isNest_1 : List UInt8 := dkwX1_isNest_1 ++ []
def dkwX1_isNest_0 : List UInt8 := [26, 16, 123, 159, 0, 21, 26, 16, 91, 159, 0, 15, 26, 16, 42, 159, 0, 9, 26, 16, 62, 160, 0, 7]
abbrev dktX1_isNest_0 : List UInt8 := dkwX1_isNest_0 ++ dktX1_isNest_1
theorem dksX1_isNest_0 : cX1_isNest.data.toList.drop 0 = dktX1_isNest_0 := by decide +kernel
theorem dksX1_isNest_1 : cX1_isNest.data.toList.drop 24 = dktX1_isNest_1 := dk_seg dksX1_isNest_0 24 rfl rfl
theorem dX1_isNest_0 : decode cX1_isNest 0 = .ok (.iload_n 0, 1) := dk_26 (dk_at dksX1_isNest_0 0 rfl rfl)
theorem dX1_isNest_1 : decode cX1_isNest 1 = .ok (.bipush 123, 2) := dk_16 123 (dk_at dksX1_isNest_0 1 rfl rfl)
theorem dX1_isNest_3 : decode cX1_isNest 3 = .ok (.if_icmp .eq 21, 3) := dk_159 0 21 (dk_at dksX1_isNest_0 3 rfl rfl)
theorem dX1_isNest_6 : decode cX1_isNest 6 = .ok (.iload_n 0, 1) := dk_26 (dk_at dksX1_isNest_0 6 rfl rfl)
theorem dX1_isNest_7 : decode cX1_isNest 7 = .ok (.bipush 91, 2) := dk_16 91 (dk_at dksX1_isNest_0 7 rfl rfl)
theorem dX1_isNest_9 : decode cX1_isNest 9 = .ok (.if_icmp .eq 15, 3) := dk_159 0 15 (dk_at dksX1_isNest_0 9 rfl rfl)
theorem dX1_isNest_12 : decode cX1_isNest 12 = .ok (.iload_n 0, 1) := dk_26 (dk_at dksX1_isNest_0 12 rfl rfl)
theorem dX1_isNest_13 : decode cX1_isNest 13 = .ok (.bipush 42, 2) := dk_16 42 (dk_at dksX1_isNest_0 13 rfl rfl)
theorem dX1_isNest_15 : decode cX1_isNest 15 = .ok (.if_icmp .eq 9, 3) := dk_159 0 9 (dk_at dksX1_isNest_0 15 rfl rfl)
theorem dX1_isNest_18 : decode cX1_isNest 18 = .ok (.iload_n 0, 1) := dk_26 (dk_at dksX1_isNest_0 18 rfl rfl)
theorem dX1_isNest_19 : decode cX1_isNest 19 = .ok (.bipush 62, 2) := dk_16 62 (dk_at dksX1_isNest_0 19 rfl rfl)
theorem dX1_isNest_21 : decode cX1_isNest 21 = .ok (.if_icmp .ne 7, 3) := dk_160 0 7 (dk_at dksX1_isNest_0 21 rfl rfl)
theorem dX1_isNest_24 : decode cX1_isNest 24 = .ok (.iconst 1, 1) := dk_4 (dk_at dksX1_isNest_1 0 rfl rfl)
theorem dX1_isNest_25 : decode cX1_isNest 25 = .ok (.goto 4, 3) := dk_167 0 4 (dk_at dksX1_isNest_1 1 rfl rfl)
theorem dX1_isNest_28 : decode cX1_isNest 28 = .ok (.iconst 0, 1) := dk_3 (dk_at dksX1_isNest_1 4 rfl rfl)
theorem dX1_isNest_29 : decode cX1_isNest 29 = .ok (.ireturn, 1) := dk_172 (dk_at dksX1_isNest_1 5 rfl rfl)
abbrev cX1_behind : ByteArray := prog_3_method_8_code
def yX1_behind : MethodName := ⟨RX1, "behind", "()I"⟩
def dkwX1_behind_1 : List UInt8 := [182, 0, 76, 153, 0, 7, 6, 167, 0, 4, 5, 172]
abbrev dktX1_behind_1 : List UInt8 := dkwX1_behind_1 ++ []
def dkwX1_behind_0 : List UInt8 := [42, 182, 0, 73, 42, 180, 0, 31, 156, 0, 7, 7, 167, 0, 23, 42, 180, 0, 11, 42, 180, 0, 31, 50]
abbrev dktX1_behind_0 : List UInt8 := dkwX1_behind_0 ++ dktX1_behind_1
theorem dksX1_behind_0 : cX1_behind.data.toList.drop 0 = dktX1_behind_0 := by decide +kernel
theorem dksX1_behind_1 : cX1_behind.data.toList.drop 24 = dktX1_behind_1 := dk_seg dksX1_behind_0 24 rfl rfl
theorem dX1_behind_0 : decode cX1_behind 0 = .ok (.aload_n 0, 1) := dk_42 (dk_at dksX1_behind_0 0 rfl rfl)
theorem dX1_behind_1 : decode cX1_behind 1 = .ok (.invokevirtual 73, 3) := dk_182 0 73 (dk_at dksX1_behind_0 1 rfl rfl)
theorem dX1_behind_4 : decode cX1_behind 4 = .ok (.aload_n 0, 1) := dk_42 (dk_at dksX1_behind_0 4 rfl rfl)
theorem dX1_behind_5 : decode cX1_behind 5 = .ok (.getfield 31, 3) := dk_180 0 31 (dk_at dksX1_behind_0 5 rfl rfl)
theorem dX1_behind_8 : decode cX1_behind 8 = .ok (.ifCond .ge 7, 3) := dk_156 0 7 (dk_at dksX1_behind_0 8 rfl rfl)
theorem dX1_behind_11 : decode cX1_behind 11 = .ok (.iconst 4, 1) := dk_7 (dk_at dksX1_behind_0 11 rfl rfl)
theorem dX1_behind_12 : decode cX1_behind 12 = .ok (.goto 23, 3) := dk_167 0 23 (dk_at dksX1_behind_0 12 rfl rfl)
theorem dX1_behind_15 : decode cX1_behind 15 = .ok (.aload_n 0, 1) := dk_42 (dk_at dksX1_behind_0 15 rfl rfl)
theorem dX1_behind_16 : decode cX1_behind 16 = .ok (.getfield 11, 3) := dk_180 0 11 (dk_at dksX1_behind_0 16 rfl rfl)
theorem dX1_behind_19 : decode cX1_behind 19 = .ok (.aload_n 0, 1) := dk_42 (dk_at dksX1_behind_0 19 rfl rfl)
theorem dX1_behind_20 : decode cX1_behind 20 = .ok (.getfield 31, 3) := dk_180 0 31 (dk_at dksX1_behind_0 20 rfl rfl)
theorem dX1_behind_23 : decode cX1_behind 23 = .ok (.aaload, 1) := dk_50 (dk_at dksX1_behind_0 23 rfl rfl)
theorem dX1_behind_24 : decode cX1_behind 24 = .ok (.invokevirtual 76, 3) := dk_182 0 76 (dk_at dksX1_behind_1 0 rfl rfl)
theorem dX1_behind_27 : decode cX1_behind 27 = .ok (.ifCond .eq 7, 3) := dk_153 0 7 (dk_at dksX1_behind_1 3 rfl rfl)
theorem dX1_behind_30 : decode cX1_behind 30 = .ok (.iconst 3, 1) := dk_6 (dk_at dksX1_behind_1 6 rfl rfl)
theorem dX1_behind_31 : decode cX1_behind 31 = .ok (.goto 4, 3) := dk_167 0 4 (dk_at dksX1_behind_1 7 rfl rfl)
theorem dX1_behind_34 : decode cX1_behind 34 = .ok (.iconst 2, 1) := dk_5 (dk_at dksX1_behind_1 10 rfl rfl)
theorem dX1_behind_35 : decode cX1_behind 35 = .ok (.ireturn, 1) := dk_172 (dk_at dksX1_behind_1 11 rfl rfl)
abbrev cX1_leave : ByteArray := prog_3_method_6_code
def yX1_leave : MethodName := ⟨RX1, "leave", "()V"⟩
def dkwX1_leave_3 : List UInt8 := [180, 0, 31, 46, 181, 0, 31, 167, 255, 177, 177]
abbrev dktX1_leave_3 : List UInt8 := dkwX1_leave_3 ++ []
def dkwX1_leave_2 : List UInt8 := [16, 62, 160, 0, 32, 42, 180, 0, 24, 42, 180, 0, 31, 46, 4, 160, 0, 19, 42, 42, 180, 0, 17, 42]
abbrev dktX1_leave_2 : List UInt8 := dkwX1_leave_2 ++ dktX1_leave_3
def dkwX1_leave_1 : List UInt8 := [42, 180, 0, 24, 42, 180, 0, 31, 46, 153, 0, 33, 42, 180, 0, 11, 42, 180, 0, 31, 50, 180, 0, 57]
abbrev dktX1_leave_1 : List UInt8 := dkwX1_leave_1 ++ dktX1_leave_2
def dkwX1_leave_0 : List UInt8 := [42, 180, 0, 31, 155, 0, 78, 42, 180, 0, 11, 42, 180, 0, 31, 50, 180, 0, 57, 16, 42, 160, 0, 15]
abbrev dktX1_leave_0 : List UInt8 := dkwX1_leave_0 ++ dktX1_leave_1
theorem dksX1_leave_0 : cX1_leave.data.toList.drop 0 = dktX1_leave_0 := by decide +kernel
theorem dksX1_leave_1 : cX1_leave.data.toList.drop 24 = dktX1_leave_1 := dk_seg dksX1_leave_0 24 rfl rfl
theorem dksX1_leave_2 : cX1_leave.data.toList.drop 48 = dktX1_leave_2 := dk_seg dksX1_leave_1 24 rfl rfl
theorem dksX1_leave_3 : cX1_leave.data.toList.drop 72 = dktX1_leave_3 := dk_seg dksX1_leave_2 24 rfl rfl
theorem dX1_leave_0 : decode cX1_leave 0 = .ok (.aload_n 0, 1) := dk_42 (dk_at dksX1_leave_0 0 rfl rfl)
theorem dX1_leave_1 : decode cX1_leave 1 = .ok (.getfield 31, 3) := dk_180 0 31 (dk_at dksX1_leave_0 1 rfl rfl)
theorem dX1_leave_4 : decode cX1_leave 4 = .ok (.ifCond .lt 78, 3) := dk_155 0 78 (dk_at dksX1_leave_0 4 rfl rfl)
theorem dX1_leave_7 : decode cX1_leave 7 = .ok (.aload_n 0, 1) := dk_42 (dk_at dksX1_leave_0 7 rfl rfl)
theorem dX1_leave_8 : decode cX1_leave 8 = .ok (.getfield 11, 3) := dk_180 0 11 (dk_at dksX1_leave_0 8 rfl rfl)
theorem dX1_leave_11 : decode cX1_leave 11 = .ok (.aload_n 0, 1) := dk_42 (dk_at dksX1_leave_0 11 rfl rfl)
theorem dX1_leave_12 : decode cX1_leave 12 = .ok (.getfield 31, 3) := dk_180 0 31 (dk_at dksX1_leave_0 12 rfl rfl)
theorem dX1_leave_15 : decode cX1_leave 15 = .ok (.aaload, 1) := dk_50 (dk_at dksX1_leave_0 15 rfl rfl)
theorem dX1_leave_16 : decode cX1_leave 16 = .ok (.getfield 57, 3) := dk_180 0 57 (dk_at dksX1_leave_0 16 rfl rfl)
theorem dX1_leave_19 : decode cX1_leave 19 = .ok (.bipush 42, 2) := dk_16 42 (dk_at dksX1_leave_0 19 rfl rfl)
theorem dX1_leave_21 : decode cX1_leave 21 = .ok (.if_icmp .ne 15, 3) := dk_160 0 15 (dk_at dksX1_leave_0 21 rfl rfl)
theorem dX1_leave_24 : decode cX1_leave 24 = .ok (.aload_n 0, 1) := dk_42 (dk_at dksX1_leave_1 0 rfl rfl)
theorem dX1_leave_25 : decode cX1_leave 25 = .ok (.getfield 24, 3) := dk_180 0 24 (dk_at dksX1_leave_1 1 rfl rfl)
theorem dX1_leave_28 : decode cX1_leave 28 = .ok (.aload_n 0, 1) := dk_42 (dk_at dksX1_leave_1 4 rfl rfl)
theorem dX1_leave_29 : decode cX1_leave 29 = .ok (.getfield 31, 3) := dk_180 0 31 (dk_at dksX1_leave_1 5 rfl rfl)
theorem dX1_leave_32 : decode cX1_leave 32 = .ok (.iaload, 1) := dk_46 (dk_at dksX1_leave_1 8 rfl rfl)
theorem dX1_leave_33 : decode cX1_leave 33 = .ok (.ifCond .eq 33, 3) := dk_153 0 33 (dk_at dksX1_leave_1 9 rfl rfl)
theorem dX1_leave_36 : decode cX1_leave 36 = .ok (.aload_n 0, 1) := dk_42 (dk_at dksX1_leave_1 12 rfl rfl)
theorem dX1_leave_37 : decode cX1_leave 37 = .ok (.getfield 11, 3) := dk_180 0 11 (dk_at dksX1_leave_1 13 rfl rfl)
theorem dX1_leave_40 : decode cX1_leave 40 = .ok (.aload_n 0, 1) := dk_42 (dk_at dksX1_leave_1 16 rfl rfl)
theorem dX1_leave_41 : decode cX1_leave 41 = .ok (.getfield 31, 3) := dk_180 0 31 (dk_at dksX1_leave_1 17 rfl rfl)
theorem dX1_leave_44 : decode cX1_leave 44 = .ok (.aaload, 1) := dk_50 (dk_at dksX1_leave_1 20 rfl rfl)
theorem dX1_leave_45 : decode cX1_leave 45 = .ok (.getfield 57, 3) := dk_180 0 57 (dk_at dksX1_leave_1 21 rfl rfl)
theorem dX1_leave_48 : decode cX1_leave 48 = .ok (.bipush 62, 2) := dk_16 62 (dk_at dksX1_leave_2 0 rfl rfl)
theorem dX1_leave_50 : decode cX1_leave 50 = .ok (.if_icmp .ne 32, 3) := dk_160 0 32 (dk_at dksX1_leave_2 2 rfl rfl)
theorem dX1_leave_53 : decode cX1_leave 53 = .ok (.aload_n 0, 1) := dk_42 (dk_at dksX1_leave_2 5 rfl rfl)
theorem dX1_leave_54 : decode cX1_leave 54 = .ok (.getfield 24, 3) := dk_180 0 24 (dk_at dksX1_leave_2 6 rfl rfl)
theorem dX1_leave_57 : decode cX1_leave 57 = .ok (.aload_n 0, 1) := dk_42 (dk_at dksX1_leave_2 9 rfl rfl)
theorem dX1_leave_58 : decode cX1_leave 58 = .ok (.getfield 31, 3) := dk_180 0 31 (dk_at dksX1_leave_2 10 rfl rfl)
theorem dX1_leave_61 : decode cX1_leave 61 = .ok (.iaload, 1) := dk_46 (dk_at dksX1_leave_2 13 rfl rfl)
theorem dX1_leave_62 : decode cX1_leave 62 = .ok (.iconst 1, 1) := dk_4 (dk_at dksX1_leave_2 14 rfl rfl)
theorem dX1_leave_63 : decode cX1_leave 63 = .ok (.if_icmp .ne 19, 3) := dk_160 0 19 (dk_at dksX1_leave_2 15 rfl rfl)
theorem dX1_leave_66 : decode cX1_leave 66 = .ok (.aload_n 0, 1) := dk_42 (dk_at dksX1_leave_2 18 rfl rfl)
theorem dX1_leave_67 : decode cX1_leave 67 = .ok (.aload_n 0, 1) := dk_42 (dk_at dksX1_leave_2 19 rfl rfl)
theorem dX1_leave_68 : decode cX1_leave 68 = .ok (.getfield 17, 3) := dk_180 0 17 (dk_at dksX1_leave_2 20 rfl rfl)
theorem dX1_leave_71 : decode cX1_leave 71 = .ok (.aload_n 0, 1) := dk_42 (dk_at dksX1_leave_2 23 rfl rfl)
theorem dX1_leave_72 : decode cX1_leave 72 = .ok (.getfield 31, 3) := dk_180 0 31 (dk_at dksX1_leave_3 0 rfl rfl)
theorem dX1_leave_75 : decode cX1_leave 75 = .ok (.iaload, 1) := dk_46 (dk_at dksX1_leave_3 3 rfl rfl)
theorem dX1_leave_76 : decode cX1_leave 76 = .ok (.putfield 31, 3) := dk_181 0 31 (dk_at dksX1_leave_3 4 rfl rfl)
theorem dX1_leave_79 : decode cX1_leave 79 = .ok (.goto (-79), 3) := dk_167 255 177 (dk_at dksX1_leave_3 7 rfl rfl)
theorem dX1_leave_82 : decode cX1_leave 82 = .ok (.return_, 1) := dk_177 (dk_at dksX1_leave_3 10 rfl rfl)
abbrev cX1_inside : ByteArray := prog_3_method_9_code
def yX1_inside : MethodName := ⟨RX1, "inside", "(I)I"⟩
def dkwX1_inside_3 : List UInt8 := [153, 0, 21, 42, 180, 0, 21, 42, 180, 0, 31, 46, 16, 12, 162, 0, 7, 5, 167, 0, 4, 2, 172]
abbrev dktX1_inside_3 : List UInt8 := dkwX1_inside_3 ++ []
def dkwX1_inside_2 : List UInt8 := [27, 16, 97, 100, 133, 42, 180, 0, 24, 42, 180, 0, 31, 46, 133, 10, 97, 20, 0, 80, 184, 0, 82]
abbrev dktX1_inside_2 : List UInt8 := dkwX1_inside_2 ++ dktX1_inside_3
def dkwX1_inside_1 : List UInt8 := [61, 27, 28, 160, 0, 21, 42, 42, 180, 0, 17, 42, 180, 0, 31, 46, 181, 0, 31, 42, 182, 0, 65, 172]
abbrev dktX1_inside_1 : List UInt8 := dkwX1_inside_1 ++ dktX1_inside_2
def dkwX1_inside_0 : List UInt8 := [42, 180, 0, 11, 42, 180, 0, 31, 50, 180, 0, 57, 16, 123, 160, 0, 8, 16, 125, 167, 0, 5, 16, 93]
abbrev dktX1_inside_0 : List UInt8 := dkwX1_inside_0 ++ dktX1_inside_1
theorem dksX1_inside_0 : cX1_inside.data.toList.drop 0 = dktX1_inside_0 := by decide +kernel
theorem dksX1_inside_1 : cX1_inside.data.toList.drop 24 = dktX1_inside_1 := dk_seg dksX1_inside_0 24 rfl rfl
theorem dksX1_inside_2 : cX1_inside.data.toList.drop 48 = dktX1_inside_2 := dk_seg dksX1_inside_1 24 rfl rfl
theorem dksX1_inside_3 : cX1_inside.data.toList.drop 71 = dktX1_inside_3 := dk_seg dksX1_inside_2 23 rfl rfl
theorem dX1_inside_0 : decode cX1_inside 0 = .ok (.aload_n 0, 1) := dk_42 (dk_at dksX1_inside_0 0 rfl rfl)
theorem dX1_inside_1 : decode cX1_inside 1 = .ok (.getfield 11, 3) := dk_180 0 11 (dk_at dksX1_inside_0 1 rfl rfl)
theorem dX1_inside_4 : decode cX1_inside 4 = .ok (.aload_n 0, 1) := dk_42 (dk_at dksX1_inside_0 4 rfl rfl)
theorem dX1_inside_5 : decode cX1_inside 5 = .ok (.getfield 31, 3) := dk_180 0 31 (dk_at dksX1_inside_0 5 rfl rfl)
theorem dX1_inside_8 : decode cX1_inside 8 = .ok (.aaload, 1) := dk_50 (dk_at dksX1_inside_0 8 rfl rfl)
theorem dX1_inside_9 : decode cX1_inside 9 = .ok (.getfield 57, 3) := dk_180 0 57 (dk_at dksX1_inside_0 9 rfl rfl)
theorem dX1_inside_12 : decode cX1_inside 12 = .ok (.bipush 123, 2) := dk_16 123 (dk_at dksX1_inside_0 12 rfl rfl)
theorem dX1_inside_14 : decode cX1_inside 14 = .ok (.if_icmp .ne 8, 3) := dk_160 0 8 (dk_at dksX1_inside_0 14 rfl rfl)
theorem dX1_inside_17 : decode cX1_inside 17 = .ok (.bipush 125, 2) := dk_16 125 (dk_at dksX1_inside_0 17 rfl rfl)
theorem dX1_inside_19 : decode cX1_inside 19 = .ok (.goto 5, 3) := dk_167 0 5 (dk_at dksX1_inside_0 19 rfl rfl)
theorem dX1_inside_22 : decode cX1_inside 22 = .ok (.bipush 93, 2) := dk_16 93 (dk_at dksX1_inside_0 22 rfl rfl)
theorem dX1_inside_24 : decode cX1_inside 24 = .ok (.istore_n 2, 1) := dk_61 (dk_at dksX1_inside_1 0 rfl rfl)
theorem dX1_inside_25 : decode cX1_inside 25 = .ok (.iload_n 1, 1) := dk_27 (dk_at dksX1_inside_1 1 rfl rfl)
theorem dX1_inside_26 : decode cX1_inside 26 = .ok (.iload_n 2, 1) := dk_28 (dk_at dksX1_inside_1 2 rfl rfl)
theorem dX1_inside_27 : decode cX1_inside 27 = .ok (.if_icmp .ne 21, 3) := dk_160 0 21 (dk_at dksX1_inside_1 3 rfl rfl)
theorem dX1_inside_30 : decode cX1_inside 30 = .ok (.aload_n 0, 1) := dk_42 (dk_at dksX1_inside_1 6 rfl rfl)
theorem dX1_inside_31 : decode cX1_inside 31 = .ok (.aload_n 0, 1) := dk_42 (dk_at dksX1_inside_1 7 rfl rfl)
theorem dX1_inside_32 : decode cX1_inside 32 = .ok (.getfield 17, 3) := dk_180 0 17 (dk_at dksX1_inside_1 8 rfl rfl)
theorem dX1_inside_35 : decode cX1_inside 35 = .ok (.aload_n 0, 1) := dk_42 (dk_at dksX1_inside_1 11 rfl rfl)
theorem dX1_inside_36 : decode cX1_inside 36 = .ok (.getfield 31, 3) := dk_180 0 31 (dk_at dksX1_inside_1 12 rfl rfl)
theorem dX1_inside_39 : decode cX1_inside 39 = .ok (.iaload, 1) := dk_46 (dk_at dksX1_inside_1 15 rfl rfl)
theorem dX1_inside_40 : decode cX1_inside 40 = .ok (.putfield 31, 3) := dk_181 0 31 (dk_at dksX1_inside_1 16 rfl rfl)
theorem dX1_inside_43 : decode cX1_inside 43 = .ok (.aload_n 0, 1) := dk_42 (dk_at dksX1_inside_1 19 rfl rfl)
theorem dX1_inside_44 : decode cX1_inside 44 = .ok (.invokevirtual 65, 3) := dk_182 0 65 (dk_at dksX1_inside_1 20 rfl rfl)
theorem dX1_inside_47 : decode cX1_inside 47 = .ok (.ireturn, 1) := dk_172 (dk_at dksX1_inside_1 23 rfl rfl)
theorem dX1_inside_48 : decode cX1_inside 48 = .ok (.iload_n 1, 1) := dk_27 (dk_at dksX1_inside_2 0 rfl rfl)
theorem dX1_inside_49 : decode cX1_inside 49 = .ok (.bipush 97, 2) := dk_16 97 (dk_at dksX1_inside_2 1 rfl rfl)
theorem dX1_inside_51 : decode cX1_inside 51 = .ok (.isub, 1) := dk_100 (dk_at dksX1_inside_2 3 rfl rfl)
theorem dX1_inside_52 : decode cX1_inside 52 = .ok (.i2l, 1) := dk_133 (dk_at dksX1_inside_2 4 rfl rfl)
theorem dX1_inside_53 : decode cX1_inside 53 = .ok (.aload_n 0, 1) := dk_42 (dk_at dksX1_inside_2 5 rfl rfl)
theorem dX1_inside_54 : decode cX1_inside 54 = .ok (.getfield 24, 3) := dk_180 0 24 (dk_at dksX1_inside_2 6 rfl rfl)
theorem dX1_inside_57 : decode cX1_inside 57 = .ok (.aload_n 0, 1) := dk_42 (dk_at dksX1_inside_2 9 rfl rfl)
theorem dX1_inside_58 : decode cX1_inside 58 = .ok (.getfield 31, 3) := dk_180 0 31 (dk_at dksX1_inside_2 10 rfl rfl)
theorem dX1_inside_61 : decode cX1_inside 61 = .ok (.iaload, 1) := dk_46 (dk_at dksX1_inside_2 13 rfl rfl)
theorem dX1_inside_62 : decode cX1_inside 62 = .ok (.i2l, 1) := dk_133 (dk_at dksX1_inside_2 14 rfl rfl)
theorem dX1_inside_63 : decode cX1_inside 63 = .ok (.lconst 1, 1) := dk_10 (dk_at dksX1_inside_2 15 rfl rfl)
theorem dX1_inside_64 : decode cX1_inside 64 = .ok (.ladd, 1) := dk_97 (dk_at dksX1_inside_2 16 rfl rfl)
theorem dX1_inside_65 : decode cX1_inside 65 = .ok (.ldc2_w 80, 3) := dk_20 0 80 (dk_at dksX1_inside_2 17 rfl rfl)
theorem dX1_inside_68 : decode cX1_inside 68 = .ok (.invokestatic 82, 3) := dk_184 0 82 (dk_at dksX1_inside_2 20 rfl rfl)
theorem dX1_inside_71 : decode cX1_inside 71 = .ok (.ifCond .eq 21, 3) := dk_153 0 21 (dk_at dksX1_inside_3 0 rfl rfl)
theorem dX1_inside_74 : decode cX1_inside 74 = .ok (.aload_n 0, 1) := dk_42 (dk_at dksX1_inside_3 3 rfl rfl)
theorem dX1_inside_75 : decode cX1_inside 75 = .ok (.getfield 21, 3) := dk_180 0 21 (dk_at dksX1_inside_3 4 rfl rfl)
theorem dX1_inside_78 : decode cX1_inside 78 = .ok (.aload_n 0, 1) := dk_42 (dk_at dksX1_inside_3 7 rfl rfl)
theorem dX1_inside_79 : decode cX1_inside 79 = .ok (.getfield 31, 3) := dk_180 0 31 (dk_at dksX1_inside_3 8 rfl rfl)
theorem dX1_inside_82 : decode cX1_inside 82 = .ok (.iaload, 1) := dk_46 (dk_at dksX1_inside_3 11 rfl rfl)
theorem dX1_inside_83 : decode cX1_inside 83 = .ok (.bipush 12, 2) := dk_16 12 (dk_at dksX1_inside_3 12 rfl rfl)
theorem dX1_inside_85 : decode cX1_inside 85 = .ok (.if_icmp .ge 7, 3) := dk_162 0 7 (dk_at dksX1_inside_3 14 rfl rfl)
theorem dX1_inside_88 : decode cX1_inside 88 = .ok (.iconst 2, 1) := dk_5 (dk_at dksX1_inside_3 17 rfl rfl)
theorem dX1_inside_89 : decode cX1_inside 89 = .ok (.goto 4, 3) := dk_167 0 4 (dk_at dksX1_inside_3 18 rfl rfl)
theorem dX1_inside_92 : decode cX1_inside 92 = .ok (.iconst (-1), 1) := dk_2 (dk_at dksX1_inside_3 21 rfl rfl)
theorem dX1_inside_93 : decode cX1_inside 93 = .ok (.ireturn, 1) := dk_172 (dk_at dksX1_inside_3 22 rfl rfl)
abbrev cX1_isWhole : ByteArray := prog_3_method_12_code
def yX1_isWhole : MethodName := ⟨RX1, "isWhole", "()Z"⟩
def dkwX1_isWhole_2 : List UInt8 := [155, 0, 7, 4, 167, 0, 4, 3, 126, 60, 132, 2, 1, 167, 255, 203, 27, 172]
abbrev dktX1_isWhole_2 : List UInt8 := dkwX1_isWhole_2 ++ []
def dkwX1_isWhole_1 : List UInt8 := [184, 0, 35, 153, 0, 22, 42, 42, 180, 0, 11, 28, 50, 180, 0, 57, 16, 65, 100, 182, 0, 90]
abbrev dktX1_isWhole_1 : List UInt8 := dkwX1_isWhole_1 ++ dktX1_isWhole_2
def dkwX1_isWhole_0 : List UInt8 := [4, 60, 3, 61, 28, 42, 180, 0, 45, 162, 0, 51, 27, 42, 180, 0, 11, 28, 50, 180, 0, 57]
abbrev dktX1_isWhole_0 : List UInt8 := dkwX1_isWhole_0 ++ dktX1_isWhole_1
theorem dksX1_isWhole_0 : cX1_isWhole.data.toList.drop 0 = dktX1_isWhole_0 := by decide +kernel
theorem dksX1_isWhole_1 : cX1_isWhole.data.toList.drop 22 = dktX1_isWhole_1 := dk_seg dksX1_isWhole_0 22 rfl rfl
theorem dksX1_isWhole_2 : cX1_isWhole.data.toList.drop 44 = dktX1_isWhole_2 := dk_seg dksX1_isWhole_1 22 rfl rfl
theorem dX1_isWhole_0 : decode cX1_isWhole 0 = .ok (.iconst 1, 1) := dk_4 (dk_at dksX1_isWhole_0 0 rfl rfl)
theorem dX1_isWhole_1 : decode cX1_isWhole 1 = .ok (.istore_n 1, 1) := dk_60 (dk_at dksX1_isWhole_0 1 rfl rfl)
theorem dX1_isWhole_2 : decode cX1_isWhole 2 = .ok (.iconst 0, 1) := dk_3 (dk_at dksX1_isWhole_0 2 rfl rfl)
theorem dX1_isWhole_3 : decode cX1_isWhole 3 = .ok (.istore_n 2, 1) := dk_61 (dk_at dksX1_isWhole_0 3 rfl rfl)
theorem dX1_isWhole_4 : decode cX1_isWhole 4 = .ok (.iload_n 2, 1) := dk_28 (dk_at dksX1_isWhole_0 4 rfl rfl)
theorem dX1_isWhole_5 : decode cX1_isWhole 5 = .ok (.aload_n 0, 1) := dk_42 (dk_at dksX1_isWhole_0 5 rfl rfl)
theorem dX1_isWhole_6 : decode cX1_isWhole 6 = .ok (.getfield 45, 3) := dk_180 0 45 (dk_at dksX1_isWhole_0 6 rfl rfl)
theorem dX1_isWhole_9 : decode cX1_isWhole 9 = .ok (.if_icmp .ge 51, 3) := dk_162 0 51 (dk_at dksX1_isWhole_0 9 rfl rfl)
theorem dX1_isWhole_12 : decode cX1_isWhole 12 = .ok (.iload_n 1, 1) := dk_27 (dk_at dksX1_isWhole_0 12 rfl rfl)
theorem dX1_isWhole_13 : decode cX1_isWhole 13 = .ok (.aload_n 0, 1) := dk_42 (dk_at dksX1_isWhole_0 13 rfl rfl)
theorem dX1_isWhole_14 : decode cX1_isWhole 14 = .ok (.getfield 11, 3) := dk_180 0 11 (dk_at dksX1_isWhole_0 14 rfl rfl)
theorem dX1_isWhole_17 : decode cX1_isWhole 17 = .ok (.iload_n 2, 1) := dk_28 (dk_at dksX1_isWhole_0 17 rfl rfl)
theorem dX1_isWhole_18 : decode cX1_isWhole 18 = .ok (.aaload, 1) := dk_50 (dk_at dksX1_isWhole_0 18 rfl rfl)
theorem dX1_isWhole_19 : decode cX1_isWhole 19 = .ok (.getfield 57, 3) := dk_180 0 57 (dk_at dksX1_isWhole_0 19 rfl rfl)
theorem dX1_isWhole_22 : decode cX1_isWhole 22 = .ok (.invokestatic 35, 3) := dk_184 0 35 (dk_at dksX1_isWhole_1 0 rfl rfl)
theorem dX1_isWhole_25 : decode cX1_isWhole 25 = .ok (.ifCond .eq 22, 3) := dk_153 0 22 (dk_at dksX1_isWhole_1 3 rfl rfl)
theorem dX1_isWhole_28 : decode cX1_isWhole 28 = .ok (.aload_n 0, 1) := dk_42 (dk_at dksX1_isWhole_1 6 rfl rfl)
theorem dX1_isWhole_29 : decode cX1_isWhole 29 = .ok (.aload_n 0, 1) := dk_42 (dk_at dksX1_isWhole_1 7 rfl rfl)
theorem dX1_isWhole_30 : decode cX1_isWhole 30 = .ok (.getfield 11, 3) := dk_180 0 11 (dk_at dksX1_isWhole_1 8 rfl rfl)
theorem dX1_isWhole_33 : decode cX1_isWhole 33 = .ok (.iload_n 2, 1) := dk_28 (dk_at dksX1_isWhole_1 11 rfl rfl)
theorem dX1_isWhole_34 : decode cX1_isWhole 34 = .ok (.aaload, 1) := dk_50 (dk_at dksX1_isWhole_1 12 rfl rfl)
theorem dX1_isWhole_35 : decode cX1_isWhole 35 = .ok (.getfield 57, 3) := dk_180 0 57 (dk_at dksX1_isWhole_1 13 rfl rfl)
theorem dX1_isWhole_38 : decode cX1_isWhole 38 = .ok (.bipush 65, 2) := dk_16 65 (dk_at dksX1_isWhole_1 16 rfl rfl)
theorem dX1_isWhole_40 : decode cX1_isWhole 40 = .ok (.isub, 1) := dk_100 (dk_at dksX1_isWhole_1 18 rfl rfl)
theorem dX1_isWhole_41 : decode cX1_isWhole 41 = .ok (.invokevirtual 90, 3) := dk_182 0 90 (dk_at dksX1_isWhole_1 19 rfl rfl)
theorem dX1_isWhole_44 : decode cX1_isWhole 44 = .ok (.ifCond .lt 7, 3) := dk_155 0 7 (dk_at dksX1_isWhole_2 0 rfl rfl)
theorem dX1_isWhole_47 : decode cX1_isWhole 47 = .ok (.iconst 1, 1) := dk_4 (dk_at dksX1_isWhole_2 3 rfl rfl)
theorem dX1_isWhole_48 : decode cX1_isWhole 48 = .ok (.goto 4, 3) := dk_167 0 4 (dk_at dksX1_isWhole_2 4 rfl rfl)
theorem dX1_isWhole_51 : decode cX1_isWhole 51 = .ok (.iconst 0, 1) := dk_3 (dk_at dksX1_isWhole_2 7 rfl rfl)
theorem dX1_isWhole_52 : decode cX1_isWhole 52 = .ok (.iand, 1) := dk_126 (dk_at dksX1_isWhole_2 8 rfl rfl)
theorem dX1_isWhole_53 : decode cX1_isWhole 53 = .ok (.istore_n 1, 1) := dk_60 (dk_at dksX1_isWhole_2 9 rfl rfl)
theorem dX1_isWhole_54 : decode cX1_isWhole 54 = .ok (.iinc 2 1, 3) := dk_132 2 1 (dk_at dksX1_isWhole_2 10 rfl rfl)
theorem dX1_isWhole_57 : decode cX1_isWhole 57 = .ok (.goto (-53), 3) := dk_167 255 203 (dk_at dksX1_isWhole_2 13 rfl rfl)
theorem dX1_isWhole_60 : decode cX1_isWhole 60 = .ok (.iload_n 1, 1) := dk_27 (dk_at dksX1_isWhole_2 16 rfl rfl)
theorem dX1_isWhole_61 : decode cX1_isWhole 61 = .ok (.ireturn, 1) := dk_172 (dk_at dksX1_isWhole_2 17 rfl rfl)
abbrev cX1_rootOf : ByteArray := prog_3_method_11_code
def yX1_rootOf : MethodName := ⟨RX1, "rootOf", "(I)I"⟩
def dkwX1_rootOf_2 : List UInt8 := [180, 0, 11, 28, 50, 180, 0, 57, 16, 65, 100, 46, 61, 132, 3, 1, 167, 255, 205, 28, 172]
abbrev dktX1_rootOf_2 : List UInt8 := dkwX1_rootOf_2 ++ []
def dkwX1_rootOf_1 : List UInt8 := [184, 0, 35, 153, 0, 38, 29, 16, 8, 160, 0, 8, 16, 250, 167, 0, 20, 42, 180, 0, 27, 42]
abbrev dktX1_rootOf_1 : List UInt8 := dkwX1_rootOf_1 ++ dktX1_rootOf_2
def dkwX1_rootOf_0 : List UInt8 := [42, 180, 0, 27, 27, 46, 61, 3, 62, 28, 155, 0, 53, 42, 180, 0, 11, 28, 50, 180, 0, 57]
abbrev dktX1_rootOf_0 : List UInt8 := dkwX1_rootOf_0 ++ dktX1_rootOf_1
theorem dksX1_rootOf_0 : cX1_rootOf.data.toList.drop 0 = dktX1_rootOf_0 := by decide +kernel
theorem dksX1_rootOf_1 : cX1_rootOf.data.toList.drop 22 = dktX1_rootOf_1 := dk_seg dksX1_rootOf_0 22 rfl rfl
theorem dksX1_rootOf_2 : cX1_rootOf.data.toList.drop 44 = dktX1_rootOf_2 := dk_seg dksX1_rootOf_1 22 rfl rfl
theorem dX1_rootOf_0 : decode cX1_rootOf 0 = .ok (.aload_n 0, 1) := dk_42 (dk_at dksX1_rootOf_0 0 rfl rfl)
theorem dX1_rootOf_1 : decode cX1_rootOf 1 = .ok (.getfield 27, 3) := dk_180 0 27 (dk_at dksX1_rootOf_0 1 rfl rfl)
theorem dX1_rootOf_4 : decode cX1_rootOf 4 = .ok (.iload_n 1, 1) := dk_27 (dk_at dksX1_rootOf_0 4 rfl rfl)
theorem dX1_rootOf_5 : decode cX1_rootOf 5 = .ok (.iaload, 1) := dk_46 (dk_at dksX1_rootOf_0 5 rfl rfl)
theorem dX1_rootOf_6 : decode cX1_rootOf 6 = .ok (.istore_n 2, 1) := dk_61 (dk_at dksX1_rootOf_0 6 rfl rfl)
theorem dX1_rootOf_7 : decode cX1_rootOf 7 = .ok (.iconst 0, 1) := dk_3 (dk_at dksX1_rootOf_0 7 rfl rfl)
theorem dX1_rootOf_8 : decode cX1_rootOf 8 = .ok (.istore_n 3, 1) := dk_62 (dk_at dksX1_rootOf_0 8 rfl rfl)
theorem dX1_rootOf_9 : decode cX1_rootOf 9 = .ok (.iload_n 2, 1) := dk_28 (dk_at dksX1_rootOf_0 9 rfl rfl)
theorem dX1_rootOf_10 : decode cX1_rootOf 10 = .ok (.ifCond .lt 53, 3) := dk_155 0 53 (dk_at dksX1_rootOf_0 10 rfl rfl)
theorem dX1_rootOf_13 : decode cX1_rootOf 13 = .ok (.aload_n 0, 1) := dk_42 (dk_at dksX1_rootOf_0 13 rfl rfl)
theorem dX1_rootOf_14 : decode cX1_rootOf 14 = .ok (.getfield 11, 3) := dk_180 0 11 (dk_at dksX1_rootOf_0 14 rfl rfl)
theorem dX1_rootOf_17 : decode cX1_rootOf 17 = .ok (.iload_n 2, 1) := dk_28 (dk_at dksX1_rootOf_0 17 rfl rfl)
theorem dX1_rootOf_18 : decode cX1_rootOf 18 = .ok (.aaload, 1) := dk_50 (dk_at dksX1_rootOf_0 18 rfl rfl)
theorem dX1_rootOf_19 : decode cX1_rootOf 19 = .ok (.getfield 57, 3) := dk_180 0 57 (dk_at dksX1_rootOf_0 19 rfl rfl)
theorem dX1_rootOf_22 : decode cX1_rootOf 22 = .ok (.invokestatic 35, 3) := dk_184 0 35 (dk_at dksX1_rootOf_1 0 rfl rfl)
theorem dX1_rootOf_25 : decode cX1_rootOf 25 = .ok (.ifCond .eq 38, 3) := dk_153 0 38 (dk_at dksX1_rootOf_1 3 rfl rfl)
theorem dX1_rootOf_28 : decode cX1_rootOf 28 = .ok (.iload_n 3, 1) := dk_29 (dk_at dksX1_rootOf_1 6 rfl rfl)
theorem dX1_rootOf_29 : decode cX1_rootOf 29 = .ok (.bipush 8, 2) := dk_16 8 (dk_at dksX1_rootOf_1 7 rfl rfl)
theorem dX1_rootOf_31 : decode cX1_rootOf 31 = .ok (.if_icmp .ne 8, 3) := dk_160 0 8 (dk_at dksX1_rootOf_1 9 rfl rfl)
theorem dX1_rootOf_34 : decode cX1_rootOf 34 = .ok (.bipush (-6), 2) := dk_16 250 (dk_at dksX1_rootOf_1 12 rfl rfl)
theorem dX1_rootOf_36 : decode cX1_rootOf 36 = .ok (.goto 20, 3) := dk_167 0 20 (dk_at dksX1_rootOf_1 14 rfl rfl)
theorem dX1_rootOf_39 : decode cX1_rootOf 39 = .ok (.aload_n 0, 1) := dk_42 (dk_at dksX1_rootOf_1 17 rfl rfl)
theorem dX1_rootOf_40 : decode cX1_rootOf 40 = .ok (.getfield 27, 3) := dk_180 0 27 (dk_at dksX1_rootOf_1 18 rfl rfl)
theorem dX1_rootOf_43 : decode cX1_rootOf 43 = .ok (.aload_n 0, 1) := dk_42 (dk_at dksX1_rootOf_1 21 rfl rfl)
theorem dX1_rootOf_44 : decode cX1_rootOf 44 = .ok (.getfield 11, 3) := dk_180 0 11 (dk_at dksX1_rootOf_2 0 rfl rfl)
theorem dX1_rootOf_47 : decode cX1_rootOf 47 = .ok (.iload_n 2, 1) := dk_28 (dk_at dksX1_rootOf_2 3 rfl rfl)
theorem dX1_rootOf_48 : decode cX1_rootOf 48 = .ok (.aaload, 1) := dk_50 (dk_at dksX1_rootOf_2 4 rfl rfl)
theorem dX1_rootOf_49 : decode cX1_rootOf 49 = .ok (.getfield 57, 3) := dk_180 0 57 (dk_at dksX1_rootOf_2 5 rfl rfl)
theorem dX1_rootOf_52 : decode cX1_rootOf 52 = .ok (.bipush 65, 2) := dk_16 65 (dk_at dksX1_rootOf_2 8 rfl rfl)
theorem dX1_rootOf_54 : decode cX1_rootOf 54 = .ok (.isub, 1) := dk_100 (dk_at dksX1_rootOf_2 10 rfl rfl)
theorem dX1_rootOf_55 : decode cX1_rootOf 55 = .ok (.iaload, 1) := dk_46 (dk_at dksX1_rootOf_2 11 rfl rfl)
theorem dX1_rootOf_56 : decode cX1_rootOf 56 = .ok (.istore_n 2, 1) := dk_61 (dk_at dksX1_rootOf_2 12 rfl rfl)
theorem dX1_rootOf_57 : decode cX1_rootOf 57 = .ok (.iinc 3 1, 3) := dk_132 3 1 (dk_at dksX1_rootOf_2 13 rfl rfl)
theorem dX1_rootOf_60 : decode cX1_rootOf 60 = .ok (.goto (-51), 3) := dk_167 255 205 (dk_at dksX1_rootOf_2 16 rfl rfl)
theorem dX1_rootOf_63 : decode cX1_rootOf 63 = .ok (.iload_n 2, 1) := dk_28 (dk_at dksX1_rootOf_2 19 rfl rfl)
theorem dX1_rootOf_64 : decode cX1_rootOf 64 = .ok (.ireturn, 1) := dk_172 (dk_at dksX1_rootOf_2 20 rfl rfl)
abbrev cX1_own : ByteArray := prog_3_method_13_code
def yX1_own : MethodName := ⟨RX1, "own", "()I"⟩
def dkwX1_own_1 : List UInt8 := [184, 0, 35, 153, 0, 7, 3, 167, 0, 4, 4, 96, 60, 132, 2, 1, 167, 255, 222, 27, 172]
abbrev dktX1_own_1 : List UInt8 := dkwX1_own_1 ++ []
def dkwX1_own_0 : List UInt8 := [3, 60, 3, 61, 28, 42, 180, 0, 45, 162, 0, 32, 27, 42, 180, 0, 11, 28, 50, 180, 0, 57]
abbrev dktX1_own_0 : List UInt8 := dkwX1_own_0 ++ dktX1_own_1
theorem dksX1_own_0 : cX1_own.data.toList.drop 0 = dktX1_own_0 := by decide +kernel
theorem dksX1_own_1 : cX1_own.data.toList.drop 22 = dktX1_own_1 := dk_seg dksX1_own_0 22 rfl rfl
theorem dX1_own_0 : decode cX1_own 0 = .ok (.iconst 0, 1) := dk_3 (dk_at dksX1_own_0 0 rfl rfl)
theorem dX1_own_1 : decode cX1_own 1 = .ok (.istore_n 1, 1) := dk_60 (dk_at dksX1_own_0 1 rfl rfl)
theorem dX1_own_2 : decode cX1_own 2 = .ok (.iconst 0, 1) := dk_3 (dk_at dksX1_own_0 2 rfl rfl)
theorem dX1_own_3 : decode cX1_own 3 = .ok (.istore_n 2, 1) := dk_61 (dk_at dksX1_own_0 3 rfl rfl)
theorem dX1_own_4 : decode cX1_own 4 = .ok (.iload_n 2, 1) := dk_28 (dk_at dksX1_own_0 4 rfl rfl)
theorem dX1_own_5 : decode cX1_own 5 = .ok (.aload_n 0, 1) := dk_42 (dk_at dksX1_own_0 5 rfl rfl)
theorem dX1_own_6 : decode cX1_own 6 = .ok (.getfield 45, 3) := dk_180 0 45 (dk_at dksX1_own_0 6 rfl rfl)
theorem dX1_own_9 : decode cX1_own 9 = .ok (.if_icmp .ge 32, 3) := dk_162 0 32 (dk_at dksX1_own_0 9 rfl rfl)
theorem dX1_own_12 : decode cX1_own 12 = .ok (.iload_n 1, 1) := dk_27 (dk_at dksX1_own_0 12 rfl rfl)
theorem dX1_own_13 : decode cX1_own 13 = .ok (.aload_n 0, 1) := dk_42 (dk_at dksX1_own_0 13 rfl rfl)
theorem dX1_own_14 : decode cX1_own 14 = .ok (.getfield 11, 3) := dk_180 0 11 (dk_at dksX1_own_0 14 rfl rfl)
theorem dX1_own_17 : decode cX1_own 17 = .ok (.iload_n 2, 1) := dk_28 (dk_at dksX1_own_0 17 rfl rfl)
theorem dX1_own_18 : decode cX1_own 18 = .ok (.aaload, 1) := dk_50 (dk_at dksX1_own_0 18 rfl rfl)
theorem dX1_own_19 : decode cX1_own 19 = .ok (.getfield 57, 3) := dk_180 0 57 (dk_at dksX1_own_0 19 rfl rfl)
theorem dX1_own_22 : decode cX1_own 22 = .ok (.invokestatic 35, 3) := dk_184 0 35 (dk_at dksX1_own_1 0 rfl rfl)
theorem dX1_own_25 : decode cX1_own 25 = .ok (.ifCond .eq 7, 3) := dk_153 0 7 (dk_at dksX1_own_1 3 rfl rfl)
theorem dX1_own_28 : decode cX1_own 28 = .ok (.iconst 0, 1) := dk_3 (dk_at dksX1_own_1 6 rfl rfl)
theorem dX1_own_29 : decode cX1_own 29 = .ok (.goto 4, 3) := dk_167 0 4 (dk_at dksX1_own_1 7 rfl rfl)
theorem dX1_own_32 : decode cX1_own 32 = .ok (.iconst 1, 1) := dk_4 (dk_at dksX1_own_1 10 rfl rfl)
theorem dX1_own_33 : decode cX1_own 33 = .ok (.iadd, 1) := dk_96 (dk_at dksX1_own_1 11 rfl rfl)
theorem dX1_own_34 : decode cX1_own 34 = .ok (.istore_n 1, 1) := dk_60 (dk_at dksX1_own_1 12 rfl rfl)
theorem dX1_own_35 : decode cX1_own 35 = .ok (.iinc 2 1, 3) := dk_132 2 1 (dk_at dksX1_own_1 13 rfl rfl)
theorem dX1_own_38 : decode cX1_own 38 = .ok (.goto (-34), 3) := dk_167 255 222 (dk_at dksX1_own_1 16 rfl rfl)
theorem dX1_own_41 : decode cX1_own 41 = .ok (.iload_n 1, 1) := dk_27 (dk_at dksX1_own_1 19 rfl rfl)
theorem dX1_own_42 : decode cX1_own 42 = .ok (.ireturn, 1) := dk_172 (dk_at dksX1_own_1 20 rfl rfl)
theorem q57 : (Jvm.Cond.initialized "KindNets$Reader") ∈ lw_all := lw_g (lw_at lw_m1 2 rfl) rfl
theorem q73 : (Jvm.Cond.instantiable "KindNets$Reader" (8 : Nat)) ∈ lw_all := lw_g (lw_at lw_m1 18 rfl) rfl
theorem q75 : (Jvm.Cond.instanceMethod ({ cls := "KindNets$Reader", name := "<init>", desc := "()V" } : Jvm.MethodName)) ∈ lw_all := lw_g (lw_at lw_m1 20 rfl) rfl
theorem q76 : (Jvm.Cond.code ({ cls := "KindNets$Reader", name := "<init>", desc := "()V" } : Jvm.MethodName) prog_3_method_1_code (2 : Nat) (Option.none : Option Jvm.ClassFile.FieldType)) ∈ lw_all := lw_g (lw_at lw_m1 21 rfl) rfl
theorem q77 : (Jvm.Cond.methodLink "KindNets$Reader" (3 : Nat) ({ cls := "java/lang/Object", name := "<init>", desc := "()V" } : Jvm.MethodName)) ∈ lw_all := lw_g (lw_at lw_m1 22 rfl) rfl
theorem q78 : (Jvm.Cond.classLink "KindNets$Reader" (9 : Nat) "KindNets$Kind") ∈ lw_all := lw_g (lw_at lw_m1 23 rfl) rfl
theorem q80 : (Jvm.Cond.methodLinkNest "KindNets$Reader" (30 : Nat) ({ cls := "KindNets$Kind", name := "<init>", desc := "()V" } : Jvm.MethodName) "KindNets") ∈ lw_tbl := lw_at lw_m1 25 rfl
theorem q85 : (Jvm.Cond.fieldLinkNest "KindNets$Reader" (57 : Nat) "KindNets$Kind" "sign" "C" "KindNets") ∈ lw_tbl := lw_at lw_m1 30 rfl
theorem q88 : (Jvm.Cond.fieldLinkNest "KindNets$Reader" (54 : Nat) "KindNets$Kind" "part" "[I" "KindNets") ∈ lw_tbl := lw_at lw_m1 33 rfl
theorem q97 : (Jvm.Cond.fieldLink "KindNets$Reader" (11 : Nat) "KindNets$Reader" "read" "[LKindNets$Kind;") ∈ lw_all := lw_g (lw_at lw_m1 42 rfl) rfl
theorem q99 : (Jvm.Cond.fieldLink "KindNets$Reader" (17 : Nat) "KindNets$Reader" "up" "[I") ∈ lw_all := lw_g (lw_at lw_m1 44 rfl) rfl
theorem q100 : (Jvm.Cond.fieldLink "KindNets$Reader" (21 : Nat) "KindNets$Reader" "depth" "[I") ∈ lw_all := lw_g (lw_at lw_m1 45 rfl) rfl
theorem q101 : (Jvm.Cond.fieldLink "KindNets$Reader" (24 : Nat) "KindNets$Reader" "last" "[I") ∈ lw_all := lw_g (lw_at lw_m1 46 rfl) rfl
theorem q102 : (Jvm.Cond.fieldLink "KindNets$Reader" (27 : Nat) "KindNets$Reader" "root" "[I") ∈ lw_all := lw_g (lw_at lw_m1 47 rfl) rfl
theorem q104 : (Jvm.Cond.fieldLink "KindNets$Reader" (45 : Nat) "KindNets$Reader" "many" "I") ∈ lw_all := lw_g (lw_at lw_m1 49 rfl) rfl
theorem q106 : (Jvm.Cond.fieldLink "KindNets$Reader" (31 : Nat) "KindNets$Reader" "open" "I") ∈ lw_all := lw_g (lw_at lw_m1 51 rfl) rfl
theorem q107 : (Jvm.Cond.fieldLink "KindNets$Reader" (51 : Nat) "KindNets$Reader" "name" "I") ∈ lw_all := lw_g (lw_at lw_m1 52 rfl) rfl
theorem q108 : (Jvm.Cond.laysFinal "KindNets$Reader" "KindNets$Reader" "read" "[LKindNets$Kind;") ∈ lw_all := lw_g (lw_at lw_m1 53 rfl) rfl
theorem q109 : (Jvm.Cond.soleField "KindNets$Reader" "read") ∈ lw_all := lw_g (lw_at lw_m1 54 rfl) rfl
theorem q110 : (Jvm.Cond.laysFinal "KindNets$Reader" "KindNets$Reader" "up" "[I") ∈ lw_all := lw_g (lw_at lw_m1 55 rfl) rfl
theorem q111 : (Jvm.Cond.soleField "KindNets$Reader" "up") ∈ lw_all := lw_g (lw_at lw_m1 56 rfl) rfl
theorem q112 : (Jvm.Cond.laysFinal "KindNets$Reader" "KindNets$Reader" "depth" "[I") ∈ lw_all := lw_g (lw_at lw_m1 57 rfl) rfl
theorem q113 : (Jvm.Cond.soleField "KindNets$Reader" "depth") ∈ lw_all := lw_g (lw_at lw_m1 58 rfl) rfl
theorem q114 : (Jvm.Cond.laysFinal "KindNets$Reader" "KindNets$Reader" "last" "[I") ∈ lw_all := lw_g (lw_at lw_m1 59 rfl) rfl
theorem q115 : (Jvm.Cond.soleField "KindNets$Reader" "last") ∈ lw_all := lw_g (lw_at lw_m1 60 rfl) rfl
theorem q116 : (Jvm.Cond.laysFinal "KindNets$Reader" "KindNets$Reader" "root" "[I") ∈ lw_all := lw_g (lw_at lw_m1 61 rfl) rfl
theorem q117 : (Jvm.Cond.soleField "KindNets$Reader" "root") ∈ lw_all := lw_g (lw_at lw_m1 62 rfl) rfl
theorem q118 : (Jvm.Cond.lays "KindNets$Reader" "KindNets$Reader" "many" "I") ∈ lw_all := lw_g (lw_at lw_m1 63 rfl) rfl
theorem q119 : (Jvm.Cond.soleField "KindNets$Reader" "many") ∈ lw_all := lw_g (lw_at lw_m1 64 rfl) rfl
theorem q120 : (Jvm.Cond.lays "KindNets$Reader" "KindNets$Reader" "open" "I") ∈ lw_all := lw_g (lw_at lw_m1 65 rfl) rfl
theorem q121 : (Jvm.Cond.soleField "KindNets$Reader" "open") ∈ lw_all := lw_g (lw_at lw_m1 66 rfl) rfl
theorem q122 : (Jvm.Cond.lays "KindNets$Reader" "KindNets$Reader" "name" "I") ∈ lw_all := lw_g (lw_at lw_m1 67 rfl) rfl
theorem q123 : (Jvm.Cond.soleField "KindNets$Reader" "name") ∈ lw_all := lw_g (lw_at lw_m1 68 rfl) rfl
theorem q124 : (Jvm.Cond.superclass "KindNets$Reader" "java/lang/Object") ∈ lw_all := lw_g (lw_at lw_m1 69 rfl) rfl
theorem q235 : (Jvm.Cond.instanceMethod ({ cls := "KindNets$Reader", name := "fault", desc := "([CI)I" } : Jvm.MethodName)) ∈ lw_all := lw_g (lw_at lw_m1 180 rfl) rfl
theorem q236 : (Jvm.Cond.selects "KindNets$Reader" ({ cls := "KindNets$Reader", name := "fault", desc := "([CI)I" } : Jvm.MethodName) ({ cls := "KindNets$Reader", name := "fault", desc := "([CI)I" } : Jvm.MethodName)) ∈ lw_all := lw_g (lw_at lw_m1 181 rfl) rfl
theorem q237 : (Jvm.Cond.code ({ cls := "KindNets$Reader", name := "fault", desc := "([CI)I" } : Jvm.MethodName) prog_3_method_10_code (6 : Nat) (Option.some Jvm.ClassFile.FieldType.int)) ∈ lw_all := lw_g (lw_at lw_m1 182 rfl) rfl
theorem q238 : (Jvm.Cond.methodLink "KindNets$Reader" (76 : Nat) ({ cls := "KindNets$Kind", name := "isNamed", desc := "()Z" } : Jvm.MethodName)) ∈ lw_all := lw_g (lw_at lw_m1 183 rfl) rfl
theorem q242 : (Jvm.Cond.methodLink "KindNets$Reader" (86 : Nat) ({ cls := "KindNets$Reader", name := "next", desc := "(III)I" } : Jvm.MethodName)) ∈ lw_all := lw_g (lw_at lw_m1 187 rfl) rfl
theorem q243 : (Jvm.Cond.privateMethod ({ cls := "KindNets$Reader", name := "next", desc := "(III)I" } : Jvm.MethodName)) ∈ lw_tbl := lw_at lw_m1 188 rfl
theorem q244 : (Jvm.Cond.instanceMethod ({ cls := "KindNets$Reader", name := "next", desc := "(III)I" } : Jvm.MethodName)) ∈ lw_all := lw_g (lw_at lw_m1 189 rfl) rfl
theorem q245 : (Jvm.Cond.code ({ cls := "KindNets$Reader", name := "next", desc := "(III)I" } : Jvm.MethodName) prog_3_method_7_code (4 : Nat) (Option.some Jvm.ClassFile.FieldType.int)) ∈ lw_all := lw_g (lw_at lw_m1 190 rfl) rfl
theorem q246 : (Jvm.Cond.methodLink "KindNets$Reader" (35 : Nat) ({ cls := "KindNets$Reader", name := "isName", desc := "(I)Z" } : Jvm.MethodName)) ∈ lw_all := lw_g (lw_at lw_m1 191 rfl) rfl
theorem q247 : (Jvm.Cond.static ({ cls := "KindNets$Reader", name := "isName", desc := "(I)Z" } : Jvm.MethodName)) ∈ lw_all := lw_g (lw_at lw_m1 192 rfl) rfl
theorem q248 : (Jvm.Cond.code ({ cls := "KindNets$Reader", name := "isName", desc := "(I)Z" } : Jvm.MethodName) prog_3_method_2_code (1 : Nat) (Option.some Jvm.ClassFile.FieldType.boolean)) ∈ lw_all := lw_g (lw_at lw_m1 193 rfl) rfl
theorem q249 : (Jvm.Cond.methodLink "KindNets$Reader" (61 : Nat) ({ cls := "KindNets$Reader", name := "begin", desc := "(II)Z" } : Jvm.MethodName)) ∈ lw_all := lw_g (lw_at lw_m1 194 rfl) rfl
theorem q250 : (Jvm.Cond.privateMethod ({ cls := "KindNets$Reader", name := "begin", desc := "(II)Z" } : Jvm.MethodName)) ∈ lw_tbl := lw_at lw_m1 195 rfl
theorem q251 : (Jvm.Cond.instanceMethod ({ cls := "KindNets$Reader", name := "begin", desc := "(II)Z" } : Jvm.MethodName)) ∈ lw_all := lw_g (lw_at lw_m1 196 rfl) rfl
theorem q252 : (Jvm.Cond.code ({ cls := "KindNets$Reader", name := "begin", desc := "(II)Z" } : Jvm.MethodName) prog_3_method_5_code (5 : Nat) (Option.some Jvm.ClassFile.FieldType.boolean)) ∈ lw_all := lw_g (lw_at lw_m1 197 rfl) rfl
theorem q253 : (Jvm.Cond.methodLink "KindNets$Reader" (39 : Nat) ({ cls := "KindNets$Reader", name := "isPlain", desc := "(I)Z" } : Jvm.MethodName)) ∈ lw_all := lw_g (lw_at lw_m1 198 rfl) rfl
theorem q254 : (Jvm.Cond.static ({ cls := "KindNets$Reader", name := "isPlain", desc := "(I)Z" } : Jvm.MethodName)) ∈ lw_all := lw_g (lw_at lw_m1 199 rfl) rfl
theorem q255 : (Jvm.Cond.code ({ cls := "KindNets$Reader", name := "isPlain", desc := "(I)Z" } : Jvm.MethodName) prog_3_method_3_code (1 : Nat) (Option.some Jvm.ClassFile.FieldType.boolean)) ∈ lw_all := lw_g (lw_at lw_m1 200 rfl) rfl
theorem q256 : (Jvm.Cond.methodLink "KindNets$Reader" (42 : Nat) ({ cls := "KindNets$Reader", name := "isNest", desc := "(I)Z" } : Jvm.MethodName)) ∈ lw_all := lw_g (lw_at lw_m1 201 rfl) rfl
theorem q257 : (Jvm.Cond.static ({ cls := "KindNets$Reader", name := "isNest", desc := "(I)Z" } : Jvm.MethodName)) ∈ lw_all := lw_g (lw_at lw_m1 202 rfl) rfl
theorem q258 : (Jvm.Cond.code ({ cls := "KindNets$Reader", name := "isNest", desc := "(I)Z" } : Jvm.MethodName) prog_3_method_4_code (1 : Nat) (Option.some Jvm.ClassFile.FieldType.boolean)) ∈ lw_all := lw_g (lw_at lw_m1 203 rfl) rfl
theorem q259 : (Jvm.Cond.methodLink "KindNets$Reader" (48 : Nat) ({ cls := "KindNets$Kind", name := "open", desc := "(I)V" } : Jvm.MethodName)) ∈ lw_all := lw_g (lw_at lw_m1 204 rfl) rfl
theorem q263 : (Jvm.Cond.methodLink "KindNets$Reader" (65 : Nat) ({ cls := "KindNets$Reader", name := "behind", desc := "()I" } : Jvm.MethodName)) ∈ lw_all := lw_g (lw_at lw_m1 208 rfl) rfl
theorem q264 : (Jvm.Cond.privateMethod ({ cls := "KindNets$Reader", name := "behind", desc := "()I" } : Jvm.MethodName)) ∈ lw_tbl := lw_at lw_m1 209 rfl
theorem q265 : (Jvm.Cond.instanceMethod ({ cls := "KindNets$Reader", name := "behind", desc := "()I" } : Jvm.MethodName)) ∈ lw_all := lw_g (lw_at lw_m1 210 rfl) rfl
theorem q266 : (Jvm.Cond.code ({ cls := "KindNets$Reader", name := "behind", desc := "()I" } : Jvm.MethodName) prog_3_method_8_code (1 : Nat) (Option.some Jvm.ClassFile.FieldType.int)) ∈ lw_all := lw_g (lw_at lw_m1 211 rfl) rfl
theorem q267 : (Jvm.Cond.methodLink "KindNets$Reader" (73 : Nat) ({ cls := "KindNets$Reader", name := "leave", desc := "()V" } : Jvm.MethodName)) ∈ lw_all := lw_g (lw_at lw_m1 212 rfl) rfl
theorem q268 : (Jvm.Cond.privateMethod ({ cls := "KindNets$Reader", name := "leave", desc := "()V" } : Jvm.MethodName)) ∈ lw_tbl := lw_at lw_m1 213 rfl
theorem q269 : (Jvm.Cond.instanceMethod ({ cls := "KindNets$Reader", name := "leave", desc := "()V" } : Jvm.MethodName)) ∈ lw_all := lw_g (lw_at lw_m1 214 rfl) rfl
theorem q270 : (Jvm.Cond.code ({ cls := "KindNets$Reader", name := "leave", desc := "()V" } : Jvm.MethodName) prog_3_method_6_code (1 : Nat) (Option.none : Option Jvm.ClassFile.FieldType)) ∈ lw_all := lw_g (lw_at lw_m1 215 rfl) rfl
theorem q271 : (Jvm.Cond.methodLink "KindNets$Reader" (69 : Nat) ({ cls := "KindNets$Reader", name := "inside", desc := "(I)I" } : Jvm.MethodName)) ∈ lw_all := lw_g (lw_at lw_m1 216 rfl) rfl
theorem q272 : (Jvm.Cond.privateMethod ({ cls := "KindNets$Reader", name := "inside", desc := "(I)I" } : Jvm.MethodName)) ∈ lw_tbl := lw_at lw_m1 217 rfl
theorem q273 : (Jvm.Cond.instanceMethod ({ cls := "KindNets$Reader", name := "inside", desc := "(I)I" } : Jvm.MethodName)) ∈ lw_all := lw_g (lw_at lw_m1 218 rfl) rfl
theorem q274 : (Jvm.Cond.code ({ cls := "KindNets$Reader", name := "inside", desc := "(I)I" } : Jvm.MethodName) prog_3_method_9_code (3 : Nat) (Option.some Jvm.ClassFile.FieldType.int)) ∈ lw_all := lw_g (lw_at lw_m1 219 rfl) rfl
theorem q275 : (Jvm.Cond.constantLong "KindNets$Reader" (80 : Nat) (7 : Int64)) ∈ lw_all := lw_g (lw_at lw_m1 220 rfl) rfl
theorem q276 : (Jvm.Cond.methodLinkNest "KindNets$Reader" (82 : Nat) ({ cls := "KindNets", name := "isIn", desc := "(JJJ)Z" } : Jvm.MethodName) "KindNets") ∈ lw_tbl := lw_at lw_m1 221 rfl
theorem q283 : (Jvm.Cond.instanceMethod ({ cls := "KindNets$Reader", name := "isWhole", desc := "()Z" } : Jvm.MethodName)) ∈ lw_all := lw_g (lw_at lw_m1 228 rfl) rfl
theorem q284 : (Jvm.Cond.selects "KindNets$Reader" ({ cls := "KindNets$Reader", name := "isWhole", desc := "()Z" } : Jvm.MethodName) ({ cls := "KindNets$Reader", name := "isWhole", desc := "()Z" } : Jvm.MethodName)) ∈ lw_all := lw_g (lw_at lw_m1 229 rfl) rfl
theorem q285 : (Jvm.Cond.code ({ cls := "KindNets$Reader", name := "isWhole", desc := "()Z" } : Jvm.MethodName) prog_3_method_12_code (3 : Nat) (Option.some Jvm.ClassFile.FieldType.boolean)) ∈ lw_all := lw_g (lw_at lw_m1 230 rfl) rfl
theorem q286 : (Jvm.Cond.methodLink "KindNets$Reader" (90 : Nat) ({ cls := "KindNets$Reader", name := "rootOf", desc := "(I)I" } : Jvm.MethodName)) ∈ lw_all := lw_g (lw_at lw_m1 231 rfl) rfl
theorem q287 : (Jvm.Cond.instanceMethod ({ cls := "KindNets$Reader", name := "rootOf", desc := "(I)I" } : Jvm.MethodName)) ∈ lw_all := lw_g (lw_at lw_m1 232 rfl) rfl
theorem q288 : (Jvm.Cond.selects "KindNets$Reader" ({ cls := "KindNets$Reader", name := "rootOf", desc := "(I)I" } : Jvm.MethodName) ({ cls := "KindNets$Reader", name := "rootOf", desc := "(I)I" } : Jvm.MethodName)) ∈ lw_all := lw_g (lw_at lw_m1 233 rfl) rfl
theorem q289 : (Jvm.Cond.code ({ cls := "KindNets$Reader", name := "rootOf", desc := "(I)I" } : Jvm.MethodName) prog_3_method_11_code (4 : Nat) (Option.some Jvm.ClassFile.FieldType.int)) ∈ lw_all := lw_g (lw_at lw_m1 234 rfl) rfl
theorem q291 : (Jvm.Cond.instanceMethod ({ cls := "KindNets$Reader", name := "own", desc := "()I" } : Jvm.MethodName)) ∈ lw_all := lw_g (lw_at lw_m1 236 rfl) rfl
theorem q292 : (Jvm.Cond.selects "KindNets$Reader" ({ cls := "KindNets$Reader", name := "own", desc := "()I" } : Jvm.MethodName) ({ cls := "KindNets$Reader", name := "own", desc := "()I" } : Jvm.MethodName)) ∈ lw_all := lw_g (lw_at lw_m1 237 rfl) rfl
theorem q293 : (Jvm.Cond.code ({ cls := "KindNets$Reader", name := "own", desc := "()I" } : Jvm.MethodName) prog_3_method_13_code (3 : Nat) (Option.some Jvm.ClassFile.FieldType.int)) ∈ lw_all := lw_g (lw_at lw_m1 238 rfl) rfl
theorem in_X1 : ∀ w ∈ wsX10, w ∈ lw_all := lw_in wsX10 [108, 110, 112, 114, 116, 118, 120, 122] (by decide +kernel) (by decide +kernel)
