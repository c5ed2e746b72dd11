/-! KindNets$Values -/
set_option maxRecDepth 100000
def RX3 : String := "KindNets$Values"
def TX3 : u_T := fun k => match k with
  | 0 => ("KindNets$Values", "at", "[I", true)
  | 1 => ("KindNets$Values", "up", "[I", true)
  | 2 => ("KindNets$Values", "letter", "[I", true)
  | 3 => ("KindNets$Values", "last", "[I", true)
  | 4 => ("KindNets$Values", "many", "I", false)
  | _ => ("KindNets$Values", "open", "I", false)
def tyX3 : Nat → FieldType := fun k => match k with
  | 0 => .array .int
  | 1 => .array .int
  | 2 => .array .int
  | 3 => .array .int
  | 4 => .int
  | _ => .int
abbrev wsX30 : List Cond := u_ws RX3 TX3 6
theorem nmX3 : ∀ a, a < 6 → ∀ b, b < 6 → a ≠ b → (TX3 a).2.1 ≠ (TX3 b).2.1 := by decide +kernel
theorem tyX3_ok : ∀ k, k < 6 → parseFieldDescriptor (TX3 k).2.2.1 = some (tyX3 k) := by decide +kernel
abbrev cX3_init : ByteArray := prog_4_method_1_code
def yX3_init : MethodName := ⟨RX3, "<init>", "()V"⟩
def dkwX3_init_1 : List UInt8 := [188, 10, 181, 0, 18, 42, 16, 100, 188, 10, 181, 0, 21, 177]
abbrev dktX3_init_1 : List UInt8 := dkwX3_init_1 ++ []
def dkwX3_init_0 : List UInt8 := [42, 183, 0, 3, 42, 16, 100, 188, 10, 181, 0, 9, 42, 16, 100, 188, 10, 181, 0, 15, 42, 16, 100]
abbrev dktX3_init_0 : List UInt8 := dkwX3_init_0 ++ dktX3_init_1
theorem dksX3_init_0 : cX3_init.data.toList.drop 0 = dktX3_init_0 := by decide +kernel
theorem dksX3_init_1 : cX3_init.data.toList.drop 23 = dktX3_init_1 := dk_seg dksX3_init_0 23 rfl rfl
theorem dX3_init_0 : decode cX3_init 0 = .ok (.aload_n 0, 1) := dk_42 (dk_at dksX3_init_0 0 rfl rfl)
theorem dX3_init_1 : decode cX3_init 1 = .ok (.invokespecial 3, 3) := dk_183 0 3 (dk_at dksX3_init_0 1 rfl rfl)
theorem dX3_init_4 : decode cX3_init 4 = .ok (.aload_n 0, 1) := dk_42 (dk_at dksX3_init_0 4 rfl rfl)
theorem dX3_init_5 : decode cX3_init 5 = .ok (.bipush 100, 2) := dk_16 100 (dk_at dksX3_init_0 5 rfl rfl)
theorem dX3_init_7 : decode cX3_init 7 = .ok (.newarray .int, 2) := dk_188_10 (dk_at dksX3_init_0 7 rfl rfl)
theorem dX3_init_9 : decode cX3_init 9 = .ok (.putfield 9, 3) := dk_181 0 9 (dk_at dksX3_init_0 9 rfl rfl)
theorem dX3_init_12 : decode cX3_init 12 = .ok (.aload_n 0, 1) := dk_42 (dk_at dksX3_init_0 12 rfl rfl)
theorem dX3_init_13 : decode cX3_init 13 = .ok (.bipush 100, 2) := dk_16 100 (dk_at dksX3_init_0 13 rfl rfl)
theorem dX3_init_15 : decode cX3_init 15 = .ok (.newarray .int, 2) := dk_188_10 (dk_at dksX3_init_0 15 rfl rfl)
theorem dX3_init_17 : decode cX3_init 17 = .ok (.putfield 15, 3) := dk_181 0 15 (dk_at dksX3_init_0 17 rfl rfl)
theorem dX3_init_20 : decode cX3_init 20 = .ok (.aload_n 0, 1) := dk_42 (dk_at dksX3_init_0 20 rfl rfl)
theorem dX3_init_21 : decode cX3_init 21 = .ok (.bipush 100, 2) := dk_16 100 (dk_at dksX3_init_0 21 rfl rfl)
theorem dX3_init_23 : decode cX3_init 23 = .ok (.newarray .int, 2) := dk_188_10 (dk_at dksX3_init_1 0 rfl rfl)
theorem dX3_init_25 : decode cX3_init 25 = .ok (.putfield 18, 3) := dk_181 0 18 (dk_at dksX3_init_1 2 rfl rfl)
theorem dX3_init_28 : decode cX3_init 28 = .ok (.aload_n 0, 1) := dk_42 (dk_at dksX3_init_1 5 rfl rfl)
theorem dX3_init_29 : decode cX3_init 29 = .ok (.bipush 100, 2) := dk_16 100 (dk_at dksX3_init_1 6 rfl rfl)
theorem dX3_init_31 : decode cX3_init 31 = .ok (.newarray .int, 2) := dk_188_10 (dk_at dksX3_init_1 8 rfl rfl)
theorem dX3_init_33 : decode cX3_init 33 = .ok (.putfield 21, 3) := dk_181 0 21 (dk_at dksX3_init_1 10 rfl rfl)
theorem dX3_init_36 : decode cX3_init 36 = .ok (.return_, 1) := dk_177 (dk_at dksX3_init_1 13 rfl rfl)
abbrev cX3_fault : ByteArray := prog_4_method_10_code
def yX3_fault : MethodName := ⟨RX3, "fault", "([CI)I"⟩
def dkwX3_fault_2 : List UInt8 := [160, 0, 8, 16, 250, 167, 0, 4, 28, 172]
abbrev dktX3_fault_2 : List UInt8 := dkwX3_fault_2 ++ []
def dkwX3_fault_1 : List UInt8 := [21, 4, 182, 0, 58, 62, 29, 156, 0, 6, 21, 4, 172, 132, 4, 1, 167, 255, 231, 29, 16, 6]
abbrev dktX3_fault_1 : List UInt8 := dkwX3_fault_1 ++ dktX3_fault_2
def dkwX3_fault_0 : List UInt8 := [42, 3, 181, 0, 28, 42, 2, 181, 0, 24, 3, 62, 3, 54, 4, 21, 4, 28, 162, 0, 25, 42, 29, 43]
abbrev dktX3_fault_0 : List UInt8 := dkwX3_fault_0 ++ dktX3_fault_1
theorem dksX3_fault_0 : cX3_fault.data.toList.drop 0 = dktX3_fault_0 := by decide +kernel
theorem dksX3_fault_1 : cX3_fault.data.toList.drop 24 = dktX3_fault_1 := dk_seg dksX3_fault_0 24 rfl rfl
theorem dksX3_fault_2 : cX3_fault.data.toList.drop 46 = dktX3_fault_2 := dk_seg dksX3_fault_1 22 rfl rfl
theorem dX3_fault_0 : decode cX3_fault 0 = .ok (.aload_n 0, 1) := dk_42 (dk_at dksX3_fault_0 0 rfl rfl)
theorem dX3_fault_1 : decode cX3_fault 1 = .ok (.iconst 0, 1) := dk_3 (dk_at dksX3_fault_0 1 rfl rfl)
theorem dX3_fault_2 : decode cX3_fault 2 = .ok (.putfield 28, 3) := dk_181 0 28 (dk_at dksX3_fault_0 2 rfl rfl)
theorem dX3_fault_5 : decode cX3_fault 5 = .ok (.aload_n 0, 1) := dk_42 (dk_at dksX3_fault_0 5 rfl rfl)
theorem dX3_fault_6 : decode cX3_fault 6 = .ok (.iconst (-1), 1) := dk_2 (dk_at dksX3_fault_0 6 rfl rfl)
theorem dX3_fault_7 : decode cX3_fault 7 = .ok (.putfield 24, 3) := dk_181 0 24 (dk_at dksX3_fault_0 7 rfl rfl)
theorem dX3_fault_10 : decode cX3_fault 10 = .ok (.iconst 0, 1) := dk_3 (dk_at dksX3_fault_0 10 rfl rfl)
theorem dX3_fault_11 : decode cX3_fault 11 = .ok (.istore_n 3, 1) := dk_62 (dk_at dksX3_fault_0 11 rfl rfl)
theorem dX3_fault_12 : decode cX3_fault 12 = .ok (.iconst 0, 1) := dk_3 (dk_at dksX3_fault_0 12 rfl rfl)
theorem dX3_fault_13 : decode cX3_fault 13 = .ok (.istore 4, 2) := dk_54 4 (dk_at dksX3_fault_0 13 rfl rfl)
theorem dX3_fault_15 : decode cX3_fault 15 = .ok (.iload 4, 2) := dk_21 4 (dk_at dksX3_fault_0 15 rfl rfl)
theorem dX3_fault_17 : decode cX3_fault 17 = .ok (.iload_n 2, 1) := dk_28 (dk_at dksX3_fault_0 17 rfl rfl)
theorem dX3_fault_18 : decode cX3_fault 18 = .ok (.if_icmp .ge 25, 3) := dk_162 0 25 (dk_at dksX3_fault_0 18 rfl rfl)
theorem dX3_fault_21 : decode cX3_fault 21 = .ok (.aload_n 0, 1) := dk_42 (dk_at dksX3_fault_0 21 rfl rfl)
theorem dX3_fault_22 : decode cX3_fault 22 = .ok (.iload_n 3, 1) := dk_29 (dk_at dksX3_fault_0 22 rfl rfl)
theorem dX3_fault_23 : decode cX3_fault 23 = .ok (.aload_n 1, 1) := dk_43 (dk_at dksX3_fault_0 23 rfl rfl)
theorem dX3_fault_24 : decode cX3_fault 24 = .ok (.iload 4, 2) := dk_21 4 (dk_at dksX3_fault_1 0 rfl rfl)
theorem dX3_fault_26 : decode cX3_fault 26 = .ok (.invokevirtual 58, 3) := dk_182 0 58 (dk_at dksX3_fault_1 2 rfl rfl)
theorem dX3_fault_29 : decode cX3_fault 29 = .ok (.istore_n 3, 1) := dk_62 (dk_at dksX3_fault_1 5 rfl rfl)
theorem dX3_fault_30 : decode cX3_fault 30 = .ok (.iload_n 3, 1) := dk_29 (dk_at dksX3_fault_1 6 rfl rfl)
theorem dX3_fault_31 : decode cX3_fault 31 = .ok (.ifCond .ge 6, 3) := dk_156 0 6 (dk_at dksX3_fault_1 7 rfl rfl)
theorem dX3_fault_34 : decode cX3_fault 34 = .ok (.iload 4, 2) := dk_21 4 (dk_at dksX3_fault_1 10 rfl rfl)
theorem dX3_fault_36 : decode cX3_fault 36 = .ok (.ireturn, 1) := dk_172 (dk_at dksX3_fault_1 12 rfl rfl)
theorem dX3_fault_37 : decode cX3_fault 37 = .ok (.iinc 4 1, 3) := dk_132 4 1 (dk_at dksX3_fault_1 13 rfl rfl)
theorem dX3_fault_40 : decode cX3_fault 40 = .ok (.goto (-25), 3) := dk_167 255 231 (dk_at dksX3_fault_1 16 rfl rfl)
theorem dX3_fault_43 : decode cX3_fault 43 = .ok (.iload_n 3, 1) := dk_29 (dk_at dksX3_fault_1 19 rfl rfl)
theorem dX3_fault_44 : decode cX3_fault 44 = .ok (.bipush 6, 2) := dk_16 6 (dk_at dksX3_fault_1 20 rfl rfl)
theorem dX3_fault_46 : decode cX3_fault 46 = .ok (.if_icmp .ne 8, 3) := dk_160 0 8 (dk_at dksX3_fault_2 0 rfl rfl)
theorem dX3_fault_49 : decode cX3_fault 49 = .ok (.bipush (-6), 2) := dk_16 250 (dk_at dksX3_fault_2 3 rfl rfl)
theorem dX3_fault_51 : decode cX3_fault 51 = .ok (.goto 4, 3) := dk_167 0 4 (dk_at dksX3_fault_2 5 rfl rfl)
theorem dX3_fault_54 : decode cX3_fault 54 = .ok (.iload_n 2, 1) := dk_28 (dk_at dksX3_fault_2 8 rfl rfl)
theorem dX3_fault_55 : decode cX3_fault 55 = .ok (.ireturn, 1) := dk_172 (dk_at dksX3_fault_2 9 rfl rfl)
abbrev cX3_next : ByteArray := prog_4_method_8_code
def yX3_next : MethodName := ⟨RX3, "next", "(I[CI)I"⟩
def dkwX3_next_9 : List UInt8 := [182, 0, 51, 167, 0, 10, 42, 44, 29, 2, 182, 0, 47, 172, 2, 172]
abbrev dktX3_next_9 : List UInt8 := dkwX3_next_9 ++ []
def dkwX3_next_8 : List UInt8 := [16, 93, 160, 0, 11, 42, 44, 182, 0, 51, 167, 0, 4, 2, 172, 21, 4, 16, 41, 160, 0, 11, 42, 44]
abbrev dktX3_next_8 : List UInt8 := dkwX3_next_8 ++ dktX3_next_9
def dkwX3_next_7 : List UInt8 := [167, 0, 4, 2, 172, 21, 5, 153, 0, 12, 42, 21, 4, 182, 0, 54, 167, 0, 4, 2, 172, 21, 4]
abbrev dktX3_next_7 : List UInt8 := dkwX3_next_7 ++ dktX3_next_8
def dkwX3_next_6 : List UInt8 := [21, 4, 16, 97, 100, 42, 180, 0, 21, 42, 180, 0, 24, 46, 164, 0, 12, 42, 21, 4, 182, 0, 54]
abbrev dktX3_next_6 : List UInt8 := dkwX3_next_6 ++ dktX3_next_7
def dkwX3_next_5 : List UInt8 := [167, 0, 4, 2, 172, 21, 4, 16, 125, 160, 0, 9, 42, 44, 182, 0, 51, 172, 21, 5, 153, 0, 29]
abbrev dktX3_next_5 : List UInt8 := dkwX3_next_5 ++ dktX3_next_6
def dkwX3_next_4 : List UInt8 := [182, 0, 47, 172, 21, 4, 16, 97, 161, 0, 18, 21, 4, 16, 122, 163, 0, 11, 42, 44, 182, 0, 43]
abbrev dktX3_next_4 : List UInt8 := dkwX3_next_4 ++ dktX3_next_5
def dkwX3_next_3 : List UInt8 := [42, 44, 29, 42, 180, 0, 24, 155, 0, 15, 42, 180, 0, 21, 42, 180, 0, 24, 46, 167, 0, 4, 2]
abbrev dktX3_next_3 : List UInt8 := dkwX3_next_3 ++ dktX3_next_4
def dkwX3_next_2 : List UInt8 := [170, 0, 0, 0, 190, 0, 0, 0, 0, 0, 0, 0, 5, 0, 0, 0, 37, 0, 0, 0, 64, 0, 0, 0, 88, 0, 0, 0, 134, 0, 0, 0, 150, 0, 0, 0, 167]
abbrev dktX3_next_2 : List UInt8 := dkwX3_next_2 ++ dktX3_next_3
def dkwX3_next_1 : List UInt8 := [54, 5, 27]
abbrev dktX3_next_1 : List UInt8 := dkwX3_next_1 ++ dktX3_next_2
def dkwX3_next_0 : List UInt8 := [44, 29, 52, 54, 4, 21, 4, 16, 97, 161, 0, 14, 21, 4, 16, 105, 162, 0, 7, 4, 167, 0, 4, 3]
abbrev dktX3_next_0 : List UInt8 := dkwX3_next_0 ++ dktX3_next_1
theorem dksX3_next_0 : cX3_next.data.toList.drop 0 = dktX3_next_0 := by decide +kernel
theorem dksX3_next_1 : cX3_next.data.toList.drop 24 = dktX3_next_1 := dk_seg dksX3_next_0 24 rfl rfl
theorem dksX3_next_2 : cX3_next.data.toList.drop 27 = dktX3_next_2 := dk_seg dksX3_next_1 3 rfl rfl
theorem dksX3_next_3 : cX3_next.data.toList.drop 64 = dktX3_next_3 := dk_seg dksX3_next_2 37 rfl rfl
theorem dksX3_next_4 : cX3_next.data.toList.drop 87 = dktX3_next_4 := dk_seg dksX3_next_3 23 rfl rfl
theorem dksX3_next_5 : cX3_next.data.toList.drop 110 = dktX3_next_5 := dk_seg dksX3_next_4 23 rfl rfl
theorem dksX3_next_6 : cX3_next.data.toList.drop 133 = dktX3_next_6 := dk_seg dksX3_next_5 23 rfl rfl
theorem dksX3_next_7 : cX3_next.data.toList.drop 156 = dktX3_next_7 := dk_seg dksX3_next_6 23 rfl rfl
theorem dksX3_next_8 : cX3_next.data.toList.drop 179 = dktX3_next_8 := dk_seg dksX3_next_7 23 rfl rfl
theorem dksX3_next_9 : cX3_next.data.toList.drop 203 = dktX3_next_9 := dk_seg dksX3_next_8 24 rfl rfl
theorem dX3_next_0 : decode cX3_next 0 = .ok (.aload_n 2, 1) := dk_44 (dk_at dksX3_next_0 0 rfl rfl)
theorem dX3_next_1 : decode cX3_next 1 = .ok (.iload_n 3, 1) := dk_29 (dk_at dksX3_next_0 1 rfl rfl)
theorem dX3_next_2 : decode cX3_next 2 = .ok (.caload, 1) := dk_52 (dk_at dksX3_next_0 2 rfl rfl)
theorem dX3_next_3 : decode cX3_next 3 = .ok (.istore 4, 2) := dk_54 4 (dk_at dksX3_next_0 3 rfl rfl)
theorem dX3_next_5 : decode cX3_next 5 = .ok (.iload 4, 2) := dk_21 4 (dk_at dksX3_next_0 5 rfl rfl)
theorem dX3_next_7 : decode cX3_next 7 = .ok (.bipush 97, 2) := dk_16 97 (dk_at dksX3_next_0 7 rfl rfl)
theorem dX3_next_9 : decode cX3_next 9 = .ok (.if_icmp .lt 14, 3) := dk_161 0 14 (dk_at dksX3_next_0 9 rfl rfl)
theorem dX3_next_12 : decode cX3_next 12 = .ok (.iload 4, 2) := dk_21 4 (dk_at dksX3_next_0 12 rfl rfl)
theorem dX3_next_14 : decode cX3_next 14 = .ok (.bipush 105, 2) := dk_16 105 (dk_at dksX3_next_0 14 rfl rfl)
theorem dX3_next_16 : decode cX3_next 16 = .ok (.if_icmp .ge 7, 3) := dk_162 0 7 (dk_at dksX3_next_0 16 rfl rfl)
theorem dX3_next_19 : decode cX3_next 19 = .ok (.iconst 1, 1) := dk_4 (dk_at dksX3_next_0 19 rfl rfl)
theorem dX3_next_20 : decode cX3_next 20 = .ok (.goto 4, 3) := dk_167 0 4 (dk_at dksX3_next_0 20 rfl rfl)
theorem dX3_next_23 : decode cX3_next 23 = .ok (.iconst 0, 1) := dk_3 (dk_at dksX3_next_0 23 rfl rfl)
theorem dX3_next_24 : decode cX3_next 24 = .ok (.istore 5, 2) := dk_54 5 (dk_at dksX3_next_1 0 rfl rfl)
theorem dX3_next_26 : decode cX3_next 26 = .ok (.iload_n 1, 1) := dk_27 (dk_at dksX3_next_1 2 rfl rfl)
theorem dX3_next_27 : decode cX3_next 27 = .ok (.tableswitch 190 0 5 #[37, 64, 88, 134, 150, 167], 37) := by decide +kernel
theorem dX3_next_64 : decode cX3_next 64 = .ok (.aload_n 0, 1) := dk_42 (dk_at dksX3_next_3 0 rfl rfl)
theorem dX3_next_65 : decode cX3_next 65 = .ok (.aload_n 2, 1) := dk_44 (dk_at dksX3_next_3 1 rfl rfl)
theorem dX3_next_66 : decode cX3_next 66 = .ok (.iload_n 3, 1) := dk_29 (dk_at dksX3_next_3 2 rfl rfl)
theorem dX3_next_67 : decode cX3_next 67 = .ok (.aload_n 0, 1) := dk_42 (dk_at dksX3_next_3 3 rfl rfl)
theorem dX3_next_68 : decode cX3_next 68 = .ok (.getfield 24, 3) := dk_180 0 24 (dk_at dksX3_next_3 4 rfl rfl)
theorem dX3_next_71 : decode cX3_next 71 = .ok (.ifCond .lt 15, 3) := dk_155 0 15 (dk_at dksX3_next_3 7 rfl rfl)
theorem dX3_next_74 : decode cX3_next 74 = .ok (.aload_n 0, 1) := dk_42 (dk_at dksX3_next_3 10 rfl rfl)
theorem dX3_next_75 : decode cX3_next 75 = .ok (.getfield 21, 3) := dk_180 0 21 (dk_at dksX3_next_3 11 rfl rfl)
theorem dX3_next_78 : decode cX3_next 78 = .ok (.aload_n 0, 1) := dk_42 (dk_at dksX3_next_3 14 rfl rfl)
theorem dX3_next_79 : decode cX3_next 79 = .ok (.getfield 24, 3) := dk_180 0 24 (dk_at dksX3_next_3 15 rfl rfl)
theorem dX3_next_82 : decode cX3_next 82 = .ok (.iaload, 1) := dk_46 (dk_at dksX3_next_3 18 rfl rfl)
theorem dX3_next_83 : decode cX3_next 83 = .ok (.goto 4, 3) := dk_167 0 4 (dk_at dksX3_next_3 19 rfl rfl)
theorem dX3_next_86 : decode cX3_next 86 = .ok (.iconst (-1), 1) := dk_2 (dk_at dksX3_next_3 22 rfl rfl)
theorem dX3_next_87 : decode cX3_next 87 = .ok (.invokevirtual 47, 3) := dk_182 0 47 (dk_at dksX3_next_4 0 rfl rfl)
theorem dX3_next_90 : decode cX3_next 90 = .ok (.ireturn, 1) := dk_172 (dk_at dksX3_next_4 3 rfl rfl)
theorem dX3_next_91 : decode cX3_next 91 = .ok (.iload 4, 2) := dk_21 4 (dk_at dksX3_next_4 4 rfl rfl)
theorem dX3_next_93 : decode cX3_next 93 = .ok (.bipush 97, 2) := dk_16 97 (dk_at dksX3_next_4 6 rfl rfl)
theorem dX3_next_95 : decode cX3_next 95 = .ok (.if_icmp .lt 18, 3) := dk_161 0 18 (dk_at dksX3_next_4 8 rfl rfl)
theorem dX3_next_98 : decode cX3_next 98 = .ok (.iload 4, 2) := dk_21 4 (dk_at dksX3_next_4 11 rfl rfl)
theorem dX3_next_100 : decode cX3_next 100 = .ok (.bipush 122, 2) := dk_16 122 (dk_at dksX3_next_4 13 rfl rfl)
theorem dX3_next_102 : decode cX3_next 102 = .ok (.if_icmp .gt 11, 3) := dk_163 0 11 (dk_at dksX3_next_4 15 rfl rfl)
theorem dX3_next_105 : decode cX3_next 105 = .ok (.aload_n 0, 1) := dk_42 (dk_at dksX3_next_4 18 rfl rfl)
theorem dX3_next_106 : decode cX3_next 106 = .ok (.aload_n 2, 1) := dk_44 (dk_at dksX3_next_4 19 rfl rfl)
theorem dX3_next_107 : decode cX3_next 107 = .ok (.invokevirtual 43, 3) := dk_182 0 43 (dk_at dksX3_next_4 20 rfl rfl)
theorem dX3_next_110 : decode cX3_next 110 = .ok (.goto 4, 3) := dk_167 0 4 (dk_at dksX3_next_5 0 rfl rfl)
theorem dX3_next_113 : decode cX3_next 113 = .ok (.iconst (-1), 1) := dk_2 (dk_at dksX3_next_5 3 rfl rfl)
theorem dX3_next_114 : decode cX3_next 114 = .ok (.ireturn, 1) := dk_172 (dk_at dksX3_next_5 4 rfl rfl)
theorem dX3_next_115 : decode cX3_next 115 = .ok (.iload 4, 2) := dk_21 4 (dk_at dksX3_next_5 5 rfl rfl)
theorem dX3_next_117 : decode cX3_next 117 = .ok (.bipush 125, 2) := dk_16 125 (dk_at dksX3_next_5 7 rfl rfl)
theorem dX3_next_119 : decode cX3_next 119 = .ok (.if_icmp .ne 9, 3) := dk_160 0 9 (dk_at dksX3_next_5 9 rfl rfl)
theorem dX3_next_122 : decode cX3_next 122 = .ok (.aload_n 0, 1) := dk_42 (dk_at dksX3_next_5 12 rfl rfl)
theorem dX3_next_123 : decode cX3_next 123 = .ok (.aload_n 2, 1) := dk_44 (dk_at dksX3_next_5 13 rfl rfl)
theorem dX3_next_124 : decode cX3_next 124 = .ok (.invokevirtual 51, 3) := dk_182 0 51 (dk_at dksX3_next_5 14 rfl rfl)
theorem dX3_next_127 : decode cX3_next 127 = .ok (.ireturn, 1) := dk_172 (dk_at dksX3_next_5 17 rfl rfl)
theorem dX3_next_128 : decode cX3_next 128 = .ok (.iload 5, 2) := dk_21 5 (dk_at dksX3_next_5 18 rfl rfl)
theorem dX3_next_130 : decode cX3_next 130 = .ok (.ifCond .eq 29, 3) := dk_153 0 29 (dk_at dksX3_next_5 20 rfl rfl)
theorem dX3_next_133 : decode cX3_next 133 = .ok (.iload 4, 2) := dk_21 4 (dk_at dksX3_next_6 0 rfl rfl)
theorem dX3_next_135 : decode cX3_next 135 = .ok (.bipush 97, 2) := dk_16 97 (dk_at dksX3_next_6 2 rfl rfl)
theorem dX3_next_137 : decode cX3_next 137 = .ok (.isub, 1) := dk_100 (dk_at dksX3_next_6 4 rfl rfl)
theorem dX3_next_138 : decode cX3_next 138 = .ok (.aload_n 0, 1) := dk_42 (dk_at dksX3_next_6 5 rfl rfl)
theorem dX3_next_139 : decode cX3_next 139 = .ok (.getfield 21, 3) := dk_180 0 21 (dk_at dksX3_next_6 6 rfl rfl)
theorem dX3_next_142 : decode cX3_next 142 = .ok (.aload_n 0, 1) := dk_42 (dk_at dksX3_next_6 9 rfl rfl)
theorem dX3_next_143 : decode cX3_next 143 = .ok (.getfield 24, 3) := dk_180 0 24 (dk_at dksX3_next_6 10 rfl rfl)
theorem dX3_next_146 : decode cX3_next 146 = .ok (.iaload, 1) := dk_46 (dk_at dksX3_next_6 13 rfl rfl)
theorem dX3_next_147 : decode cX3_next 147 = .ok (.if_icmp .le 12, 3) := dk_164 0 12 (dk_at dksX3_next_6 14 rfl rfl)
theorem dX3_next_150 : decode cX3_next 150 = .ok (.aload_n 0, 1) := dk_42 (dk_at dksX3_next_6 17 rfl rfl)
theorem dX3_next_151 : decode cX3_next 151 = .ok (.iload 4, 2) := dk_21 4 (dk_at dksX3_next_6 18 rfl rfl)
theorem dX3_next_153 : decode cX3_next 153 = .ok (.invokevirtual 54, 3) := dk_182 0 54 (dk_at dksX3_next_6 20 rfl rfl)
theorem dX3_next_156 : decode cX3_next 156 = .ok (.goto 4, 3) := dk_167 0 4 (dk_at dksX3_next_7 0 rfl rfl)
theorem dX3_next_159 : decode cX3_next 159 = .ok (.iconst (-1), 1) := dk_2 (dk_at dksX3_next_7 3 rfl rfl)
theorem dX3_next_160 : decode cX3_next 160 = .ok (.ireturn, 1) := dk_172 (dk_at dksX3_next_7 4 rfl rfl)
theorem dX3_next_161 : decode cX3_next 161 = .ok (.iload 5, 2) := dk_21 5 (dk_at dksX3_next_7 5 rfl rfl)
theorem dX3_next_163 : decode cX3_next 163 = .ok (.ifCond .eq 12, 3) := dk_153 0 12 (dk_at dksX3_next_7 7 rfl rfl)
theorem dX3_next_166 : decode cX3_next 166 = .ok (.aload_n 0, 1) := dk_42 (dk_at dksX3_next_7 10 rfl rfl)
theorem dX3_next_167 : decode cX3_next 167 = .ok (.iload 4, 2) := dk_21 4 (dk_at dksX3_next_7 11 rfl rfl)
theorem dX3_next_169 : decode cX3_next 169 = .ok (.invokevirtual 54, 3) := dk_182 0 54 (dk_at dksX3_next_7 13 rfl rfl)
theorem dX3_next_172 : decode cX3_next 172 = .ok (.goto 4, 3) := dk_167 0 4 (dk_at dksX3_next_7 16 rfl rfl)
theorem dX3_next_175 : decode cX3_next 175 = .ok (.iconst (-1), 1) := dk_2 (dk_at dksX3_next_7 19 rfl rfl)
theorem dX3_next_176 : decode cX3_next 176 = .ok (.ireturn, 1) := dk_172 (dk_at dksX3_next_7 20 rfl rfl)
theorem dX3_next_177 : decode cX3_next 177 = .ok (.iload 4, 2) := dk_21 4 (dk_at dksX3_next_7 21 rfl rfl)
theorem dX3_next_179 : decode cX3_next 179 = .ok (.bipush 93, 2) := dk_16 93 (dk_at dksX3_next_8 0 rfl rfl)
theorem dX3_next_181 : decode cX3_next 181 = .ok (.if_icmp .ne 11, 3) := dk_160 0 11 (dk_at dksX3_next_8 2 rfl rfl)
theorem dX3_next_184 : decode cX3_next 184 = .ok (.aload_n 0, 1) := dk_42 (dk_at dksX3_next_8 5 rfl rfl)
theorem dX3_next_185 : decode cX3_next 185 = .ok (.aload_n 2, 1) := dk_44 (dk_at dksX3_next_8 6 rfl rfl)
theorem dX3_next_186 : decode cX3_next 186 = .ok (.invokevirtual 51, 3) := dk_182 0 51 (dk_at dksX3_next_8 7 rfl rfl)
theorem dX3_next_189 : decode cX3_next 189 = .ok (.goto 4, 3) := dk_167 0 4 (dk_at dksX3_next_8 10 rfl rfl)
theorem dX3_next_192 : decode cX3_next 192 = .ok (.iconst (-1), 1) := dk_2 (dk_at dksX3_next_8 13 rfl rfl)
theorem dX3_next_193 : decode cX3_next 193 = .ok (.ireturn, 1) := dk_172 (dk_at dksX3_next_8 14 rfl rfl)
theorem dX3_next_194 : decode cX3_next 194 = .ok (.iload 4, 2) := dk_21 4 (dk_at dksX3_next_8 15 rfl rfl)
theorem dX3_next_196 : decode cX3_next 196 = .ok (.bipush 41, 2) := dk_16 41 (dk_at dksX3_next_8 17 rfl rfl)
theorem dX3_next_198 : decode cX3_next 198 = .ok (.if_icmp .ne 11, 3) := dk_160 0 11 (dk_at dksX3_next_8 19 rfl rfl)
theorem dX3_next_201 : decode cX3_next 201 = .ok (.aload_n 0, 1) := dk_42 (dk_at dksX3_next_8 22 rfl rfl)
theorem dX3_next_202 : decode cX3_next 202 = .ok (.aload_n 2, 1) := dk_44 (dk_at dksX3_next_8 23 rfl rfl)
theorem dX3_next_203 : decode cX3_next 203 = .ok (.invokevirtual 51, 3) := dk_182 0 51 (dk_at dksX3_next_9 0 rfl rfl)
theorem dX3_next_206 : decode cX3_next 206 = .ok (.goto 10, 3) := dk_167 0 10 (dk_at dksX3_next_9 3 rfl rfl)
theorem dX3_next_209 : decode cX3_next 209 = .ok (.aload_n 0, 1) := dk_42 (dk_at dksX3_next_9 6 rfl rfl)
theorem dX3_next_210 : decode cX3_next 210 = .ok (.aload_n 2, 1) := dk_44 (dk_at dksX3_next_9 7 rfl rfl)
theorem dX3_next_211 : decode cX3_next 211 = .ok (.iload_n 3, 1) := dk_29 (dk_at dksX3_next_9 8 rfl rfl)
theorem dX3_next_212 : decode cX3_next 212 = .ok (.iconst (-1), 1) := dk_2 (dk_at dksX3_next_9 9 rfl rfl)
theorem dX3_next_213 : decode cX3_next 213 = .ok (.invokevirtual 47, 3) := dk_182 0 47 (dk_at dksX3_next_9 10 rfl rfl)
theorem dX3_next_216 : decode cX3_next 216 = .ok (.ireturn, 1) := dk_172 (dk_at dksX3_next_9 13 rfl rfl)
theorem dX3_next_217 : decode cX3_next 217 = .ok (.iconst (-1), 1) := dk_2 (dk_at dksX3_next_9 14 rfl rfl)
theorem dX3_next_218 : decode cX3_next 218 = .ok (.ireturn, 1) := dk_172 (dk_at dksX3_next_9 15 rfl rfl)
abbrev cX3_value : ByteArray := prog_4_method_6_code
def yX3_value : MethodName := ⟨RX3, "value", "([CII)I"⟩
def dkwX3_value_3 : List UInt8 := [167, 0, 8, 42, 43, 182, 0, 43, 172]
abbrev dktX3_value_3 : List UInt8 := dkwX3_value_3 ++ []
def dkwX3_value_2 : List UInt8 := [182, 0, 39, 21, 4, 16, 36, 160, 0, 7, 4, 167, 0, 19, 21, 4, 16, 91, 160, 0, 7, 6]
abbrev dktX3_value_2 : List UInt8 := dkwX3_value_2 ++ dktX3_value_3
def dkwX3_value_1 : List UInt8 := [159, 0, 19, 21, 4, 16, 91, 159, 0, 12, 21, 4, 16, 40, 159, 0, 5, 2, 172, 42, 28, 21, 4, 29]
abbrev dktX3_value_1 : List UInt8 := dkwX3_value_1 ++ dktX3_value_2
def dkwX3_value_0 : List UInt8 := [43, 28, 52, 54, 4, 21, 4, 184, 0, 35, 154, 0, 33, 21, 4, 16, 36, 159, 0, 26, 21, 4, 16, 123]
abbrev dktX3_value_0 : List UInt8 := dkwX3_value_0 ++ dktX3_value_1
theorem dksX3_value_0 : cX3_value.data.toList.drop 0 = dktX3_value_0 := by decide +kernel
theorem dksX3_value_1 : cX3_value.data.toList.drop 24 = dktX3_value_1 := dk_seg dksX3_value_0 24 rfl rfl
theorem dksX3_value_2 : cX3_value.data.toList.drop 48 = dktX3_value_2 := dk_seg dksX3_value_1 24 rfl rfl
theorem dksX3_value_3 : cX3_value.data.toList.drop 70 = dktX3_value_3 := dk_seg dksX3_value_2 22 rfl rfl
theorem dX3_value_0 : decode cX3_value 0 = .ok (.aload_n 1, 1) := dk_43 (dk_at dksX3_value_0 0 rfl rfl)
theorem dX3_value_1 : decode cX3_value 1 = .ok (.iload_n 2, 1) := dk_28 (dk_at dksX3_value_0 1 rfl rfl)
theorem dX3_value_2 : decode cX3_value 2 = .ok (.caload, 1) := dk_52 (dk_at dksX3_value_0 2 rfl rfl)
theorem dX3_value_3 : decode cX3_value 3 = .ok (.istore 4, 2) := dk_54 4 (dk_at dksX3_value_0 3 rfl rfl)
theorem dX3_value_5 : decode cX3_value 5 = .ok (.iload 4, 2) := dk_21 4 (dk_at dksX3_value_0 5 rfl rfl)
theorem dX3_value_7 : decode cX3_value 7 = .ok (.invokestatic 35, 3) := dk_184 0 35 (dk_at dksX3_value_0 7 rfl rfl)
theorem dX3_value_10 : decode cX3_value 10 = .ok (.ifCond .ne 33, 3) := dk_154 0 33 (dk_at dksX3_value_0 10 rfl rfl)
theorem dX3_value_13 : decode cX3_value 13 = .ok (.iload 4, 2) := dk_21 4 (dk_at dksX3_value_0 13 rfl rfl)
theorem dX3_value_15 : decode cX3_value 15 = .ok (.bipush 36, 2) := dk_16 36 (dk_at dksX3_value_0 15 rfl rfl)
theorem dX3_value_17 : decode cX3_value 17 = .ok (.if_icmp .eq 26, 3) := dk_159 0 26 (dk_at dksX3_value_0 17 rfl rfl)
theorem dX3_value_20 : decode cX3_value 20 = .ok (.iload 4, 2) := dk_21 4 (dk_at dksX3_value_0 20 rfl rfl)
theorem dX3_value_22 : decode cX3_value 22 = .ok (.bipush 123, 2) := dk_16 123 (dk_at dksX3_value_0 22 rfl rfl)
theorem dX3_value_24 : decode cX3_value 24 = .ok (.if_icmp .eq 19, 3) := dk_159 0 19 (dk_at dksX3_value_1 0 rfl rfl)
theorem dX3_value_27 : decode cX3_value 27 = .ok (.iload 4, 2) := dk_21 4 (dk_at dksX3_value_1 3 rfl rfl)
theorem dX3_value_29 : decode cX3_value 29 = .ok (.bipush 91, 2) := dk_16 91 (dk_at dksX3_value_1 5 rfl rfl)
theorem dX3_value_31 : decode cX3_value 31 = .ok (.if_icmp .eq 12, 3) := dk_159 0 12 (dk_at dksX3_value_1 7 rfl rfl)
theorem dX3_value_34 : decode cX3_value 34 = .ok (.iload 4, 2) := dk_21 4 (dk_at dksX3_value_1 10 rfl rfl)
theorem dX3_value_36 : decode cX3_value 36 = .ok (.bipush 40, 2) := dk_16 40 (dk_at dksX3_value_1 12 rfl rfl)
theorem dX3_value_38 : decode cX3_value 38 = .ok (.if_icmp .eq 5, 3) := dk_159 0 5 (dk_at dksX3_value_1 14 rfl rfl)
theorem dX3_value_41 : decode cX3_value 41 = .ok (.iconst (-1), 1) := dk_2 (dk_at dksX3_value_1 17 rfl rfl)
theorem dX3_value_42 : decode cX3_value 42 = .ok (.ireturn, 1) := dk_172 (dk_at dksX3_value_1 18 rfl rfl)
theorem dX3_value_43 : decode cX3_value 43 = .ok (.aload_n 0, 1) := dk_42 (dk_at dksX3_value_1 19 rfl rfl)
theorem dX3_value_44 : decode cX3_value 44 = .ok (.iload_n 2, 1) := dk_28 (dk_at dksX3_value_1 20 rfl rfl)
theorem dX3_value_45 : decode cX3_value 45 = .ok (.iload 4, 2) := dk_21 4 (dk_at dksX3_value_1 21 rfl rfl)
theorem dX3_value_47 : decode cX3_value 47 = .ok (.iload_n 3, 1) := dk_29 (dk_at dksX3_value_1 23 rfl rfl)
theorem dX3_value_48 : decode cX3_value 48 = .ok (.invokevirtual 39, 3) := dk_182 0 39 (dk_at dksX3_value_2 0 rfl rfl)
theorem dX3_value_51 : decode cX3_value 51 = .ok (.iload 4, 2) := dk_21 4 (dk_at dksX3_value_2 3 rfl rfl)
theorem dX3_value_53 : decode cX3_value 53 = .ok (.bipush 36, 2) := dk_16 36 (dk_at dksX3_value_2 5 rfl rfl)
theorem dX3_value_55 : decode cX3_value 55 = .ok (.if_icmp .ne 7, 3) := dk_160 0 7 (dk_at dksX3_value_2 7 rfl rfl)
theorem dX3_value_58 : decode cX3_value 58 = .ok (.iconst 1, 1) := dk_4 (dk_at dksX3_value_2 10 rfl rfl)
theorem dX3_value_59 : decode cX3_value 59 = .ok (.goto 19, 3) := dk_167 0 19 (dk_at dksX3_value_2 11 rfl rfl)
theorem dX3_value_62 : decode cX3_value 62 = .ok (.iload 4, 2) := dk_21 4 (dk_at dksX3_value_2 14 rfl rfl)
theorem dX3_value_64 : decode cX3_value 64 = .ok (.bipush 91, 2) := dk_16 91 (dk_at dksX3_value_2 16 rfl rfl)
theorem dX3_value_66 : decode cX3_value 66 = .ok (.if_icmp .ne 7, 3) := dk_160 0 7 (dk_at dksX3_value_2 18 rfl rfl)
theorem dX3_value_69 : decode cX3_value 69 = .ok (.iconst 3, 1) := dk_6 (dk_at dksX3_value_2 21 rfl rfl)
theorem dX3_value_70 : decode cX3_value 70 = .ok (.goto 8, 3) := dk_167 0 8 (dk_at dksX3_value_3 0 rfl rfl)
theorem dX3_value_73 : decode cX3_value 73 = .ok (.aload_n 0, 1) := dk_42 (dk_at dksX3_value_3 3 rfl rfl)
theorem dX3_value_74 : decode cX3_value 74 = .ok (.aload_n 1, 1) := dk_43 (dk_at dksX3_value_3 4 rfl rfl)
theorem dX3_value_75 : decode cX3_value 75 = .ok (.invokevirtual 43, 3) := dk_182 0 43 (dk_at dksX3_value_3 5 rfl rfl)
theorem dX3_value_78 : decode cX3_value 78 = .ok (.ireturn, 1) := dk_172 (dk_at dksX3_value_3 8 rfl rfl)
abbrev cX3_isWhole : ByteArray := prog_4_method_3_code
def yX3_isWhole : MethodName := ⟨RX3, "isWhole", "(I)Z"⟩
def dkwX3_isWhole_1 : List UInt8 := [4, 167, 0, 4, 3, 172]
abbrev dktX3_isWhole_1 : List UInt8 := dkwX3_isWhole_1 ++ []
def dkwX3_isWhole_0 : List UInt8 := [26, 16, 48, 161, 0, 9, 26, 16, 57, 164, 0, 15, 26, 16, 84, 159, 0, 9, 26, 16, 70, 160, 0, 7]
abbrev dktX3_isWhole_0 : List UInt8 := dkwX3_isWhole_0 ++ dktX3_isWhole_1
theorem dksX3_isWhole_0 : cX3_isWhole.data.toList.drop 0 = dktX3_isWhole_0 := by decide +kernel
theorem dksX3_isWhole_1 : cX3_isWhole.data.toList.drop 24 = dktX3_isWhole_1 := dk_seg dksX3_isWhole_0 24 rfl rfl
theorem dX3_isWhole_0 : decode cX3_isWhole 0 = .ok (.iload_n 0, 1) := dk_26 (dk_at dksX3_isWhole_0 0 rfl rfl)
theorem dX3_isWhole_1 : decode cX3_isWhole 1 = .ok (.bipush 48, 2) := dk_16 48 (dk_at dksX3_isWhole_0 1 rfl rfl)
theorem dX3_isWhole_3 : decode cX3_isWhole 3 = .ok (.if_icmp .lt 9, 3) := dk_161 0 9 (dk_at dksX3_isWhole_0 3 rfl rfl)
theorem dX3_isWhole_6 : decode cX3_isWhole 6 = .ok (.iload_n 0, 1) := dk_26 (dk_at dksX3_isWhole_0 6 rfl rfl)
theorem dX3_isWhole_7 : decode cX3_isWhole 7 = .ok (.bipush 57, 2) := dk_16 57 (dk_at dksX3_isWhole_0 7 rfl rfl)
theorem dX3_isWhole_9 : decode cX3_isWhole 9 = .ok (.if_icmp .le 15, 3) := dk_164 0 15 (dk_at dksX3_isWhole_0 9 rfl rfl)
theorem dX3_isWhole_12 : decode cX3_isWhole 12 = .ok (.iload_n 0, 1) := dk_26 (dk_at dksX3_isWhole_0 12 rfl rfl)
theorem dX3_isWhole_13 : decode cX3_isWhole 13 = .ok (.bipush 84, 2) := dk_16 84 (dk_at dksX3_isWhole_0 13 rfl rfl)
theorem dX3_isWhole_15 : decode cX3_isWhole 15 = .ok (.if_icmp .eq 9, 3) := dk_159 0 9 (dk_at dksX3_isWhole_0 15 rfl rfl)
theorem dX3_isWhole_18 : decode cX3_isWhole 18 = .ok (.iload_n 0, 1) := dk_26 (dk_at dksX3_isWhole_0 18 rfl rfl)
theorem dX3_isWhole_19 : decode cX3_isWhole 19 = .ok (.bipush 70, 2) := dk_16 70 (dk_at dksX3_isWhole_0 19 rfl rfl)
theorem dX3_isWhole_21 : decode cX3_isWhole 21 = .ok (.if_icmp .ne 7, 3) := dk_160 0 7 (dk_at dksX3_isWhole_0 21 rfl rfl)
theorem dX3_isWhole_24 : decode cX3_isWhole 24 = .ok (.iconst 1, 1) := dk_4 (dk_at dksX3_isWhole_1 0 rfl rfl)
theorem dX3_isWhole_25 : decode cX3_isWhole 25 = .ok (.goto 4, 3) := dk_167 0 4 (dk_at dksX3_isWhole_1 1 rfl rfl)
theorem dX3_isWhole_28 : decode cX3_isWhole 28 = .ok (.iconst 0, 1) := dk_3 (dk_at dksX3_isWhole_1 4 rfl rfl)
theorem dX3_isWhole_29 : decode cX3_isWhole 29 = .ok (.ireturn, 1) := dk_172 (dk_at dksX3_isWhole_1 5 rfl rfl)
abbrev cX3_begin : ByteArray := prog_4_method_4_code
def yX3_begin : MethodName := ⟨RX3, "begin", "(III)V"⟩
def dkwX3_begin_3 : List UInt8 := [180, 0, 24, 181, 0, 24, 42, 89, 180, 0, 28, 4, 96, 181, 0, 28, 177]
abbrev dktX3_begin_3 : List UInt8 := dkwX3_begin_3 ++ []
def dkwX3_begin_2 : List UInt8 := [159, 0, 15, 28, 16, 91, 159, 0, 9, 28, 16, 40, 160, 0, 10, 42, 180, 0, 28, 167, 0, 7, 42]
abbrev dktX3_begin_2 : List UInt8 := dkwX3_begin_2 ++ dktX3_begin_3
def dkwX3_begin_1 : List UInt8 := [180, 0, 18, 42, 180, 0, 28, 29, 79, 42, 180, 0, 21, 42, 180, 0, 28, 2, 79, 42, 28, 16, 123]
abbrev dktX3_begin_1 : List UInt8 := dkwX3_begin_1 ++ dktX3_begin_2
def dkwX3_begin_0 : List UInt8 := [42, 180, 0, 9, 42, 180, 0, 28, 27, 79, 42, 180, 0, 15, 42, 180, 0, 28, 42, 180, 0, 24, 79, 42]
abbrev dktX3_begin_0 : List UInt8 := dkwX3_begin_0 ++ dktX3_begin_1
theorem dksX3_begin_0 : cX3_begin.data.toList.drop 0 = dktX3_begin_0 := by decide +kernel
theorem dksX3_begin_1 : cX3_begin.data.toList.drop 24 = dktX3_begin_1 := dk_seg dksX3_begin_0 24 rfl rfl
theorem dksX3_begin_2 : cX3_begin.data.toList.drop 47 = dktX3_begin_2 := dk_seg dksX3_begin_1 23 rfl rfl
theorem dksX3_begin_3 : cX3_begin.data.toList.drop 70 = dktX3_begin_3 := dk_seg dksX3_begin_2 23 rfl rfl
theorem dX3_begin_0 : decode cX3_begin 0 = .ok (.aload_n 0, 1) := dk_42 (dk_at dksX3_begin_0 0 rfl rfl)
theorem dX3_begin_1 : decode cX3_begin 1 = .ok (.getfield 9, 3) := dk_180 0 9 (dk_at dksX3_begin_0 1 rfl rfl)
theorem dX3_begin_4 : decode cX3_begin 4 = .ok (.aload_n 0, 1) := dk_42 (dk_at dksX3_begin_0 4 rfl rfl)
theorem dX3_begin_5 : decode cX3_begin 5 = .ok (.getfield 28, 3) := dk_180 0 28 (dk_at dksX3_begin_0 5 rfl rfl)
theorem dX3_begin_8 : decode cX3_begin 8 = .ok (.iload_n 1, 1) := dk_27 (dk_at dksX3_begin_0 8 rfl rfl)
theorem dX3_begin_9 : decode cX3_begin 9 = .ok (.iastore, 1) := dk_79 (dk_at dksX3_begin_0 9 rfl rfl)
theorem dX3_begin_10 : decode cX3_begin 10 = .ok (.aload_n 0, 1) := dk_42 (dk_at dksX3_begin_0 10 rfl rfl)
theorem dX3_begin_11 : decode cX3_begin 11 = .ok (.getfield 15, 3) := dk_180 0 15 (dk_at dksX3_begin_0 11 rfl rfl)
theorem dX3_begin_14 : decode cX3_begin 14 = .ok (.aload_n 0, 1) := dk_42 (dk_at dksX3_begin_0 14 rfl rfl)
theorem dX3_begin_15 : decode cX3_begin 15 = .ok (.getfield 28, 3) := dk_180 0 28 (dk_at dksX3_begin_0 15 rfl rfl)
theorem dX3_begin_18 : decode cX3_begin 18 = .ok (.aload_n 0, 1) := dk_42 (dk_at dksX3_begin_0 18 rfl rfl)
theorem dX3_begin_19 : decode cX3_begin 19 = .ok (.getfield 24, 3) := dk_180 0 24 (dk_at dksX3_begin_0 19 rfl rfl)
theorem dX3_begin_22 : decode cX3_begin 22 = .ok (.iastore, 1) := dk_79 (dk_at dksX3_begin_0 22 rfl rfl)
theorem dX3_begin_23 : decode cX3_begin 23 = .ok (.aload_n 0, 1) := dk_42 (dk_at dksX3_begin_0 23 rfl rfl)
theorem dX3_begin_24 : decode cX3_begin 24 = .ok (.getfield 18, 3) := dk_180 0 18 (dk_at dksX3_begin_1 0 rfl rfl)
theorem dX3_begin_27 : decode cX3_begin 27 = .ok (.aload_n 0, 1) := dk_42 (dk_at dksX3_begin_1 3 rfl rfl)
theorem dX3_begin_28 : decode cX3_begin 28 = .ok (.getfield 28, 3) := dk_180 0 28 (dk_at dksX3_begin_1 4 rfl rfl)
theorem dX3_begin_31 : decode cX3_begin 31 = .ok (.iload_n 3, 1) := dk_29 (dk_at dksX3_begin_1 7 rfl rfl)
theorem dX3_begin_32 : decode cX3_begin 32 = .ok (.iastore, 1) := dk_79 (dk_at dksX3_begin_1 8 rfl rfl)
theorem dX3_begin_33 : decode cX3_begin 33 = .ok (.aload_n 0, 1) := dk_42 (dk_at dksX3_begin_1 9 rfl rfl)
theorem dX3_begin_34 : decode cX3_begin 34 = .ok (.getfield 21, 3) := dk_180 0 21 (dk_at dksX3_begin_1 10 rfl rfl)
theorem dX3_begin_37 : decode cX3_begin 37 = .ok (.aload_n 0, 1) := dk_42 (dk_at dksX3_begin_1 13 rfl rfl)
theorem dX3_begin_38 : decode cX3_begin 38 = .ok (.getfield 28, 3) := dk_180 0 28 (dk_at dksX3_begin_1 14 rfl rfl)
theorem dX3_begin_41 : decode cX3_begin 41 = .ok (.iconst (-1), 1) := dk_2 (dk_at dksX3_begin_1 17 rfl rfl)
theorem dX3_begin_42 : decode cX3_begin 42 = .ok (.iastore, 1) := dk_79 (dk_at dksX3_begin_1 18 rfl rfl)
theorem dX3_begin_43 : decode cX3_begin 43 = .ok (.aload_n 0, 1) := dk_42 (dk_at dksX3_begin_1 19 rfl rfl)
theorem dX3_begin_44 : decode cX3_begin 44 = .ok (.iload_n 2, 1) := dk_28 (dk_at dksX3_begin_1 20 rfl rfl)
theorem dX3_begin_45 : decode cX3_begin 45 = .ok (.bipush 123, 2) := dk_16 123 (dk_at dksX3_begin_1 21 rfl rfl)
theorem dX3_begin_47 : decode cX3_begin 47 = .ok (.if_icmp .eq 15, 3) := dk_159 0 15 (dk_at dksX3_begin_2 0 rfl rfl)
theorem dX3_begin_50 : decode cX3_begin 50 = .ok (.iload_n 2, 1) := dk_28 (dk_at dksX3_begin_2 3 rfl rfl)
theorem dX3_begin_51 : decode cX3_begin 51 = .ok (.bipush 91, 2) := dk_16 91 (dk_at dksX3_begin_2 4 rfl rfl)
theorem dX3_begin_53 : decode cX3_begin 53 = .ok (.if_icmp .eq 9, 3) := dk_159 0 9 (dk_at dksX3_begin_2 6 rfl rfl)
theorem dX3_begin_56 : decode cX3_begin 56 = .ok (.iload_n 2, 1) := dk_28 (dk_at dksX3_begin_2 9 rfl rfl)
theorem dX3_begin_57 : decode cX3_begin 57 = .ok (.bipush 40, 2) := dk_16 40 (dk_at dksX3_begin_2 10 rfl rfl)
theorem dX3_begin_59 : decode cX3_begin 59 = .ok (.if_icmp .ne 10, 3) := dk_160 0 10 (dk_at dksX3_begin_2 12 rfl rfl)
theorem dX3_begin_62 : decode cX3_begin 62 = .ok (.aload_n 0, 1) := dk_42 (dk_at dksX3_begin_2 15 rfl rfl)
theorem dX3_begin_63 : decode cX3_begin 63 = .ok (.getfield 28, 3) := dk_180 0 28 (dk_at dksX3_begin_2 16 rfl rfl)
theorem dX3_begin_66 : decode cX3_begin 66 = .ok (.goto 7, 3) := dk_167 0 7 (dk_at dksX3_begin_2 19 rfl rfl)
theorem dX3_begin_69 : decode cX3_begin 69 = .ok (.aload_n 0, 1) := dk_42 (dk_at dksX3_begin_2 22 rfl rfl)
theorem dX3_begin_70 : decode cX3_begin 70 = .ok (.getfield 24, 3) := dk_180 0 24 (dk_at dksX3_begin_3 0 rfl rfl)
theorem dX3_begin_73 : decode cX3_begin 73 = .ok (.putfield 24, 3) := dk_181 0 24 (dk_at dksX3_begin_3 3 rfl rfl)
theorem dX3_begin_76 : decode cX3_begin 76 = .ok (.aload_n 0, 1) := dk_42 (dk_at dksX3_begin_3 6 rfl rfl)
theorem dX3_begin_77 : decode cX3_begin 77 = .ok (.dup, 1) := dk_89 (dk_at dksX3_begin_3 7 rfl rfl)
theorem dX3_begin_78 : decode cX3_begin 78 = .ok (.getfield 28, 3) := dk_180 0 28 (dk_at dksX3_begin_3 8 rfl rfl)
theorem dX3_begin_81 : decode cX3_begin 81 = .ok (.iconst 1, 1) := dk_4 (dk_at dksX3_begin_3 11 rfl rfl)
theorem dX3_begin_82 : decode cX3_begin 82 = .ok (.iadd, 1) := dk_96 (dk_at dksX3_begin_3 12 rfl rfl)
theorem dX3_begin_83 : decode cX3_begin 83 = .ok (.putfield 28, 3) := dk_181 0 28 (dk_at dksX3_begin_3 13 rfl rfl)
theorem dX3_begin_86 : decode cX3_begin 86 = .ok (.return_, 1) := dk_177 (dk_at dksX3_begin_3 16 rfl rfl)
abbrev cX3_behind : ByteArray := prog_4_method_5_code
def yX3_behind : MethodName := ⟨RX3, "behind", "([C)I"⟩
def dkwX3_behind_1 : List UInt8 := [167, 0, 18, 42, 43, 16, 91, 182, 0, 31, 153, 0, 7, 7, 167, 0, 4, 8, 172]
abbrev dktX3_behind_1 : List UInt8 := dkwX3_behind_1 ++ []
def dkwX3_behind_0 : List UInt8 := [42, 180, 0, 24, 156, 0, 8, 16, 6, 167, 0, 32, 42, 43, 16, 123, 182, 0, 31, 153, 0, 7, 5]
abbrev dktX3_behind_0 : List UInt8 := dkwX3_behind_0 ++ dktX3_behind_1
theorem dksX3_behind_0 : cX3_behind.data.toList.drop 0 = dktX3_behind_0 := by decide +kernel
theorem dksX3_behind_1 : cX3_behind.data.toList.drop 23 = dktX3_behind_1 := dk_seg dksX3_behind_0 23 rfl rfl
theorem dX3_behind_0 : decode cX3_behind 0 = .ok (.aload_n 0, 1) := dk_42 (dk_at dksX3_behind_0 0 rfl rfl)
theorem dX3_behind_1 : decode cX3_behind 1 = .ok (.getfield 24, 3) := dk_180 0 24 (dk_at dksX3_behind_0 1 rfl rfl)
theorem dX3_behind_4 : decode cX3_behind 4 = .ok (.ifCond .ge 8, 3) := dk_156 0 8 (dk_at dksX3_behind_0 4 rfl rfl)
theorem dX3_behind_7 : decode cX3_behind 7 = .ok (.bipush 6, 2) := dk_16 6 (dk_at dksX3_behind_0 7 rfl rfl)
theorem dX3_behind_9 : decode cX3_behind 9 = .ok (.goto 32, 3) := dk_167 0 32 (dk_at dksX3_behind_0 9 rfl rfl)
theorem dX3_behind_12 : decode cX3_behind 12 = .ok (.aload_n 0, 1) := dk_42 (dk_at dksX3_behind_0 12 rfl rfl)
theorem dX3_behind_13 : decode cX3_behind 13 = .ok (.aload_n 1, 1) := dk_43 (dk_at dksX3_behind_0 13 rfl rfl)
theorem dX3_behind_14 : decode cX3_behind 14 = .ok (.bipush 123, 2) := dk_16 123 (dk_at dksX3_behind_0 14 rfl rfl)
theorem dX3_behind_16 : decode cX3_behind 16 = .ok (.invokevirtual 31, 3) := dk_182 0 31 (dk_at dksX3_behind_0 16 rfl rfl)
theorem dX3_behind_19 : decode cX3_behind 19 = .ok (.ifCond .eq 7, 3) := dk_153 0 7 (dk_at dksX3_behind_0 19 rfl rfl)
theorem dX3_behind_22 : decode cX3_behind 22 = .ok (.iconst 2, 1) := dk_5 (dk_at dksX3_behind_0 22 rfl rfl)
theorem dX3_behind_23 : decode cX3_behind 23 = .ok (.goto 18, 3) := dk_167 0 18 (dk_at dksX3_behind_1 0 rfl rfl)
theorem dX3_behind_26 : decode cX3_behind 26 = .ok (.aload_n 0, 1) := dk_42 (dk_at dksX3_behind_1 3 rfl rfl)
theorem dX3_behind_27 : decode cX3_behind 27 = .ok (.aload_n 1, 1) := dk_43 (dk_at dksX3_behind_1 4 rfl rfl)
theorem dX3_behind_28 : decode cX3_behind 28 = .ok (.bipush 91, 2) := dk_16 91 (dk_at dksX3_behind_1 5 rfl rfl)
theorem dX3_behind_30 : decode cX3_behind 30 = .ok (.invokevirtual 31, 3) := dk_182 0 31 (dk_at dksX3_behind_1 7 rfl rfl)
theorem dX3_behind_33 : decode cX3_behind 33 = .ok (.ifCond .eq 7, 3) := dk_153 0 7 (dk_at dksX3_behind_1 10 rfl rfl)
theorem dX3_behind_36 : decode cX3_behind 36 = .ok (.iconst 4, 1) := dk_7 (dk_at dksX3_behind_1 13 rfl rfl)
theorem dX3_behind_37 : decode cX3_behind 37 = .ok (.goto 4, 3) := dk_167 0 4 (dk_at dksX3_behind_1 14 rfl rfl)
theorem dX3_behind_40 : decode cX3_behind 40 = .ok (.iconst 5, 1) := dk_8 (dk_at dksX3_behind_1 17 rfl rfl)
theorem dX3_behind_41 : decode cX3_behind 41 = .ok (.ireturn, 1) := dk_172 (dk_at dksX3_behind_1 18 rfl rfl)
abbrev cX3_isOpen : ByteArray := prog_4_method_2_code
def yX3_isOpen : MethodName := ⟨RX3, "isOpen", "([CI)Z"⟩
def dkwX3_isOpen_1 : List UInt8 := [167, 0, 4, 3, 172]
abbrev dktX3_isOpen_1 : List UInt8 := dkwX3_isOpen_1 ++ []
def dkwX3_isOpen_0 : List UInt8 := [42, 180, 0, 24, 155, 0, 22, 43, 42, 180, 0, 9, 42, 180, 0, 24, 46, 52, 28, 160, 0, 7, 4]
abbrev dktX3_isOpen_0 : List UInt8 := dkwX3_isOpen_0 ++ dktX3_isOpen_1
theorem dksX3_isOpen_0 : cX3_isOpen.data.toList.drop 0 = dktX3_isOpen_0 := by decide +kernel
theorem dksX3_isOpen_1 : cX3_isOpen.data.toList.drop 23 = dktX3_isOpen_1 := dk_seg dksX3_isOpen_0 23 rfl rfl
theorem dX3_isOpen_0 : decode cX3_isOpen 0 = .ok (.aload_n 0, 1) := dk_42 (dk_at dksX3_isOpen_0 0 rfl rfl)
theorem dX3_isOpen_1 : decode cX3_isOpen 1 = .ok (.getfield 24, 3) := dk_180 0 24 (dk_at dksX3_isOpen_0 1 rfl rfl)
theorem dX3_isOpen_4 : decode cX3_isOpen 4 = .ok (.ifCond .lt 22, 3) := dk_155 0 22 (dk_at dksX3_isOpen_0 4 rfl rfl)
theorem dX3_isOpen_7 : decode cX3_isOpen 7 = .ok (.aload_n 1, 1) := dk_43 (dk_at dksX3_isOpen_0 7 rfl rfl)
theorem dX3_isOpen_8 : decode cX3_isOpen 8 = .ok (.aload_n 0, 1) := dk_42 (dk_at dksX3_isOpen_0 8 rfl rfl)
theorem dX3_isOpen_9 : decode cX3_isOpen 9 = .ok (.getfield 9, 3) := dk_180 0 9 (dk_at dksX3_isOpen_0 9 rfl rfl)
theorem dX3_isOpen_12 : decode cX3_isOpen 12 = .ok (.aload_n 0, 1) := dk_42 (dk_at dksX3_isOpen_0 12 rfl rfl)
theorem dX3_isOpen_13 : decode cX3_isOpen 13 = .ok (.getfield 24, 3) := dk_180 0 24 (dk_at dksX3_isOpen_0 13 rfl rfl)
theorem dX3_isOpen_16 : decode cX3_isOpen 16 = .ok (.iaload, 1) := dk_46 (dk_at dksX3_isOpen_0 16 rfl rfl)
theorem dX3_isOpen_17 : decode cX3_isOpen 17 = .ok (.caload, 1) := dk_52 (dk_at dksX3_isOpen_0 17 rfl rfl)
theorem dX3_isOpen_18 : decode cX3_isOpen 18 = .ok (.iload_n 2, 1) := dk_28 (dk_at dksX3_isOpen_0 18 rfl rfl)
theorem dX3_isOpen_19 : decode cX3_isOpen 19 = .ok (.if_icmp .ne 7, 3) := dk_160 0 7 (dk_at dksX3_isOpen_0 19 rfl rfl)
theorem dX3_isOpen_22 : decode cX3_isOpen 22 = .ok (.iconst 1, 1) := dk_4 (dk_at dksX3_isOpen_0 22 rfl rfl)
theorem dX3_isOpen_23 : decode cX3_isOpen 23 = .ok (.goto 4, 3) := dk_167 0 4 (dk_at dksX3_isOpen_1 0 rfl rfl)
theorem dX3_isOpen_26 : decode cX3_isOpen 26 = .ok (.iconst 0, 1) := dk_3 (dk_at dksX3_isOpen_1 3 rfl rfl)
theorem dX3_isOpen_27 : decode cX3_isOpen 27 = .ok (.ireturn, 1) := dk_172 (dk_at dksX3_isOpen_1 4 rfl rfl)
abbrev cX3_close : ByteArray := prog_4_method_7_code
def yX3_close : MethodName := ⟨RX3, "close", "([C)I"⟩
def dkwX3_close_0 : List UInt8 := [42, 42, 180, 0, 15, 42, 180, 0, 24, 46, 181, 0, 24, 42, 43, 182, 0, 43, 172]
abbrev dktX3_close_0 : List UInt8 := dkwX3_close_0 ++ []
theorem dksX3_close_0 : cX3_close.data.toList.drop 0 = dktX3_close_0 := by decide +kernel
theorem dX3_close_0 : decode cX3_close 0 = .ok (.aload_n 0, 1) := dk_42 (dk_at dksX3_close_0 0 rfl rfl)
theorem dX3_close_1 : decode cX3_close 1 = .ok (.aload_n 0, 1) := dk_42 (dk_at dksX3_close_0 1 rfl rfl)
theorem dX3_close_2 : decode cX3_close 2 = .ok (.getfield 15, 3) := dk_180 0 15 (dk_at dksX3_close_0 2 rfl rfl)
theorem dX3_close_5 : decode cX3_close 5 = .ok (.aload_n 0, 1) := dk_42 (dk_at dksX3_close_0 5 rfl rfl)
theorem dX3_close_6 : decode cX3_close 6 = .ok (.getfield 24, 3) := dk_180 0 24 (dk_at dksX3_close_0 6 rfl rfl)
theorem dX3_close_9 : decode cX3_close 9 = .ok (.iaload, 1) := dk_46 (dk_at dksX3_close_0 9 rfl rfl)
theorem dX3_close_10 : decode cX3_close 10 = .ok (.putfield 24, 3) := dk_181 0 24 (dk_at dksX3_close_0 10 rfl rfl)
theorem dX3_close_13 : decode cX3_close 13 = .ok (.aload_n 0, 1) := dk_42 (dk_at dksX3_close_0 13 rfl rfl)
theorem dX3_close_14 : decode cX3_close 14 = .ok (.aload_n 1, 1) := dk_43 (dk_at dksX3_close_0 14 rfl rfl)
theorem dX3_close_15 : decode cX3_close 15 = .ok (.invokevirtual 43, 3) := dk_182 0 43 (dk_at dksX3_close_0 15 rfl rfl)
theorem dX3_close_18 : decode cX3_close 18 = .ok (.ireturn, 1) := dk_172 (dk_at dksX3_close_0 18 rfl rfl)
abbrev cX3_take : ByteArray := prog_4_method_9_code
def yX3_take : MethodName := ⟨RX3, "take", "(I)I"⟩
def dkwX3_take_0 : List UInt8 := [42, 180, 0, 21, 42, 180, 0, 24, 27, 16, 97, 100, 79, 3, 172]
abbrev dktX3_take_0 : List UInt8 := dkwX3_take_0 ++ []
theorem dksX3_take_0 : cX3_take.data.toList.drop 0 = dktX3_take_0 := by decide +kernel
theorem dX3_take_0 : decode cX3_take 0 = .ok (.aload_n 0, 1) := dk_42 (dk_at dksX3_take_0 0 rfl rfl)
theorem dX3_take_1 : decode cX3_take 1 = .ok (.getfield 21, 3) := dk_180 0 21 (dk_at dksX3_take_0 1 rfl rfl)
theorem dX3_take_4 : decode cX3_take 4 = .ok (.aload_n 0, 1) := dk_42 (dk_at dksX3_take_0 4 rfl rfl)
theorem dX3_take_5 : decode cX3_take 5 = .ok (.getfield 24, 3) := dk_180 0 24 (dk_at dksX3_take_0 5 rfl rfl)
theorem dX3_take_8 : decode cX3_take 8 = .ok (.iload_n 1, 1) := dk_27 (dk_at dksX3_take_0 8 rfl rfl)
theorem dX3_take_9 : decode cX3_take 9 = .ok (.bipush 97, 2) := dk_16 97 (dk_at dksX3_take_0 9 rfl rfl)
theorem dX3_take_11 : decode cX3_take 11 = .ok (.isub, 1) := dk_100 (dk_at dksX3_take_0 11 rfl rfl)
theorem dX3_take_12 : decode cX3_take 12 = .ok (.iastore, 1) := dk_79 (dk_at dksX3_take_0 12 rfl rfl)
theorem dX3_take_13 : decode cX3_take 13 = .ok (.iconst 0, 1) := dk_3 (dk_at dksX3_take_0 13 rfl rfl)
theorem dX3_take_14 : decode cX3_take 14 = .ok (.ireturn, 1) := dk_172 (dk_at dksX3_take_0 14 rfl rfl)
theorem q59 : (Jvm.Cond.initialized "KindNets$Values") ∈ lw_all := lw_g (lw_at lw_m1 4 rfl) rfl
theorem q128 : (Jvm.Cond.instantiable "KindNets$Values" (6 : Nat)) ∈ lw_all := lw_g (lw_at lw_m1 73 rfl) rfl
theorem q130 : (Jvm.Cond.instanceMethod ({ cls := "KindNets$Values", name := "<init>", desc := "()V" } : Jvm.MethodName)) ∈ lw_all := lw_g (lw_at lw_m1 75 rfl) rfl
theorem q131 : (Jvm.Cond.code ({ cls := "KindNets$Values", name := "<init>", desc := "()V" } : Jvm.MethodName) prog_4_method_1_code (1 : Nat) (Option.none : Option Jvm.ClassFile.FieldType)) ∈ lw_all := lw_g (lw_at lw_m1 76 rfl) rfl
theorem q132 : (Jvm.Cond.methodLink "KindNets$Values" (3 : Nat) ({ cls := "java/lang/Object", name := "<init>", desc := "()V" } : Jvm.MethodName)) ∈ lw_all := lw_g (lw_at lw_m1 77 rfl) rfl
theorem q133 : (Jvm.Cond.fieldLink "KindNets$Values" (9 : Nat) "KindNets$Values" "at" "[I") ∈ lw_all := lw_g (lw_at lw_m1 78 rfl) rfl
theorem q135 : (Jvm.Cond.fieldLink "KindNets$Values" (15 : Nat) "KindNets$Values" "up" "[I") ∈ lw_all := lw_g (lw_at lw_m1 80 rfl) rfl
theorem q137 : (Jvm.Cond.fieldLink "KindNets$Values" (18 : Nat) "KindNets$Values" "letter" "[I") ∈ lw_all := lw_g (lw_at lw_m1 82 rfl) rfl
theorem q139 : (Jvm.Cond.fieldLink "KindNets$Values" (21 : Nat) "KindNets$Values" "last" "[I") ∈ lw_all := lw_g (lw_at lw_m1 84 rfl) rfl
theorem q141 : (Jvm.Cond.fieldLink "KindNets$Values" (28 : Nat) "KindNets$Values" "many" "I") ∈ lw_all := lw_g (lw_at lw_m1 86 rfl) rfl
theorem q143 : (Jvm.Cond.fieldLink "KindNets$Values" (24 : Nat) "KindNets$Values" "open" "I") ∈ lw_all := lw_g (lw_at lw_m1 88 rfl) rfl
theorem q144 : (Jvm.Cond.laysFinal "KindNets$Values" "KindNets$Values" "at" "[I") ∈ lw_all := lw_g (lw_at lw_m1 89 rfl) rfl
theorem q145 : (Jvm.Cond.soleField "KindNets$Values" "at") ∈ lw_all := lw_g (lw_at lw_m1 90 rfl) rfl
theorem q146 : (Jvm.Cond.laysFinal "KindNets$Values" "KindNets$Values" "up" "[I") ∈ lw_all := lw_g (lw_at lw_m1 91 rfl) rfl
theorem q147 : (Jvm.Cond.soleField "KindNets$Values" "up") ∈ lw_all := lw_g (lw_at lw_m1 92 rfl) rfl
theorem q148 : (Jvm.Cond.laysFinal "KindNets$Values" "KindNets$Values" "letter" "[I") ∈ lw_all := lw_g (lw_at lw_m1 93 rfl) rfl
theorem q149 : (Jvm.Cond.soleField "KindNets$Values" "letter") ∈ lw_all := lw_g (lw_at lw_m1 94 rfl) rfl
theorem q150 : (Jvm.Cond.laysFinal "KindNets$Values" "KindNets$Values" "last" "[I") ∈ lw_all := lw_g (lw_at lw_m1 95 rfl) rfl
theorem q151 : (Jvm.Cond.soleField "KindNets$Values" "last") ∈ lw_all := lw_g (lw_at lw_m1 96 rfl) rfl
theorem q152 : (Jvm.Cond.lays "KindNets$Values" "KindNets$Values" "many" "I") ∈ lw_all := lw_g (lw_at lw_m1 97 rfl) rfl
theorem q153 : (Jvm.Cond.soleField "KindNets$Values" "many") ∈ lw_all := lw_g (lw_at lw_m1 98 rfl) rfl
theorem q154 : (Jvm.Cond.lays "KindNets$Values" "KindNets$Values" "open" "I") ∈ lw_all := lw_g (lw_at lw_m1 99 rfl) rfl
theorem q155 : (Jvm.Cond.soleField "KindNets$Values" "open") ∈ lw_all := lw_g (lw_at lw_m1 100 rfl) rfl
theorem q156 : (Jvm.Cond.superclass "KindNets$Values" "java/lang/Object") ∈ lw_all := lw_g (lw_at lw_m1 101 rfl) rfl
theorem q399 : (Jvm.Cond.instanceMethod ({ cls := "KindNets$Values", name := "fault", desc := "([CI)I" } : Jvm.MethodName)) ∈ lw_all := lw_g (lw_at lw_m2 104 rfl) rfl
theorem q400 : (Jvm.Cond.selects "KindNets$Values" ({ cls := "KindNets$Values", name := "fault", desc := "([CI)I" } : Jvm.MethodName) ({ cls := "KindNets$Values", name := "fault", desc := "([CI)I" } : Jvm.MethodName)) ∈ lw_all := lw_g (lw_at lw_m2 105 rfl) rfl
theorem q401 : (Jvm.Cond.code ({ cls := "KindNets$Values", name := "fault", desc := "([CI)I" } : Jvm.MethodName) prog_4_method_10_code (5 : Nat) (Option.some Jvm.ClassFile.FieldType.int)) ∈ lw_all := lw_g (lw_at lw_m2 106 rfl) rfl
theorem q402 : (Jvm.Cond.methodLink "KindNets$Values" (58 : Nat) ({ cls := "KindNets$Values", name := "next", desc := "(I[CI)I" } : Jvm.MethodName)) ∈ lw_all := lw_g (lw_at lw_m2 107 rfl) rfl
theorem q403 : (Jvm.Cond.privateMethod ({ cls := "KindNets$Values", name := "next", desc := "(I[CI)I" } : Jvm.MethodName)) ∈ lw_tbl := lw_at lw_m2 108 rfl
theorem q404 : (Jvm.Cond.instanceMethod ({ cls := "KindNets$Values", name := "next", desc := "(I[CI)I" } : Jvm.MethodName)) ∈ lw_all := lw_g (lw_at lw_m2 109 rfl) rfl
theorem q405 : (Jvm.Cond.code ({ cls := "KindNets$Values", name := "next", desc := "(I[CI)I" } : Jvm.MethodName) prog_4_method_8_code (6 : Nat) (Option.some Jvm.ClassFile.FieldType.int)) ∈ lw_all := lw_g (lw_at lw_m2 110 rfl) rfl
theorem q406 : (Jvm.Cond.methodLink "KindNets$Values" (47 : Nat) ({ cls := "KindNets$Values", name := "value", desc := "([CII)I" } : Jvm.MethodName)) ∈ lw_all := lw_g (lw_at lw_m2 111 rfl) rfl
theorem q407 : (Jvm.Cond.privateMethod ({ cls := "KindNets$Values", name := "value", desc := "([CII)I" } : Jvm.MethodName)) ∈ lw_tbl := lw_at lw_m2 112 rfl
theorem q408 : (Jvm.Cond.instanceMethod ({ cls := "KindNets$Values", name := "value", desc := "([CII)I" } : Jvm.MethodName)) ∈ lw_all := lw_g (lw_at lw_m2 113 rfl) rfl
theorem q409 : (Jvm.Cond.code ({ cls := "KindNets$Values", name := "value", desc := "([CII)I" } : Jvm.MethodName) prog_4_method_6_code (5 : Nat) (Option.some Jvm.ClassFile.FieldType.int)) ∈ lw_all := lw_g (lw_at lw_m2 114 rfl) rfl
theorem q410 : (Jvm.Cond.methodLink "KindNets$Values" (35 : Nat) ({ cls := "KindNets$Values", name := "isWhole", desc := "(I)Z" } : Jvm.MethodName)) ∈ lw_all := lw_g (lw_at lw_m2 115 rfl) rfl
theorem q411 : (Jvm.Cond.static ({ cls := "KindNets$Values", name := "isWhole", desc := "(I)Z" } : Jvm.MethodName)) ∈ lw_all := lw_g (lw_at lw_m2 116 rfl) rfl
theorem q412 : (Jvm.Cond.code ({ cls := "KindNets$Values", name := "isWhole", desc := "(I)Z" } : Jvm.MethodName) prog_4_method_3_code (1 : Nat) (Option.some Jvm.ClassFile.FieldType.boolean)) ∈ lw_all := lw_g (lw_at lw_m2 117 rfl) rfl
theorem q413 : (Jvm.Cond.methodLink "KindNets$Values" (39 : Nat) ({ cls := "KindNets$Values", name := "begin", desc := "(III)V" } : Jvm.MethodName)) ∈ lw_all := lw_g (lw_at lw_m2 118 rfl) rfl
theorem q414 : (Jvm.Cond.privateMethod ({ cls := "KindNets$Values", name := "begin", desc := "(III)V" } : Jvm.MethodName)) ∈ lw_tbl := lw_at lw_m2 119 rfl
theorem q415 : (Jvm.Cond.instanceMethod ({ cls := "KindNets$Values", name := "begin", desc := "(III)V" } : Jvm.MethodName)) ∈ lw_all := lw_g (lw_at lw_m2 120 rfl) rfl
theorem q416 : (Jvm.Cond.code ({ cls := "KindNets$Values", name := "begin", desc := "(III)V" } : Jvm.MethodName) prog_4_method_4_code (4 : Nat) (Option.none : Option Jvm.ClassFile.FieldType)) ∈ lw_all := lw_g (lw_at lw_m2 121 rfl) rfl
theorem q417 : (Jvm.Cond.methodLink "KindNets$Values" (43 : Nat) ({ cls := "KindNets$Values", name := "behind", desc := "([C)I" } : Jvm.MethodName)) ∈ lw_all := lw_g (lw_at lw_m2 122 rfl) rfl
theorem q418 : (Jvm.Cond.privateMethod ({ cls := "KindNets$Values", name := "behind", desc := "([C)I" } : Jvm.MethodName)) ∈ lw_tbl := lw_at lw_m2 123 rfl
theorem q419 : (Jvm.Cond.instanceMethod ({ cls := "KindNets$Values", name := "behind", desc := "([C)I" } : Jvm.MethodName)) ∈ lw_all := lw_g (lw_at lw_m2 124 rfl) rfl
theorem q420 : (Jvm.Cond.code ({ cls := "KindNets$Values", name := "behind", desc := "([C)I" } : Jvm.MethodName) prog_4_method_5_code (2 : Nat) (Option.some Jvm.ClassFile.FieldType.int)) ∈ lw_all := lw_g (lw_at lw_m2 125 rfl) rfl
theorem q421 : (Jvm.Cond.methodLink "KindNets$Values" (31 : Nat) ({ cls := "KindNets$Values", name := "isOpen", desc := "([CI)Z" } : Jvm.MethodName)) ∈ lw_all := lw_g (lw_at lw_m2 126 rfl) rfl
theorem q422 : (Jvm.Cond.privateMethod ({ cls := "KindNets$Values", name := "isOpen", desc := "([CI)Z" } : Jvm.MethodName)) ∈ lw_tbl := lw_at lw_m2 127 rfl
theorem q423 : (Jvm.Cond.instanceMethod ({ cls := "KindNets$Values", name := "isOpen", desc := "([CI)Z" } : Jvm.MethodName)) ∈ lw_all := lw_g (lw_at lw_m2 128 rfl) rfl
theorem q424 : (Jvm.Cond.code ({ cls := "KindNets$Values", name := "isOpen", desc := "([CI)Z" } : Jvm.MethodName) prog_4_method_2_code (3 : Nat) (Option.some Jvm.ClassFile.FieldType.boolean)) ∈ lw_all := lw_g (lw_at lw_m2 129 rfl) rfl
theorem q425 : (Jvm.Cond.methodLink "KindNets$Values" (51 : Nat) ({ cls := "KindNets$Values", name := "close", desc := "([C)I" } : Jvm.MethodName)) ∈ lw_all := lw_g (lw_at lw_m2 130 rfl) rfl
theorem q426 : (Jvm.Cond.privateMethod ({ cls := "KindNets$Values", name := "close", desc := "([C)I" } : Jvm.MethodName)) ∈ lw_tbl := lw_at lw_m2 131 rfl
theorem q427 : (Jvm.Cond.instanceMethod ({ cls := "KindNets$Values", name := "close", desc := "([C)I" } : Jvm.MethodName)) ∈ lw_all := lw_g (lw_at lw_m2 132 rfl) rfl
theorem q428 : (Jvm.Cond.code ({ cls := "KindNets$Values", name := "close", desc := "([C)I" } : Jvm.MethodName) prog_4_method_7_code (2 : Nat) (Option.some Jvm.ClassFile.FieldType.int)) ∈ lw_all := lw_g (lw_at lw_m2 133 rfl) rfl
theorem q429 : (Jvm.Cond.methodLink "KindNets$Values" (54 : Nat) ({ cls := "KindNets$Values", name := "take", desc := "(I)I" } : Jvm.MethodName)) ∈ lw_all := lw_g (lw_at lw_m2 134 rfl) rfl
theorem q430 : (Jvm.Cond.privateMethod ({ cls := "KindNets$Values", name := "take", desc := "(I)I" } : Jvm.MethodName)) ∈ lw_tbl := lw_at lw_m2 135 rfl
theorem q431 : (Jvm.Cond.instanceMethod ({ cls := "KindNets$Values", name := "take", desc := "(I)I" } : Jvm.MethodName)) ∈ lw_all := lw_g (lw_at lw_m2 136 rfl) rfl
theorem q432 : (Jvm.Cond.code ({ cls := "KindNets$Values", name := "take", desc := "(I)I" } : Jvm.MethodName) prog_4_method_9_code (2 : Nat) (Option.some Jvm.ClassFile.FieldType.int)) ∈ lw_all := lw_g (lw_at lw_m2 137 rfl) rfl
theorem in_X3 : ∀ w ∈ wsX30, w ∈ lw_all := lw_in wsX30 [144, 146, 148, 150, 152, 154] (by decide +kernel) (by decide +kernel)
