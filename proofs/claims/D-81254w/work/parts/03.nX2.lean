/-! KindNets$Kind -/
set_option maxRecDepth 100000
def RX2 : String := "KindNets$Kind"
def TX2 : u_T := fun k => match k with
  | 0 => ("KindNets$Kind", "sign", "C", false)
  | _ => ("KindNets$Kind", "part", "[I", true)
def tyX2 : Nat → FieldType := fun k => match k with
  | 0 => .char
  | _ => .array .int
abbrev wsX20 : List Cond := u_ws RX2 TX2 2
theorem nmX2 : ∀ a, a < 2 → ∀ b, b < 2 → a ≠ b → (TX2 a).2.1 ≠ (TX2 b).2.1 := by decide +kernel
theorem tyX2_ok : ∀ k, k < 2 → parseFieldDescriptor (TX2 k).2.2.1 = some (tyX2 k) := by decide +kernel
abbrev cX2_init : ByteArray := prog_2_method_1_code
def yX2_init : MethodName := ⟨RX2, "<init>", "()V"⟩
def dkwX2_init_0 : List UInt8 := [42, 183, 0, 3, 42, 16, 8, 188, 10, 181, 0, 9, 177]
abbrev dktX2_init_0 : List UInt8 := dkwX2_init_0 ++ []
theorem dksX2_init_0 : cX2_init.data.toList.drop 0 = dktX2_init_0 := by decide +kernel
theorem dX2_init_0 : decode cX2_init 0 = .ok (.aload_n 0, 1) := dk_42 (dk_at dksX2_init_0 0 rfl rfl)
theorem dX2_init_1 : decode cX2_init 1 = .ok (.invokespecial 3, 3) := dk_183 0 3 (dk_at dksX2_init_0 1 rfl rfl)
theorem dX2_init_4 : decode cX2_init 4 = .ok (.aload_n 0, 1) := dk_42 (dk_at dksX2_init_0 4 rfl rfl)
theorem dX2_init_5 : decode cX2_init 5 = .ok (.bipush 8, 2) := dk_16 8 (dk_at dksX2_init_0 5 rfl rfl)
theorem dX2_init_7 : decode cX2_init 7 = .ok (.newarray .int, 2) := dk_188_10 (dk_at dksX2_init_0 7 rfl rfl)
theorem dX2_init_9 : decode cX2_init 9 = .ok (.putfield 9, 3) := dk_181 0 9 (dk_at dksX2_init_0 9 rfl rfl)
theorem dX2_init_12 : decode cX2_init 12 = .ok (.return_, 1) := dk_177 (dk_at dksX2_init_0 12 rfl rfl)
abbrev cX2_isNamed : ByteArray := prog_2_method_5_code
def yX2_isNamed : MethodName := ⟨RX2, "isNamed", "()Z"⟩
def dkwX2_isNamed_0 : List UInt8 := [42, 180, 0, 15, 16, 123, 159, 0, 12, 42, 180, 0, 15, 16, 91, 160, 0, 7, 4, 167, 0, 4, 3, 172]
abbrev dktX2_isNamed_0 : List UInt8 := dkwX2_isNamed_0 ++ []
theorem dksX2_isNamed_0 : cX2_isNamed.data.toList.drop 0 = dktX2_isNamed_0 := by decide +kernel
theorem dX2_isNamed_0 : decode cX2_isNamed 0 = .ok (.aload_n 0, 1) := dk_42 (dk_at dksX2_isNamed_0 0 rfl rfl)
theorem dX2_isNamed_1 : decode cX2_isNamed 1 = .ok (.getfield 15, 3) := dk_180 0 15 (dk_at dksX2_isNamed_0 1 rfl rfl)
theorem dX2_isNamed_4 : decode cX2_isNamed 4 = .ok (.bipush 123, 2) := dk_16 123 (dk_at dksX2_isNamed_0 4 rfl rfl)
theorem dX2_isNamed_6 : decode cX2_isNamed 6 = .ok (.if_icmp .eq 12, 3) := dk_159 0 12 (dk_at dksX2_isNamed_0 6 rfl rfl)
theorem dX2_isNamed_9 : decode cX2_isNamed 9 = .ok (.aload_n 0, 1) := dk_42 (dk_at dksX2_isNamed_0 9 rfl rfl)
theorem dX2_isNamed_10 : decode cX2_isNamed 10 = .ok (.getfield 15, 3) := dk_180 0 15 (dk_at dksX2_isNamed_0 10 rfl rfl)
theorem dX2_isNamed_13 : decode cX2_isNamed 13 = .ok (.bipush 91, 2) := dk_16 91 (dk_at dksX2_isNamed_0 13 rfl rfl)
theorem dX2_isNamed_15 : decode cX2_isNamed 15 = .ok (.if_icmp .ne 7, 3) := dk_160 0 7 (dk_at dksX2_isNamed_0 15 rfl rfl)
theorem dX2_isNamed_18 : decode cX2_isNamed 18 = .ok (.iconst 1, 1) := dk_4 (dk_at dksX2_isNamed_0 18 rfl rfl)
theorem dX2_isNamed_19 : decode cX2_isNamed 19 = .ok (.goto 4, 3) := dk_167 0 4 (dk_at dksX2_isNamed_0 19 rfl rfl)
theorem dX2_isNamed_22 : decode cX2_isNamed 22 = .ok (.iconst 0, 1) := dk_3 (dk_at dksX2_isNamed_0 22 rfl rfl)
theorem dX2_isNamed_23 : decode cX2_isNamed 23 = .ok (.ireturn, 1) := dk_172 (dk_at dksX2_isNamed_0 23 rfl rfl)
abbrev cX2_open : ByteArray := prog_2_method_2_code
def yX2_open : MethodName := ⟨RX2, "open", "(I)V"⟩
def dkwX2_open_1 : List UInt8 := [132, 2, 1, 167, 255, 239, 177]
abbrev dktX2_open_1 : List UInt8 := dkwX2_open_1 ++ []
def dkwX2_open_0 : List UInt8 := [42, 27, 146, 181, 0, 15, 3, 61, 28, 16, 8, 162, 0, 17, 42, 180, 0, 9, 28, 16, 250, 79]
abbrev dktX2_open_0 : List UInt8 := dkwX2_open_0 ++ dktX2_open_1
theorem dksX2_open_0 : cX2_open.data.toList.drop 0 = dktX2_open_0 := by decide +kernel
theorem dksX2_open_1 : cX2_open.data.toList.drop 22 = dktX2_open_1 := dk_seg dksX2_open_0 22 rfl rfl
theorem dX2_open_0 : decode cX2_open 0 = .ok (.aload_n 0, 1) := dk_42 (dk_at dksX2_open_0 0 rfl rfl)
theorem dX2_open_1 : decode cX2_open 1 = .ok (.iload_n 1, 1) := dk_27 (dk_at dksX2_open_0 1 rfl rfl)
theorem dX2_open_2 : decode cX2_open 2 = .ok (.i2c, 1) := dk_146 (dk_at dksX2_open_0 2 rfl rfl)
theorem dX2_open_3 : decode cX2_open 3 = .ok (.putfield 15, 3) := dk_181 0 15 (dk_at dksX2_open_0 3 rfl rfl)
theorem dX2_open_6 : decode cX2_open 6 = .ok (.iconst 0, 1) := dk_3 (dk_at dksX2_open_0 6 rfl rfl)
theorem dX2_open_7 : decode cX2_open 7 = .ok (.istore_n 2, 1) := dk_61 (dk_at dksX2_open_0 7 rfl rfl)
theorem dX2_open_8 : decode cX2_open 8 = .ok (.iload_n 2, 1) := dk_28 (dk_at dksX2_open_0 8 rfl rfl)
theorem dX2_open_9 : decode cX2_open 9 = .ok (.bipush 8, 2) := dk_16 8 (dk_at dksX2_open_0 9 rfl rfl)
theorem dX2_open_11 : decode cX2_open 11 = .ok (.if_icmp .ge 17, 3) := dk_162 0 17 (dk_at dksX2_open_0 11 rfl rfl)
theorem dX2_open_14 : decode cX2_open 14 = .ok (.aload_n 0, 1) := dk_42 (dk_at dksX2_open_0 14 rfl rfl)
theorem dX2_open_15 : decode cX2_open 15 = .ok (.getfield 9, 3) := dk_180 0 9 (dk_at dksX2_open_0 15 rfl rfl)
theorem dX2_open_18 : decode cX2_open 18 = .ok (.iload_n 2, 1) := dk_28 (dk_at dksX2_open_0 18 rfl rfl)
theorem dX2_open_19 : decode cX2_open 19 = .ok (.bipush (-6), 2) := dk_16 250 (dk_at dksX2_open_0 19 rfl rfl)
theorem dX2_open_21 : decode cX2_open 21 = .ok (.iastore, 1) := dk_79 (dk_at dksX2_open_0 21 rfl rfl)
theorem dX2_open_22 : decode cX2_open 22 = .ok (.iinc 2 1, 3) := dk_132 2 1 (dk_at dksX2_open_1 0 rfl rfl)
theorem dX2_open_25 : decode cX2_open 25 = .ok (.goto (-17), 3) := dk_167 255 239 (dk_at dksX2_open_1 3 rfl rfl)
theorem dX2_open_28 : decode cX2_open 28 = .ok (.return_, 1) := dk_177 (dk_at dksX2_open_1 6 rfl rfl)
abbrev cX2_many : ByteArray := prog_2_method_4_code
def yX2_many : MethodName := ⟨RX2, "many", "()I"⟩
def dkwX2_many_1 : List UInt8 := [96, 60, 132, 2, 1, 167, 255, 231, 27, 172]
abbrev dktX2_many_1 : List UInt8 := dkwX2_many_1 ++ []
def dkwX2_many_0 : List UInt8 := [3, 60, 3, 61, 28, 16, 8, 162, 0, 25, 27, 42, 28, 182, 0, 19, 153, 0, 7, 4, 167, 0, 4, 3]
abbrev dktX2_many_0 : List UInt8 := dkwX2_many_0 ++ dktX2_many_1
theorem dksX2_many_0 : cX2_many.data.toList.drop 0 = dktX2_many_0 := by decide +kernel
theorem dksX2_many_1 : cX2_many.data.toList.drop 24 = dktX2_many_1 := dk_seg dksX2_many_0 24 rfl rfl
theorem dX2_many_0 : decode cX2_many 0 = .ok (.iconst 0, 1) := dk_3 (dk_at dksX2_many_0 0 rfl rfl)
theorem dX2_many_1 : decode cX2_many 1 = .ok (.istore_n 1, 1) := dk_60 (dk_at dksX2_many_0 1 rfl rfl)
theorem dX2_many_2 : decode cX2_many 2 = .ok (.iconst 0, 1) := dk_3 (dk_at dksX2_many_0 2 rfl rfl)
theorem dX2_many_3 : decode cX2_many 3 = .ok (.istore_n 2, 1) := dk_61 (dk_at dksX2_many_0 3 rfl rfl)
theorem dX2_many_4 : decode cX2_many 4 = .ok (.iload_n 2, 1) := dk_28 (dk_at dksX2_many_0 4 rfl rfl)
theorem dX2_many_5 : decode cX2_many 5 = .ok (.bipush 8, 2) := dk_16 8 (dk_at dksX2_many_0 5 rfl rfl)
theorem dX2_many_7 : decode cX2_many 7 = .ok (.if_icmp .ge 25, 3) := dk_162 0 25 (dk_at dksX2_many_0 7 rfl rfl)
theorem dX2_many_10 : decode cX2_many 10 = .ok (.iload_n 1, 1) := dk_27 (dk_at dksX2_many_0 10 rfl rfl)
theorem dX2_many_11 : decode cX2_many 11 = .ok (.aload_n 0, 1) := dk_42 (dk_at dksX2_many_0 11 rfl rfl)
theorem dX2_many_12 : decode cX2_many 12 = .ok (.iload_n 2, 1) := dk_28 (dk_at dksX2_many_0 12 rfl rfl)
theorem dX2_many_13 : decode cX2_many 13 = .ok (.invokevirtual 19, 3) := dk_182 0 19 (dk_at dksX2_many_0 13 rfl rfl)
theorem dX2_many_16 : decode cX2_many 16 = .ok (.ifCond .eq 7, 3) := dk_153 0 7 (dk_at dksX2_many_0 16 rfl rfl)
theorem dX2_many_19 : decode cX2_many 19 = .ok (.iconst 1, 1) := dk_4 (dk_at dksX2_many_0 19 rfl rfl)
theorem dX2_many_20 : decode cX2_many 20 = .ok (.goto 4, 3) := dk_167 0 4 (dk_at dksX2_many_0 20 rfl rfl)
theorem dX2_many_23 : decode cX2_many 23 = .ok (.iconst 0, 1) := dk_3 (dk_at dksX2_many_0 23 rfl rfl)
theorem dX2_many_24 : decode cX2_many 24 = .ok (.iadd, 1) := dk_96 (dk_at dksX2_many_1 0 rfl rfl)
theorem dX2_many_25 : decode cX2_many 25 = .ok (.istore_n 1, 1) := dk_60 (dk_at dksX2_many_1 1 rfl rfl)
theorem dX2_many_26 : decode cX2_many 26 = .ok (.iinc 2 1, 3) := dk_132 2 1 (dk_at dksX2_many_1 2 rfl rfl)
theorem dX2_many_29 : decode cX2_many 29 = .ok (.goto (-25), 3) := dk_167 255 231 (dk_at dksX2_many_1 5 rfl rfl)
theorem dX2_many_32 : decode cX2_many 32 = .ok (.iload_n 1, 1) := dk_27 (dk_at dksX2_many_1 8 rfl rfl)
theorem dX2_many_33 : decode cX2_many 33 = .ok (.ireturn, 1) := dk_172 (dk_at dksX2_many_1 9 rfl rfl)
abbrev cX2_has : ByteArray := prog_2_method_3_code
def yX2_has : MethodName := ⟨RX2, "has", "(I)Z"⟩
def dkwX2_has_0 : List UInt8 := [42, 180, 0, 9, 27, 46, 16, 250, 159, 0, 7, 4, 167, 0, 4, 3, 172]
abbrev dktX2_has_0 : List UInt8 := dkwX2_has_0 ++ []
theorem dksX2_has_0 : cX2_has.data.toList.drop 0 = dktX2_has_0 := by decide +kernel
theorem dX2_has_0 : decode cX2_has 0 = .ok (.aload_n 0, 1) := dk_42 (dk_at dksX2_has_0 0 rfl rfl)
theorem dX2_has_1 : decode cX2_has 1 = .ok (.getfield 9, 3) := dk_180 0 9 (dk_at dksX2_has_0 1 rfl rfl)
theorem dX2_has_4 : decode cX2_has 4 = .ok (.iload_n 1, 1) := dk_27 (dk_at dksX2_has_0 4 rfl rfl)
theorem dX2_has_5 : decode cX2_has 5 = .ok (.iaload, 1) := dk_46 (dk_at dksX2_has_0 5 rfl rfl)
theorem dX2_has_6 : decode cX2_has 6 = .ok (.bipush (-6), 2) := dk_16 250 (dk_at dksX2_has_0 6 rfl rfl)
theorem dX2_has_8 : decode cX2_has 8 = .ok (.if_icmp .eq 7, 3) := dk_159 0 7 (dk_at dksX2_has_0 8 rfl rfl)
theorem dX2_has_11 : decode cX2_has 11 = .ok (.iconst 1, 1) := dk_4 (dk_at dksX2_has_0 11 rfl rfl)
theorem dX2_has_12 : decode cX2_has 12 = .ok (.goto 4, 3) := dk_167 0 4 (dk_at dksX2_has_0 12 rfl rfl)
theorem dX2_has_15 : decode cX2_has 15 = .ok (.iconst 0, 1) := dk_3 (dk_at dksX2_has_0 15 rfl rfl)
theorem dX2_has_16 : decode cX2_has 16 = .ok (.ireturn, 1) := dk_172 (dk_at dksX2_has_0 16 rfl rfl)
abbrev cX2_covers : ByteArray := prog_2_method_6_code
def yX2_covers : MethodName := ⟨RX2, "covers", "(LKindNets$Kind;)Z"⟩
def dkwX2_covers_1 : List UInt8 := [154, 0, 7, 4, 167, 0, 4, 3, 126, 61, 132, 3, 1, 167, 255, 223, 28, 172]
abbrev dktX2_covers_1 : List UInt8 := dkwX2_covers_1 ++ []
def dkwX2_covers_0 : List UInt8 := [4, 61, 3, 62, 29, 16, 8, 162, 0, 33, 28, 42, 29, 182, 0, 19, 154, 0, 11, 43, 29, 182, 0, 19]
abbrev dktX2_covers_0 : List UInt8 := dkwX2_covers_0 ++ dktX2_covers_1
theorem dksX2_covers_0 : cX2_covers.data.toList.drop 0 = dktX2_covers_0 := by decide +kernel
theorem dksX2_covers_1 : cX2_covers.data.toList.drop 24 = dktX2_covers_1 := dk_seg dksX2_covers_0 24 rfl rfl
theorem dX2_covers_0 : decode cX2_covers 0 = .ok (.iconst 1, 1) := dk_4 (dk_at dksX2_covers_0 0 rfl rfl)
theorem dX2_covers_1 : decode cX2_covers 1 = .ok (.istore_n 2, 1) := dk_61 (dk_at dksX2_covers_0 1 rfl rfl)
theorem dX2_covers_2 : decode cX2_covers 2 = .ok (.iconst 0, 1) := dk_3 (dk_at dksX2_covers_0 2 rfl rfl)
theorem dX2_covers_3 : decode cX2_covers 3 = .ok (.istore_n 3, 1) := dk_62 (dk_at dksX2_covers_0 3 rfl rfl)
theorem dX2_covers_4 : decode cX2_covers 4 = .ok (.iload_n 3, 1) := dk_29 (dk_at dksX2_covers_0 4 rfl rfl)
theorem dX2_covers_5 : decode cX2_covers 5 = .ok (.bipush 8, 2) := dk_16 8 (dk_at dksX2_covers_0 5 rfl rfl)
theorem dX2_covers_7 : decode cX2_covers 7 = .ok (.if_icmp .ge 33, 3) := dk_162 0 33 (dk_at dksX2_covers_0 7 rfl rfl)
theorem dX2_covers_10 : decode cX2_covers 10 = .ok (.iload_n 2, 1) := dk_28 (dk_at dksX2_covers_0 10 rfl rfl)
theorem dX2_covers_11 : decode cX2_covers 11 = .ok (.aload_n 0, 1) := dk_42 (dk_at dksX2_covers_0 11 rfl rfl)
theorem dX2_covers_12 : decode cX2_covers 12 = .ok (.iload_n 3, 1) := dk_29 (dk_at dksX2_covers_0 12 rfl rfl)
theorem dX2_covers_13 : decode cX2_covers 13 = .ok (.invokevirtual 19, 3) := dk_182 0 19 (dk_at dksX2_covers_0 13 rfl rfl)
theorem dX2_covers_16 : decode cX2_covers 16 = .ok (.ifCond .ne 11, 3) := dk_154 0 11 (dk_at dksX2_covers_0 16 rfl rfl)
theorem dX2_covers_19 : decode cX2_covers 19 = .ok (.aload_n 1, 1) := dk_43 (dk_at dksX2_covers_0 19 rfl rfl)
theorem dX2_covers_20 : decode cX2_covers 20 = .ok (.iload_n 3, 1) := dk_29 (dk_at dksX2_covers_0 20 rfl rfl)
theorem dX2_covers_21 : decode cX2_covers 21 = .ok (.invokevirtual 19, 3) := dk_182 0 19 (dk_at dksX2_covers_0 21 rfl rfl)
theorem dX2_covers_24 : decode cX2_covers 24 = .ok (.ifCond .ne 7, 3) := dk_154 0 7 (dk_at dksX2_covers_1 0 rfl rfl)
theorem dX2_covers_27 : decode cX2_covers 27 = .ok (.iconst 1, 1) := dk_4 (dk_at dksX2_covers_1 3 rfl rfl)
theorem dX2_covers_28 : decode cX2_covers 28 = .ok (.goto 4, 3) := dk_167 0 4 (dk_at dksX2_covers_1 4 rfl rfl)
theorem dX2_covers_31 : decode cX2_covers 31 = .ok (.iconst 0, 1) := dk_3 (dk_at dksX2_covers_1 7 rfl rfl)
theorem dX2_covers_32 : decode cX2_covers 32 = .ok (.iand, 1) := dk_126 (dk_at dksX2_covers_1 8 rfl rfl)
theorem dX2_covers_33 : decode cX2_covers 33 = .ok (.istore_n 2, 1) := dk_61 (dk_at dksX2_covers_1 9 rfl rfl)
theorem dX2_covers_34 : decode cX2_covers 34 = .ok (.iinc 3 1, 3) := dk_132 3 1 (dk_at dksX2_covers_1 10 rfl rfl)
theorem dX2_covers_37 : decode cX2_covers 37 = .ok (.goto (-33), 3) := dk_167 255 223 (dk_at dksX2_covers_1 13 rfl rfl)
theorem dX2_covers_40 : decode cX2_covers 40 = .ok (.iload_n 2, 1) := dk_28 (dk_at dksX2_covers_1 16 rfl rfl)
theorem dX2_covers_41 : decode cX2_covers 41 = .ok (.ireturn, 1) := dk_172 (dk_at dksX2_covers_1 17 rfl rfl)
theorem q58 : (Jvm.Cond.initialized "KindNets$Kind") ∈ lw_all := lw_g (lw_at lw_m1 3 rfl) rfl
theorem q79 : (Jvm.Cond.instantiable "KindNets$Kind" (2 : Nat)) ∈ lw_all := lw_g (lw_at lw_m1 24 rfl) rfl
theorem q81 : (Jvm.Cond.instanceMethod ({ cls := "KindNets$Kind", name := "<init>", desc := "()V" } : Jvm.MethodName)) ∈ lw_all := lw_g (lw_at lw_m1 26 rfl) rfl
theorem q82 : (Jvm.Cond.code ({ cls := "KindNets$Kind", name := "<init>", desc := "()V" } : Jvm.MethodName) prog_2_method_1_code (1 : Nat) (Option.none : Option Jvm.ClassFile.FieldType)) ∈ lw_all := lw_g (lw_at lw_m1 27 rfl) rfl
theorem q83 : (Jvm.Cond.methodLink "KindNets$Kind" (3 : Nat) ({ cls := "java/lang/Object", name := "<init>", desc := "()V" } : Jvm.MethodName)) ∈ lw_all := lw_g (lw_at lw_m1 28 rfl) rfl
theorem q84 : (Jvm.Cond.fieldLink "KindNets$Kind" (15 : Nat) "KindNets$Kind" "sign" "C") ∈ lw_all := lw_g (lw_at lw_m1 29 rfl) rfl
theorem q87 : (Jvm.Cond.fieldLink "KindNets$Kind" (9 : Nat) "KindNets$Kind" "part" "[I") ∈ lw_all := lw_g (lw_at lw_m1 32 rfl) rfl
theorem q90 : (Jvm.Cond.lays "KindNets$Kind" "KindNets$Kind" "sign" "C") ∈ lw_all := lw_g (lw_at lw_m1 35 rfl) rfl
theorem q91 : (Jvm.Cond.soleField "KindNets$Kind" "sign") ∈ lw_all := lw_g (lw_at lw_m1 36 rfl) rfl
theorem q92 : (Jvm.Cond.laysFinal "KindNets$Kind" "KindNets$Kind" "part" "[I") ∈ lw_all := lw_g (lw_at lw_m1 37 rfl) rfl
theorem q93 : (Jvm.Cond.soleField "KindNets$Kind" "part") ∈ lw_all := lw_g (lw_at lw_m1 38 rfl) rfl
theorem q94 : (Jvm.Cond.superclass "KindNets$Kind" "java/lang/Object") ∈ lw_all := lw_g (lw_at lw_m1 39 rfl) rfl
theorem q239 : (Jvm.Cond.instanceMethod ({ cls := "KindNets$Kind", name := "isNamed", desc := "()Z" } : Jvm.MethodName)) ∈ lw_all := lw_g (lw_at lw_m1 184 rfl) rfl
theorem q240 : (Jvm.Cond.selects "KindNets$Kind" ({ cls := "KindNets$Kind", name := "isNamed", desc := "()Z" } : Jvm.MethodName) ({ cls := "KindNets$Kind", name := "isNamed", desc := "()Z" } : Jvm.MethodName)) ∈ lw_all := lw_g (lw_at lw_m1 185 rfl) rfl
theorem q241 : (Jvm.Cond.code ({ cls := "KindNets$Kind", name := "isNamed", desc := "()Z" } : Jvm.MethodName) prog_2_method_5_code (1 : Nat) (Option.some Jvm.ClassFile.FieldType.boolean)) ∈ lw_all := lw_g (lw_at lw_m1 186 rfl) rfl
theorem q260 : (Jvm.Cond.instanceMethod ({ cls := "KindNets$Kind", name := "open", desc := "(I)V" } : Jvm.MethodName)) ∈ lw_all := lw_g (lw_at lw_m1 205 rfl) rfl
theorem q261 : (Jvm.Cond.selects "KindNets$Kind" ({ cls := "KindNets$Kind", name := "open", desc := "(I)V" } : Jvm.MethodName) ({ cls := "KindNets$Kind", name := "open", desc := "(I)V" } : Jvm.MethodName)) ∈ lw_all := lw_g (lw_at lw_m1 206 rfl) rfl
theorem q262 : (Jvm.Cond.code ({ cls := "KindNets$Kind", name := "open", desc := "(I)V" } : Jvm.MethodName) prog_2_method_2_code (3 : Nat) (Option.none : Option Jvm.ClassFile.FieldType)) ∈ lw_all := lw_g (lw_at lw_m1 207 rfl) rfl
theorem q317 : (Jvm.Cond.instanceMethod ({ cls := "KindNets$Kind", name := "many", desc := "()I" } : Jvm.MethodName)) ∈ lw_all := lw_g (lw_at lw_m2 22 rfl) rfl
theorem q318 : (Jvm.Cond.selects "KindNets$Kind" ({ cls := "KindNets$Kind", name := "many", desc := "()I" } : Jvm.MethodName) ({ cls := "KindNets$Kind", name := "many", desc := "()I" } : Jvm.MethodName)) ∈ lw_all := lw_g (lw_at lw_m2 23 rfl) rfl
theorem q319 : (Jvm.Cond.code ({ cls := "KindNets$Kind", name := "many", desc := "()I" } : Jvm.MethodName) prog_2_method_4_code (3 : Nat) (Option.some Jvm.ClassFile.FieldType.int)) ∈ lw_all := lw_g (lw_at lw_m2 24 rfl) rfl
theorem q320 : (Jvm.Cond.methodLink "KindNets$Kind" (19 : Nat) ({ cls := "KindNets$Kind", name := "has", desc := "(I)Z" } : Jvm.MethodName)) ∈ lw_all := lw_g (lw_at lw_m2 25 rfl) rfl
theorem q321 : (Jvm.Cond.instanceMethod ({ cls := "KindNets$Kind", name := "has", desc := "(I)Z" } : Jvm.MethodName)) ∈ lw_all := lw_g (lw_at lw_m2 26 rfl) rfl
theorem q322 : (Jvm.Cond.selects "KindNets$Kind" ({ cls := "KindNets$Kind", name := "has", desc := "(I)Z" } : Jvm.MethodName) ({ cls := "KindNets$Kind", name := "has", desc := "(I)Z" } : Jvm.MethodName)) ∈ lw_all := lw_g (lw_at lw_m2 27 rfl) rfl
theorem q323 : (Jvm.Cond.code ({ cls := "KindNets$Kind", name := "has", desc := "(I)Z" } : Jvm.MethodName) prog_2_method_3_code (2 : Nat) (Option.some Jvm.ClassFile.FieldType.boolean)) ∈ lw_all := lw_g (lw_at lw_m2 28 rfl) rfl
theorem q341 : (Jvm.Cond.instanceMethod ({ cls := "KindNets$Kind", name := "covers", desc := "(LKindNets$Kind;)Z" } : Jvm.MethodName)) ∈ lw_all := lw_g (lw_at lw_m2 46 rfl) rfl
theorem q342 : (Jvm.Cond.selects "KindNets$Kind" ({ cls := "KindNets$Kind", name := "covers", desc := "(LKindNets$Kind;)Z" } : Jvm.MethodName) ({ cls := "KindNets$Kind", name := "covers", desc := "(LKindNets$Kind;)Z" } : Jvm.MethodName)) ∈ lw_all := lw_g (lw_at lw_m2 47 rfl) rfl
theorem q343 : (Jvm.Cond.code ({ cls := "KindNets$Kind", name := "covers", desc := "(LKindNets$Kind;)Z" } : Jvm.MethodName) prog_2_method_6_code (4 : Nat) (Option.some Jvm.ClassFile.FieldType.boolean)) ∈ lw_all := lw_g (lw_at lw_m2 48 rfl) rfl
theorem in_X2 : ∀ w ∈ wsX20, w ∈ lw_all := lw_in wsX20 [90, 92] (by decide +kernel) (by decide +kernel)
