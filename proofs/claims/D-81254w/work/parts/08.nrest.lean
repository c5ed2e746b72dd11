/-! java/lang/Math -/
set_option maxRecDepth 100000
def RJ0 : String := "java/lang/Math"
abbrev cJ0_min : ByteArray := prog_7_method_70_code
def yJ0_min : MethodName := ⟨RJ0, "min", "(JJ)J"⟩
def dkwJ0_min_0 : List UInt8 := [30, 32, 148, 157, 0, 7, 30, 167, 0, 4, 32, 173]
abbrev dktJ0_min_0 : List UInt8 := dkwJ0_min_0 ++ []
theorem dksJ0_min_0 : cJ0_min.data.toList.drop 0 = dktJ0_min_0 := by decide +kernel
theorem dJ0_min_0 : decode cJ0_min 0 = .ok (.lload_n 0, 1) := dk_30 (dk_at dksJ0_min_0 0 rfl rfl)
theorem dJ0_min_1 : decode cJ0_min 1 = .ok (.lload_n 2, 1) := dk_32 (dk_at dksJ0_min_0 1 rfl rfl)
theorem dJ0_min_2 : decode cJ0_min 2 = .ok (.lcmp, 1) := dk_148 (dk_at dksJ0_min_0 2 rfl rfl)
theorem dJ0_min_3 : decode cJ0_min 3 = .ok (.ifCond .gt 7, 3) := dk_157 0 7 (dk_at dksJ0_min_0 3 rfl rfl)
theorem dJ0_min_6 : decode cJ0_min 6 = .ok (.lload_n 0, 1) := dk_30 (dk_at dksJ0_min_0 6 rfl rfl)
theorem dJ0_min_7 : decode cJ0_min 7 = .ok (.goto 4, 3) := dk_167 0 4 (dk_at dksJ0_min_0 7 rfl rfl)
theorem dJ0_min_10 : decode cJ0_min 10 = .ok (.lload_n 2, 1) := dk_32 (dk_at dksJ0_min_0 10 rfl rfl)
theorem dJ0_min_11 : decode cJ0_min 11 = .ok (.lreturn, 1) := dk_173 (dk_at dksJ0_min_0 11 rfl rfl)
abbrev cJ0_min_2 : ByteArray := prog_7_method_69_code
def yJ0_min_2 : MethodName := ⟨RJ0, "min", "(II)I"⟩
def dkwJ0_min_2_0 : List UInt8 := [26, 27, 163, 0, 7, 26, 167, 0, 4, 27, 172]
abbrev dktJ0_min_2_0 : List UInt8 := dkwJ0_min_2_0 ++ []
theorem dksJ0_min_2_0 : cJ0_min_2.data.toList.drop 0 = dktJ0_min_2_0 := by decide +kernel
theorem dJ0_min_2_0 : decode cJ0_min_2 0 = .ok (.iload_n 0, 1) := dk_26 (dk_at dksJ0_min_2_0 0 rfl rfl)
theorem dJ0_min_2_1 : decode cJ0_min_2 1 = .ok (.iload_n 1, 1) := dk_27 (dk_at dksJ0_min_2_0 1 rfl rfl)
theorem dJ0_min_2_2 : decode cJ0_min_2 2 = .ok (.if_icmp .gt 7, 3) := dk_163 0 7 (dk_at dksJ0_min_2_0 2 rfl rfl)
theorem dJ0_min_2_5 : decode cJ0_min_2 5 = .ok (.iload_n 0, 1) := dk_26 (dk_at dksJ0_min_2_0 5 rfl rfl)
theorem dJ0_min_2_6 : decode cJ0_min_2 6 = .ok (.goto 4, 3) := dk_167 0 4 (dk_at dksJ0_min_2_0 6 rfl rfl)
theorem dJ0_min_2_9 : decode cJ0_min_2 9 = .ok (.iload_n 1, 1) := dk_27 (dk_at dksJ0_min_2_0 9 rfl rfl)
theorem dJ0_min_2_10 : decode cJ0_min_2 10 = .ok (.ireturn, 1) := dk_172 (dk_at dksJ0_min_2_0 10 rfl rfl)
theorem q61 : (Jvm.Cond.initialized "java/lang/Math") ∈ lw_all := lw_g (lw_at lw_m1 6 rfl) rfl
theorem q479 : (Jvm.Cond.static ({ cls := "java/lang/Math", name := "min", desc := "(JJ)J" } : Jvm.MethodName)) ∈ lw_all := lw_g (lw_at lw_m2 184 rfl) rfl
theorem q480 : (Jvm.Cond.code ({ cls := "java/lang/Math", name := "min", desc := "(JJ)J" } : Jvm.MethodName) prog_7_method_70_code (4 : Nat) (Option.some Jvm.ClassFile.FieldType.long)) ∈ lw_all := lw_g (lw_at lw_m2 185 rfl) rfl
theorem q498 : (Jvm.Cond.static ({ cls := "java/lang/Math", name := "min", desc := "(II)I" } : Jvm.MethodName)) ∈ lw_all := lw_g (lw_at lw_m2 203 rfl) rfl
theorem q499 : (Jvm.Cond.code ({ cls := "java/lang/Math", name := "min", desc := "(II)I" } : Jvm.MethodName) prog_7_method_69_code (2 : Nat) (Option.some Jvm.ClassFile.FieldType.int)) ∈ lw_all := lw_g (lw_at lw_m2 204 rfl) rfl
/-! java/lang/Object -/
set_option maxRecDepth 100000
def RJ1 : String := "java/lang/Object"
abbrev cJ1_init : ByteArray := object_method_1_code
def yJ1_init : MethodName := ⟨RJ1, "<init>", "()V"⟩
theorem dJ1_init_0 : decode cJ1_init 0 = .ok (.return_, 1) := by decide +kernel
theorem q68 : (Jvm.Cond.instanceMethod ({ cls := "java/lang/Object", name := "<init>", desc := "()V" } : Jvm.MethodName)) ∈ lw_all := lw_g (lw_at lw_m1 13 rfl) rfl
theorem q69 : (Jvm.Cond.code ({ cls := "java/lang/Object", name := "<init>", desc := "()V" } : Jvm.MethodName) object_method_1_code (1 : Nat) (Option.none : Option Jvm.ClassFile.FieldType)) ∈ lw_all := lw_g (lw_at lw_m1 14 rfl) rfl
theorem q71 : (Jvm.Cond.arrayOver (Jvm.ClassFile.FieldType.object "KindNets$Kind")) ∈ lw_tbl := lw_at lw_m1 16 rfl
set_option maxRecDepth 100000
theorem q95 : (Jvm.Cond.arrayClass Jvm.ClassFile.FieldType.int) ∈ lw_all := lw_g (lw_at lw_m1 40 rfl) rfl
theorem q96 : (Jvm.Cond.arrayClass Jvm.ClassFile.FieldType.char) ∈ lw_all := lw_g (lw_at lw_m1 41 rfl) rfl
theorem q126 : (Jvm.Cond.arrayOver (Jvm.ClassFile.FieldType.array Jvm.ClassFile.FieldType.int)) ∈ lw_tbl := lw_at lw_m1 71 rfl
theorem q157 : (Jvm.Cond.arrayClass Jvm.ClassFile.FieldType.boolean) ∈ lw_all := lw_g (lw_at lw_m1 102 rfl) rfl
theorem q159 : (Jvm.Cond.arrayOver (Jvm.ClassFile.FieldType.array Jvm.ClassFile.FieldType.long)) ∈ lw_tbl := lw_at lw_m1 104 rfl
theorem q216 : (Jvm.Cond.arrayClass Jvm.ClassFile.FieldType.long) ∈ lw_all := lw_g (lw_at lw_m1 161 rfl) rfl
theorem q55 : (Jvm.Cond.initialized "KindNetsLaw") ∈ lw_all := lw_g (lw_at lw_m1 0 rfl) rfl
set_option maxRecDepth 100000
theorem q62 : (Jvm.Cond.classLink "KindNetsLaw" (7 : Nat) "KindNets") ∈ lw_all := lw_g (lw_at lw_m1 7 rfl) rfl
theorem q64 : (Jvm.Cond.methodLink "KindNetsLaw" (9 : Nat) ({ cls := "KindNets", name := "<init>", desc := "()V" } : Jvm.MethodName)) ∈ lw_all := lw_g (lw_at lw_m1 9 rfl) rfl
theorem q217 : (Jvm.Cond.methodLink "KindNetsLaw" (13 : Nat) ({ cls := "KindNets", name := "say", desc := "(I)I" } : Jvm.MethodName)) ∈ lw_all := lw_g (lw_at lw_m1 162 rfl) rfl
theorem q226 : (Jvm.Cond.methodLink "KindNetsLaw" (18 : Nat) ({ cls := "KindNets", name := "wipe", desc := "()I" } : Jvm.MethodName)) ∈ lw_all := lw_g (lw_at lw_m1 171 rfl) rfl
theorem q230 : (Jvm.Cond.methodLink "KindNetsLaw" (23 : Nat) ({ cls := "KindNets", name := "fault", desc := "()I" } : Jvm.MethodName)) ∈ lw_all := lw_g (lw_at lw_m1 175 rfl) rfl
theorem q277 : (Jvm.Cond.methodLink "KindNetsLaw" (27 : Nat) ({ cls := "KindNets", name := "take", desc := "()I" } : Jvm.MethodName)) ∈ lw_all := lw_g (lw_at lw_m1 222 rfl) rfl
theorem q301 : (Jvm.Cond.methodLink "KindNetsLaw" (31 : Nat) ({ cls := "KindNets", name := "name", desc := "(I)I" } : Jvm.MethodName)) ∈ lw_all := lw_g (lw_at lw_m2 6 rfl) rfl
theorem q306 : (Jvm.Cond.methodLink "KindNetsLaw" (35 : Nat) ({ cls := "KindNets", name := "node", desc := "(II)I" } : Jvm.MethodName)) ∈ lw_all := lw_g (lw_at lw_m2 11 rfl) rfl
theorem q324 : (Jvm.Cond.methodLink "KindNetsLaw" (40 : Nat) ({ cls := "KindNets", name := "may", desc := "(II)I" } : Jvm.MethodName)) ∈ lw_all := lw_g (lw_at lw_m2 29 rfl) rfl
theorem q354 : (Jvm.Cond.methodLink "KindNetsLaw" (44 : Nat) ({ cls := "KindNets", name := "way", desc := "(III)I" } : Jvm.MethodName)) ∈ lw_all := lw_g (lw_at lw_m2 59 rfl) rfl
theorem q362 : (Jvm.Cond.methodLink "KindNetsLaw" (49 : Nat) ({ cls := "KindNets", name := "end", desc := "(II)I" } : Jvm.MethodName)) ∈ lw_all := lw_g (lw_at lw_m2 67 rfl) rfl
theorem q366 : (Jvm.Cond.methodLink "KindNetsLaw" (53 : Nat) ({ cls := "KindNets", name := "alike", desc := "(II)I" } : Jvm.MethodName)) ∈ lw_all := lw_g (lw_at lw_m2 71 rfl) rfl
theorem q374 : (Jvm.Cond.methodLink "KindNetsLaw" (57 : Nat) ({ cls := "KindNets", name := "pieces", desc := "(I)I" } : Jvm.MethodName)) ∈ lw_all := lw_g (lw_at lw_m2 79 rfl) rfl
theorem q382 : (Jvm.Cond.methodLink "KindNetsLaw" (61 : Nat) ({ cls := "KindNets", name := "join", desc := "(III)I" } : Jvm.MethodName)) ∈ lw_all := lw_g (lw_at lw_m2 87 rfl) rfl
theorem q394 : (Jvm.Cond.methodLink "KindNetsLaw" (65 : Nat) ({ cls := "KindNets", name := "slip", desc := "()I" } : Jvm.MethodName)) ∈ lw_all := lw_g (lw_at lw_m2 99 rfl) rfl
theorem q433 : (Jvm.Cond.methodLink "KindNetsLaw" (69 : Nat) ({ cls := "KindNets", name := "fits", desc := "(I)I" } : Jvm.MethodName)) ∈ lw_all := lw_g (lw_at lw_m2 138 rfl) rfl
theorem q454 : (Jvm.Cond.methodLink "KindNetsLaw" (73 : Nat) ({ cls := "KindNets", name := "size", desc := "()I" } : Jvm.MethodName)) ∈ lw_all := lw_g (lw_at lw_m2 159 rfl) rfl
theorem q458 : (Jvm.Cond.methodLink "KindNetsLaw" (77 : Nat) ({ cls := "KindNets", name := "count", desc := "(II)I" } : Jvm.MethodName)) ∈ lw_all := lw_g (lw_at lw_m2 163 rfl) rfl
theorem q485 : (Jvm.Cond.methodLink "KindNetsLaw" (81 : Nat) ({ cls := "KindNets", name := "least", desc := "(I)I" } : Jvm.MethodName)) ∈ lw_all := lw_g (lw_at lw_m2 190 rfl) rfl
theorem q500 : (Jvm.Cond.methodLink "KindNetsLaw" (85 : Nat) ({ cls := "KindNets", name := "told", desc := "(I)I" } : Jvm.MethodName)) ∈ lw_all := lw_g (lw_at lw_m2 205 rfl) rfl
theorem q504 : (Jvm.Cond.classLink "KindNetsLaw" (10 : Nat) "KindNetsModel") ∈ lw_all := lw_g (lw_at lw_m2 209 rfl) rfl
theorem q506 : (Jvm.Cond.methodLink "KindNetsLaw" (12 : Nat) ({ cls := "KindNetsModel", name := "<init>", desc := "()V" } : Jvm.MethodName)) ∈ lw_all := lw_g (lw_at lw_m2 211 rfl) rfl
theorem q613 : (Jvm.Cond.methodLink "KindNetsLaw" (17 : Nat) ({ cls := "KindNetsModel", name := "say", desc := "(I)I" } : Jvm.MethodName)) ∈ lw_all := lw_g (lw_at lw_m3 78 rfl) rfl
theorem q620 : (Jvm.Cond.methodLink "KindNetsLaw" (22 : Nat) ({ cls := "KindNetsModel", name := "wipe", desc := "()I" } : Jvm.MethodName)) ∈ lw_all := lw_g (lw_at lw_m3 85 rfl) rfl
theorem q624 : (Jvm.Cond.methodLink "KindNetsLaw" (26 : Nat) ({ cls := "KindNetsModel", name := "fault", desc := "()I" } : Jvm.MethodName)) ∈ lw_all := lw_g (lw_at lw_m3 89 rfl) rfl
theorem q640 : (Jvm.Cond.methodLink "KindNetsLaw" (30 : Nat) ({ cls := "KindNetsModel", name := "take", desc := "()I" } : Jvm.MethodName)) ∈ lw_all := lw_g (lw_at lw_m3 105 rfl) rfl
theorem q648 : (Jvm.Cond.methodLink "KindNetsLaw" (34 : Nat) ({ cls := "KindNetsModel", name := "name", desc := "(I)I" } : Jvm.MethodName)) ∈ lw_all := lw_g (lw_at lw_m3 113 rfl) rfl
theorem q652 : (Jvm.Cond.methodLink "KindNetsLaw" (39 : Nat) ({ cls := "KindNetsModel", name := "node", desc := "(II)I" } : Jvm.MethodName)) ∈ lw_all := lw_g (lw_at lw_m3 117 rfl) rfl
theorem q664 : (Jvm.Cond.methodLink "KindNetsLaw" (43 : Nat) ({ cls := "KindNetsModel", name := "may", desc := "(II)I" } : Jvm.MethodName)) ∈ lw_all := lw_g (lw_at lw_m3 129 rfl) rfl
theorem q688 : (Jvm.Cond.methodLink "KindNetsLaw" (48 : Nat) ({ cls := "KindNetsModel", name := "way", desc := "(III)I" } : Jvm.MethodName)) ∈ lw_all := lw_g (lw_at lw_m3 153 rfl) rfl
theorem q696 : (Jvm.Cond.methodLink "KindNetsLaw" (52 : Nat) ({ cls := "KindNetsModel", name := "end", desc := "(II)I" } : Jvm.MethodName)) ∈ lw_all := lw_g (lw_at lw_m3 161 rfl) rfl
theorem q700 : (Jvm.Cond.methodLink "KindNetsLaw" (56 : Nat) ({ cls := "KindNetsModel", name := "alike", desc := "(II)I" } : Jvm.MethodName)) ∈ lw_all := lw_g (lw_at lw_m3 165 rfl) rfl
theorem q708 : (Jvm.Cond.methodLink "KindNetsLaw" (60 : Nat) ({ cls := "KindNetsModel", name := "pieces", desc := "(I)I" } : Jvm.MethodName)) ∈ lw_all := lw_g (lw_at lw_m3 173 rfl) rfl
theorem q712 : (Jvm.Cond.methodLink "KindNetsLaw" (64 : Nat) ({ cls := "KindNetsModel", name := "join", desc := "(III)I" } : Jvm.MethodName)) ∈ lw_all := lw_g (lw_at lw_m3 177 rfl) rfl
theorem q728 : (Jvm.Cond.methodLink "KindNetsLaw" (68 : Nat) ({ cls := "KindNetsModel", name := "slip", desc := "()I" } : Jvm.MethodName)) ∈ lw_all := lw_g (lw_at lw_m3 193 rfl) rfl
theorem q736 : (Jvm.Cond.methodLink "KindNetsLaw" (76 : Nat) ({ cls := "KindNetsModel", name := "size", desc := "()I" } : Jvm.MethodName)) ∈ lw_all := lw_g (lw_at lw_m3 201 rfl) rfl
theorem q740 : (Jvm.Cond.methodLink "KindNetsLaw" (72 : Nat) ({ cls := "KindNetsModel", name := "fits", desc := "(I)I" } : Jvm.MethodName)) ∈ lw_all := lw_g (lw_at lw_m3 205 rfl) rfl
theorem q752 : (Jvm.Cond.methodLink "KindNetsLaw" (80 : Nat) ({ cls := "KindNetsModel", name := "count", desc := "(II)I" } : Jvm.MethodName)) ∈ lw_all := lw_g (lw_at lw_m3 217 rfl) rfl
theorem q775 : (Jvm.Cond.methodLink "KindNetsLaw" (84 : Nat) ({ cls := "KindNetsModel", name := "least", desc := "(I)I" } : Jvm.MethodName)) ∈ lw_all := lw_g (lw_at lw_m4 0 rfl) rfl
theorem q783 : (Jvm.Cond.methodLink "KindNetsLaw" (88 : Nat) ({ cls := "KindNetsModel", name := "told", desc := "(I)I" } : Jvm.MethodName)) ∈ lw_all := lw_g (lw_at lw_m4 8 rfl) rfl
