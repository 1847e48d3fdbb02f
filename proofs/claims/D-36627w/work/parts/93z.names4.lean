/-! java/lang/Number -/
set_option maxRecDepth 100000
def RJ15 : String := "java/lang/Number"
abbrev cJ15_init : ByteArray := prog_22_method_1_code
def yJ15_init : MethodName := ⟨RJ15, "<init>", "()V"⟩
theorem dJ15_init_0 : decode cJ15_init 0 = .ok (.aload_n 0, 1) := by decide +kernel
theorem dJ15_init_1 : decode cJ15_init 1 = .ok (.invokespecial 1, 3) := by decide +kernel
theorem dJ15_init_4 : decode cJ15_init 4 = .ok (.return_, 1) := by decide +kernel
theorem q90 : (Jvm.Cond.initialized "java/lang/Number") ∈ lw_all := lw_g (lw_at lw_m1 21 rfl) rfl
theorem q491 : (Jvm.Cond.instanceMethod ({ cls := "java/lang/Number", name := "<init>", desc := "()V" } : Jvm.MethodName)) ∈ lw_all := lw_g (lw_at lw_m2 182 rfl) rfl
theorem q492 : (Jvm.Cond.code ({ cls := "java/lang/Number", name := "<init>", desc := "()V" } : Jvm.MethodName) prog_22_method_1_code (1 : Nat) (Option.none : Option Jvm.ClassFile.FieldType)) ∈ lw_all := lw_g (lw_at lw_m2 183 rfl) rfl
theorem q493 : (Jvm.Cond.methodLink "java/lang/Number" (1 : Nat) ({ cls := "java/lang/Object", name := "<init>", desc := "()V" } : Jvm.MethodName)) ∈ lw_all := lw_g (lw_at lw_m2 184 rfl) rfl
abbrev cJ16_shiftLeftImplWorker : ByteArray := prog_32_method_103_code
def yJ16_shiftLeftImplWorker : MethodName := ⟨RJ16, "shiftLeftImplWorker", "([I[IIII)V"⟩
def dkwJ16_shiftLeftImplWorker_1 : List UInt8 := [132, 6, 1, 46, 29, 120, 43, 21, 6, 46, 21, 5, 124, 128, 79, 167, 255, 226, 177]
abbrev dktJ16_shiftLeftImplWorker_1 : List UInt8 := dkwJ16_shiftLeftImplWorker_1 ++ []
def dkwJ16_shiftLeftImplWorker_0 : List UInt8 := [16, 32, 29, 100, 54, 5, 3, 54, 6, 21, 6, 21, 4, 162, 0, 29, 42, 28, 132, 2, 1, 43, 21, 6]
abbrev dktJ16_shiftLeftImplWorker_0 : List UInt8 := dkwJ16_shiftLeftImplWorker_0 ++ dktJ16_shiftLeftImplWorker_1
theorem dksJ16_shiftLeftImplWorker_0 : cJ16_shiftLeftImplWorker.data.toList.drop 0 = dktJ16_shiftLeftImplWorker_0 := by decide +kernel
theorem dksJ16_shiftLeftImplWorker_1 : cJ16_shiftLeftImplWorker.data.toList.drop 24 = dktJ16_shiftLeftImplWorker_1 := dk_seg dksJ16_shiftLeftImplWorker_0 24 rfl rfl
theorem dJ16_shiftLeftImplWorker_0 : decode cJ16_shiftLeftImplWorker 0 = .ok (.bipush 32, 2) := dk_16 32 (dk_at dksJ16_shiftLeftImplWorker_0 0 rfl rfl)
theorem dJ16_shiftLeftImplWorker_2 : decode cJ16_shiftLeftImplWorker 2 = .ok (.iload_n 3, 1) := dk_29 (dk_at dksJ16_shiftLeftImplWorker_0 2 rfl rfl)
theorem dJ16_shiftLeftImplWorker_3 : decode cJ16_shiftLeftImplWorker 3 = .ok (.isub, 1) := dk_100 (dk_at dksJ16_shiftLeftImplWorker_0 3 rfl rfl)
theorem dJ16_shiftLeftImplWorker_4 : decode cJ16_shiftLeftImplWorker 4 = .ok (.istore 5, 2) := dk_54 5 (dk_at dksJ16_shiftLeftImplWorker_0 4 rfl rfl)
theorem dJ16_shiftLeftImplWorker_6 : decode cJ16_shiftLeftImplWorker 6 = .ok (.iconst 0, 1) := dk_3 (dk_at dksJ16_shiftLeftImplWorker_0 6 rfl rfl)
theorem dJ16_shiftLeftImplWorker_7 : decode cJ16_shiftLeftImplWorker 7 = .ok (.istore 6, 2) := dk_54 6 (dk_at dksJ16_shiftLeftImplWorker_0 7 rfl rfl)
theorem dJ16_shiftLeftImplWorker_9 : decode cJ16_shiftLeftImplWorker 9 = .ok (.iload 6, 2) := dk_21 6 (dk_at dksJ16_shiftLeftImplWorker_0 9 rfl rfl)
theorem dJ16_shiftLeftImplWorker_11 : decode cJ16_shiftLeftImplWorker 11 = .ok (.iload 4, 2) := dk_21 4 (dk_at dksJ16_shiftLeftImplWorker_0 11 rfl rfl)
theorem dJ16_shiftLeftImplWorker_13 : decode cJ16_shiftLeftImplWorker 13 = .ok (.if_icmp .ge 29, 3) := dk_162 0 29 (dk_at dksJ16_shiftLeftImplWorker_0 13 rfl rfl)
theorem dJ16_shiftLeftImplWorker_16 : decode cJ16_shiftLeftImplWorker 16 = .ok (.aload_n 0, 1) := dk_42 (dk_at dksJ16_shiftLeftImplWorker_0 16 rfl rfl)
theorem dJ16_shiftLeftImplWorker_17 : decode cJ16_shiftLeftImplWorker 17 = .ok (.iload_n 2, 1) := dk_28 (dk_at dksJ16_shiftLeftImplWorker_0 17 rfl rfl)
theorem dJ16_shiftLeftImplWorker_18 : decode cJ16_shiftLeftImplWorker 18 = .ok (.iinc 2 1, 3) := dk_132 2 1 (dk_at dksJ16_shiftLeftImplWorker_0 18 rfl rfl)
theorem dJ16_shiftLeftImplWorker_21 : decode cJ16_shiftLeftImplWorker 21 = .ok (.aload_n 1, 1) := dk_43 (dk_at dksJ16_shiftLeftImplWorker_0 21 rfl rfl)
theorem dJ16_shiftLeftImplWorker_22 : decode cJ16_shiftLeftImplWorker 22 = .ok (.iload 6, 2) := dk_21 6 (dk_at dksJ16_shiftLeftImplWorker_0 22 rfl rfl)
theorem dJ16_shiftLeftImplWorker_24 : decode cJ16_shiftLeftImplWorker 24 = .ok (.iinc 6 1, 3) := dk_132 6 1 (dk_at dksJ16_shiftLeftImplWorker_1 0 rfl rfl)
theorem dJ16_shiftLeftImplWorker_27 : decode cJ16_shiftLeftImplWorker 27 = .ok (.iaload, 1) := dk_46 (dk_at dksJ16_shiftLeftImplWorker_1 3 rfl rfl)
theorem dJ16_shiftLeftImplWorker_28 : decode cJ16_shiftLeftImplWorker 28 = .ok (.iload_n 3, 1) := dk_29 (dk_at dksJ16_shiftLeftImplWorker_1 4 rfl rfl)
theorem dJ16_shiftLeftImplWorker_29 : decode cJ16_shiftLeftImplWorker 29 = .ok (.ishl, 1) := dk_120 (dk_at dksJ16_shiftLeftImplWorker_1 5 rfl rfl)
theorem dJ16_shiftLeftImplWorker_30 : decode cJ16_shiftLeftImplWorker 30 = .ok (.aload_n 1, 1) := dk_43 (dk_at dksJ16_shiftLeftImplWorker_1 6 rfl rfl)
theorem dJ16_shiftLeftImplWorker_31 : decode cJ16_shiftLeftImplWorker 31 = .ok (.iload 6, 2) := dk_21 6 (dk_at dksJ16_shiftLeftImplWorker_1 7 rfl rfl)
theorem dJ16_shiftLeftImplWorker_33 : decode cJ16_shiftLeftImplWorker 33 = .ok (.iaload, 1) := dk_46 (dk_at dksJ16_shiftLeftImplWorker_1 9 rfl rfl)
theorem dJ16_shiftLeftImplWorker_34 : decode cJ16_shiftLeftImplWorker 34 = .ok (.iload 5, 2) := dk_21 5 (dk_at dksJ16_shiftLeftImplWorker_1 10 rfl rfl)
theorem dJ16_shiftLeftImplWorker_36 : decode cJ16_shiftLeftImplWorker 36 = .ok (.iushr, 1) := dk_124 (dk_at dksJ16_shiftLeftImplWorker_1 12 rfl rfl)
theorem dJ16_shiftLeftImplWorker_37 : decode cJ16_shiftLeftImplWorker 37 = .ok (.ior, 1) := dk_128 (dk_at dksJ16_shiftLeftImplWorker_1 13 rfl rfl)
theorem dJ16_shiftLeftImplWorker_38 : decode cJ16_shiftLeftImplWorker 38 = .ok (.iastore, 1) := dk_79 (dk_at dksJ16_shiftLeftImplWorker_1 14 rfl rfl)
theorem dJ16_shiftLeftImplWorker_39 : decode cJ16_shiftLeftImplWorker 39 = .ok (.goto (-30), 3) := dk_167 255 226 (dk_at dksJ16_shiftLeftImplWorker_1 15 rfl rfl)
theorem dJ16_shiftLeftImplWorker_42 : decode cJ16_shiftLeftImplWorker 42 = .ok (.return_, 1) := dk_177 (dk_at dksJ16_shiftLeftImplWorker_1 18 rfl rfl)
