/-! java/lang/Object -/
set_option maxRecDepth 100000
def RJ29 : String := "java/lang/Object"
abbrev cJ29_init : ByteArray := object_method_1_code
def yJ29_init : MethodName := ⟨RJ29, "<init>", "()V"⟩
theorem dJ29_init_0 : decode cJ29_init 0 = .ok (.return_, 1) := by decide +kernel
theorem q111 : (Jvm.Cond.instanceMethod ({ cls := "java/lang/Object", name := "<init>", desc := "()V" } : Jvm.MethodName)) ∈ lw_all := lw_g (lw_at lw_m1 42 rfl) rfl
theorem q112 : (Jvm.Cond.code ({ cls := "java/lang/Object", name := "<init>", desc := "()V" } : Jvm.MethodName) object_method_1_code (1 : Nat) (Option.none : Option Jvm.ClassFile.FieldType)) ∈ lw_all := lw_g (lw_at lw_m1 43 rfl) rfl
theorem q238 : (Jvm.Cond.instanceMethod ({ cls := "java/lang/Object", name := "getClass", desc := "()Ljava/lang/Class;" } : Jvm.MethodName)) ∈ lw_all := lw_g (lw_at lw_m1 169 rfl) rfl
theorem q239 : (Jvm.Cond.sameMethod "java/lang/Object" "java/lang/Object" "getClass" "()Ljava/lang/Class;") ∈ lw_all := lw_g (lw_at lw_m1 170 rfl) rfl
theorem q259 : (Jvm.Cond.native ({ cls := "java/lang/Object", name := "getClass", desc := "()Ljava/lang/Class;" } : Jvm.MethodName)) ∈ lw_all := lw_g (lw_at lw_m1 190 rfl) rfl
theorem q784 : (Jvm.Cond.native ({ cls := "java/lang/Object", name := "clone", desc := "()Ljava/lang/Object;" } : Jvm.MethodName)) ∈ lw_all := lw_g (lw_at lw_m3 235 rfl) rfl
theorem q785 : (Jvm.Cond.instanceMethod ({ cls := "java/lang/Object", name := "clone", desc := "()Ljava/lang/Object;" } : Jvm.MethodName)) ∈ lw_all := lw_g (lw_at lw_m3 236 rfl) rfl
theorem q2168 : (Jvm.Cond.initialized "java/lang/Object") ∈ lw_all := lw_g (lw_at lw_m9 179 rfl) rfl
theorem q2192 : (Jvm.Cond.declares ({ cls := "java/lang/Object", name := "getClass", desc := "()Ljava/lang/Class;" } : Jvm.MethodName)) ∈ lw_tbl := lw_at lw_m9 203 rfl
/-! java/util/ArrayList -/
set_option maxRecDepth 100000
def RJ2 : String := "java/util/ArrayList"
def TJ2 : u_T := fun k => match k with
  | 0 => ("java/util/AbstractList", "modCount", "I", false)
  | 1 => ("java/util/ArrayList", "elementData", "[Ljava/lang/Object;", false)
  | _ => ("java/util/ArrayList", "size", "I", false)
def tyJ2 : Nat → FieldType := fun k => match k with
  | 0 => .int
  | 1 => .array (.object "java/lang/Object")
  | _ => .int
abbrev wsJ20 : List Cond := u_ws RJ2 TJ2 3
theorem nmJ2 : ∀ a, a < 3 → ∀ b, b < 3 → a ≠ b → (TJ2 a).2.1 ≠ (TJ2 b).2.1 := by decide +kernel
theorem tyJ2_ok : ∀ k, k < 3 → parseFieldDescriptor (TJ2 k).2.2.1 = some (tyJ2 k) := by decide +kernel
abbrev cJ2_init : ByteArray := prog_36_method_2_code
def yJ2_init : MethodName := ⟨RJ2, "<init>", "()V"⟩
def dkwJ2_init_0 : List UInt8 := [42, 183, 0, 1, 42, 178, 0, 39, 181, 0, 9, 177]
abbrev dktJ2_init_0 : List UInt8 := dkwJ2_init_0 ++ []
theorem dksJ2_init_0 : cJ2_init.data.toList.drop 0 = dktJ2_init_0 := by decide +kernel
theorem dJ2_init_0 : decode cJ2_init 0 = .ok (.aload_n 0, 1) := dk_42 (dk_at dksJ2_init_0 0 rfl rfl)
theorem dJ2_init_1 : decode cJ2_init 1 = .ok (.invokespecial 1, 3) := dk_183 0 1 (dk_at dksJ2_init_0 1 rfl rfl)
theorem dJ2_init_4 : decode cJ2_init 4 = .ok (.aload_n 0, 1) := dk_42 (dk_at dksJ2_init_0 4 rfl rfl)
theorem dJ2_init_5 : decode cJ2_init 5 = .ok (.getstatic 39, 3) := dk_178 0 39 (dk_at dksJ2_init_0 5 rfl rfl)
theorem dJ2_init_8 : decode cJ2_init 8 = .ok (.putfield 9, 3) := dk_181 0 9 (dk_at dksJ2_init_0 8 rfl rfl)
theorem dJ2_init_11 : decode cJ2_init 11 = .ok (.return_, 1) := dk_177 (dk_at dksJ2_init_0 11 rfl rfl)
abbrev cJ2_size : ByteArray := prog_36_method_8_code
def yJ2_size : MethodName := ⟨RJ2, "size", "()I"⟩
theorem dJ2_size_0 : decode cJ2_size 0 = .ok (.aload_n 0, 1) := by decide +kernel
theorem dJ2_size_1 : decode cJ2_size 1 = .ok (.getfield 48, 3) := by decide +kernel
theorem dJ2_size_4 : decode cJ2_size 4 = .ok (.ireturn, 1) := by decide +kernel
abbrev cJ2_get : ByteArray := prog_36_method_20_code
def yJ2_get : MethodName := ⟨RJ2, "get", "(I)Ljava/lang/Object;"⟩
def dkwJ2_get_0 : List UInt8 := [27, 42, 180, 0, 48, 184, 0, 118, 87, 42, 27, 182, 0, 123, 176]
abbrev dktJ2_get_0 : List UInt8 := dkwJ2_get_0 ++ []
theorem dksJ2_get_0 : cJ2_get.data.toList.drop 0 = dktJ2_get_0 := by decide +kernel
theorem dJ2_get_0 : decode cJ2_get 0 = .ok (.iload_n 1, 1) := dk_27 (dk_at dksJ2_get_0 0 rfl rfl)
theorem dJ2_get_1 : decode cJ2_get 1 = .ok (.aload_n 0, 1) := dk_42 (dk_at dksJ2_get_0 1 rfl rfl)
theorem dJ2_get_2 : decode cJ2_get 2 = .ok (.getfield 48, 3) := dk_180 0 48 (dk_at dksJ2_get_0 2 rfl rfl)
theorem dJ2_get_5 : decode cJ2_get 5 = .ok (.invokestatic 118, 3) := dk_184 0 118 (dk_at dksJ2_get_0 5 rfl rfl)
theorem dJ2_get_8 : decode cJ2_get 8 = .ok (.pop, 1) := dk_87 (dk_at dksJ2_get_0 8 rfl rfl)
theorem dJ2_get_9 : decode cJ2_get 9 = .ok (.aload_n 0, 1) := dk_42 (dk_at dksJ2_get_0 9 rfl rfl)
theorem dJ2_get_10 : decode cJ2_get 10 = .ok (.iload_n 1, 1) := dk_27 (dk_at dksJ2_get_0 10 rfl rfl)
theorem dJ2_get_11 : decode cJ2_get 11 = .ok (.invokevirtual 123, 3) := dk_182 0 123 (dk_at dksJ2_get_0 11 rfl rfl)
theorem dJ2_get_14 : decode cJ2_get 14 = .ok (.areturn, 1) := dk_176 (dk_at dksJ2_get_0 14 rfl rfl)
abbrev cJ2_elementData : ByteArray := prog_36_method_18_code
def yJ2_elementData : MethodName := ⟨RJ2, "elementData", "(I)Ljava/lang/Object;"⟩
def dkwJ2_elementData_0 : List UInt8 := [42, 180, 0, 9, 27, 50, 176]
abbrev dktJ2_elementData_0 : List UInt8 := dkwJ2_elementData_0 ++ []
theorem dksJ2_elementData_0 : cJ2_elementData.data.toList.drop 0 = dktJ2_elementData_0 := by decide +kernel
theorem dJ2_elementData_0 : decode cJ2_elementData 0 = .ok (.aload_n 0, 1) := dk_42 (dk_at dksJ2_elementData_0 0 rfl rfl)
theorem dJ2_elementData_1 : decode cJ2_elementData 1 = .ok (.getfield 9, 3) := dk_180 0 9 (dk_at dksJ2_elementData_0 1 rfl rfl)
theorem dJ2_elementData_4 : decode cJ2_elementData 4 = .ok (.iload_n 1, 1) := dk_27 (dk_at dksJ2_elementData_0 4 rfl rfl)
theorem dJ2_elementData_5 : decode cJ2_elementData 5 = .ok (.aaload, 1) := dk_50 (dk_at dksJ2_elementData_0 5 rfl rfl)
theorem dJ2_elementData_6 : decode cJ2_elementData 6 = .ok (.areturn, 1) := dk_176 (dk_at dksJ2_elementData_0 6 rfl rfl)
abbrev cJ2_remove : ByteArray := prog_36_method_29_code
def yJ2_remove : MethodName := ⟨RJ2, "remove", "(I)Ljava/lang/Object;"⟩
def dkwJ2_remove_1 : List UInt8 := [45, 176]
abbrev dktJ2_remove_1 : List UInt8 := dkwJ2_remove_1 ++ []
def dkwJ2_remove_0 : List UInt8 := [27, 42, 180, 0, 48, 184, 0, 118, 87, 42, 180, 0, 9, 77, 44, 27, 50, 78, 42, 44, 27, 182, 0, 144]
abbrev dktJ2_remove_0 : List UInt8 := dkwJ2_remove_0 ++ dktJ2_remove_1
theorem dksJ2_remove_0 : cJ2_remove.data.toList.drop 0 = dktJ2_remove_0 := by decide +kernel
theorem dksJ2_remove_1 : cJ2_remove.data.toList.drop 24 = dktJ2_remove_1 := dk_seg dksJ2_remove_0 24 rfl rfl
theorem dJ2_remove_0 : decode cJ2_remove 0 = .ok (.iload_n 1, 1) := dk_27 (dk_at dksJ2_remove_0 0 rfl rfl)
theorem dJ2_remove_1 : decode cJ2_remove 1 = .ok (.aload_n 0, 1) := dk_42 (dk_at dksJ2_remove_0 1 rfl rfl)
theorem dJ2_remove_2 : decode cJ2_remove 2 = .ok (.getfield 48, 3) := dk_180 0 48 (dk_at dksJ2_remove_0 2 rfl rfl)
theorem dJ2_remove_5 : decode cJ2_remove 5 = .ok (.invokestatic 118, 3) := dk_184 0 118 (dk_at dksJ2_remove_0 5 rfl rfl)
theorem dJ2_remove_8 : decode cJ2_remove 8 = .ok (.pop, 1) := dk_87 (dk_at dksJ2_remove_0 8 rfl rfl)
theorem dJ2_remove_9 : decode cJ2_remove 9 = .ok (.aload_n 0, 1) := dk_42 (dk_at dksJ2_remove_0 9 rfl rfl)
theorem dJ2_remove_10 : decode cJ2_remove 10 = .ok (.getfield 9, 3) := dk_180 0 9 (dk_at dksJ2_remove_0 10 rfl rfl)
theorem dJ2_remove_13 : decode cJ2_remove 13 = .ok (.astore_n 2, 1) := dk_77 (dk_at dksJ2_remove_0 13 rfl rfl)
theorem dJ2_remove_14 : decode cJ2_remove 14 = .ok (.aload_n 2, 1) := dk_44 (dk_at dksJ2_remove_0 14 rfl rfl)
theorem dJ2_remove_15 : decode cJ2_remove 15 = .ok (.iload_n 1, 1) := dk_27 (dk_at dksJ2_remove_0 15 rfl rfl)
theorem dJ2_remove_16 : decode cJ2_remove 16 = .ok (.aaload, 1) := dk_50 (dk_at dksJ2_remove_0 16 rfl rfl)
theorem dJ2_remove_17 : decode cJ2_remove 17 = .ok (.astore_n 3, 1) := dk_78 (dk_at dksJ2_remove_0 17 rfl rfl)
theorem dJ2_remove_18 : decode cJ2_remove 18 = .ok (.aload_n 0, 1) := dk_42 (dk_at dksJ2_remove_0 18 rfl rfl)
theorem dJ2_remove_19 : decode cJ2_remove 19 = .ok (.aload_n 2, 1) := dk_44 (dk_at dksJ2_remove_0 19 rfl rfl)
theorem dJ2_remove_20 : decode cJ2_remove 20 = .ok (.iload_n 1, 1) := dk_27 (dk_at dksJ2_remove_0 20 rfl rfl)
theorem dJ2_remove_21 : decode cJ2_remove 21 = .ok (.invokevirtual 144, 3) := dk_182 0 144 (dk_at dksJ2_remove_0 21 rfl rfl)
theorem dJ2_remove_24 : decode cJ2_remove 24 = .ok (.aload_n 3, 1) := dk_45 (dk_at dksJ2_remove_1 0 rfl rfl)
theorem dJ2_remove_25 : decode cJ2_remove 25 = .ok (.areturn, 1) := dk_176 (dk_at dksJ2_remove_1 1 rfl rfl)
abbrev cJ2_fastRemove : ByteArray := prog_36_method_39_code
def yJ2_fastRemove : MethodName := ⟨RJ2, "fastRemove", "([Ljava/lang/Object;I)V"⟩
def dkwJ2_fastRemove_1 : List UInt8 := [4, 96, 43, 28, 29, 28, 100, 184, 0, 112, 43, 42, 29, 90, 181, 0, 48, 1, 83, 177]
abbrev dktJ2_fastRemove_1 : List UInt8 := dkwJ2_fastRemove_1 ++ []
def dkwJ2_fastRemove_0 : List UInt8 := [42, 89, 180, 0, 63, 4, 96, 181, 0, 63, 42, 180, 0, 48, 4, 100, 89, 62, 28, 164, 0, 15, 43, 28]
abbrev dktJ2_fastRemove_0 : List UInt8 := dkwJ2_fastRemove_0 ++ dktJ2_fastRemove_1
theorem dksJ2_fastRemove_0 : cJ2_fastRemove.data.toList.drop 0 = dktJ2_fastRemove_0 := by decide +kernel
theorem dksJ2_fastRemove_1 : cJ2_fastRemove.data.toList.drop 24 = dktJ2_fastRemove_1 := dk_seg dksJ2_fastRemove_0 24 rfl rfl
theorem dJ2_fastRemove_0 : decode cJ2_fastRemove 0 = .ok (.aload_n 0, 1) := dk_42 (dk_at dksJ2_fastRemove_0 0 rfl rfl)
theorem dJ2_fastRemove_1 : decode cJ2_fastRemove 1 = .ok (.dup, 1) := dk_89 (dk_at dksJ2_fastRemove_0 1 rfl rfl)
theorem dJ2_fastRemove_2 : decode cJ2_fastRemove 2 = .ok (.getfield 63, 3) := dk_180 0 63 (dk_at dksJ2_fastRemove_0 2 rfl rfl)
theorem dJ2_fastRemove_5 : decode cJ2_fastRemove 5 = .ok (.iconst 1, 1) := dk_4 (dk_at dksJ2_fastRemove_0 5 rfl rfl)
theorem dJ2_fastRemove_6 : decode cJ2_fastRemove 6 = .ok (.iadd, 1) := dk_96 (dk_at dksJ2_fastRemove_0 6 rfl rfl)
theorem dJ2_fastRemove_7 : decode cJ2_fastRemove 7 = .ok (.putfield 63, 3) := dk_181 0 63 (dk_at dksJ2_fastRemove_0 7 rfl rfl)
theorem dJ2_fastRemove_10 : decode cJ2_fastRemove 10 = .ok (.aload_n 0, 1) := dk_42 (dk_at dksJ2_fastRemove_0 10 rfl rfl)
theorem dJ2_fastRemove_11 : decode cJ2_fastRemove 11 = .ok (.getfield 48, 3) := dk_180 0 48 (dk_at dksJ2_fastRemove_0 11 rfl rfl)
theorem dJ2_fastRemove_14 : decode cJ2_fastRemove 14 = .ok (.iconst 1, 1) := dk_4 (dk_at dksJ2_fastRemove_0 14 rfl rfl)
theorem dJ2_fastRemove_15 : decode cJ2_fastRemove 15 = .ok (.isub, 1) := dk_100 (dk_at dksJ2_fastRemove_0 15 rfl rfl)
theorem dJ2_fastRemove_16 : decode cJ2_fastRemove 16 = .ok (.dup, 1) := dk_89 (dk_at dksJ2_fastRemove_0 16 rfl rfl)
theorem dJ2_fastRemove_17 : decode cJ2_fastRemove 17 = .ok (.istore_n 3, 1) := dk_62 (dk_at dksJ2_fastRemove_0 17 rfl rfl)
theorem dJ2_fastRemove_18 : decode cJ2_fastRemove 18 = .ok (.iload_n 2, 1) := dk_28 (dk_at dksJ2_fastRemove_0 18 rfl rfl)
theorem dJ2_fastRemove_19 : decode cJ2_fastRemove 19 = .ok (.if_icmp .le 15, 3) := dk_164 0 15 (dk_at dksJ2_fastRemove_0 19 rfl rfl)
theorem dJ2_fastRemove_22 : decode cJ2_fastRemove 22 = .ok (.aload_n 1, 1) := dk_43 (dk_at dksJ2_fastRemove_0 22 rfl rfl)
theorem dJ2_fastRemove_23 : decode cJ2_fastRemove 23 = .ok (.iload_n 2, 1) := dk_28 (dk_at dksJ2_fastRemove_0 23 rfl rfl)
theorem dJ2_fastRemove_24 : decode cJ2_fastRemove 24 = .ok (.iconst 1, 1) := dk_4 (dk_at dksJ2_fastRemove_1 0 rfl rfl)
theorem dJ2_fastRemove_25 : decode cJ2_fastRemove 25 = .ok (.iadd, 1) := dk_96 (dk_at dksJ2_fastRemove_1 1 rfl rfl)
theorem dJ2_fastRemove_26 : decode cJ2_fastRemove 26 = .ok (.aload_n 1, 1) := dk_43 (dk_at dksJ2_fastRemove_1 2 rfl rfl)
theorem dJ2_fastRemove_27 : decode cJ2_fastRemove 27 = .ok (.iload_n 2, 1) := dk_28 (dk_at dksJ2_fastRemove_1 3 rfl rfl)
theorem dJ2_fastRemove_28 : decode cJ2_fastRemove 28 = .ok (.iload_n 3, 1) := dk_29 (dk_at dksJ2_fastRemove_1 4 rfl rfl)
theorem dJ2_fastRemove_29 : decode cJ2_fastRemove 29 = .ok (.iload_n 2, 1) := dk_28 (dk_at dksJ2_fastRemove_1 5 rfl rfl)
theorem dJ2_fastRemove_30 : decode cJ2_fastRemove 30 = .ok (.isub, 1) := dk_100 (dk_at dksJ2_fastRemove_1 6 rfl rfl)
theorem dJ2_fastRemove_31 : decode cJ2_fastRemove 31 = .ok (.invokestatic 112, 3) := dk_184 0 112 (dk_at dksJ2_fastRemove_1 7 rfl rfl)
theorem dJ2_fastRemove_34 : decode cJ2_fastRemove 34 = .ok (.aload_n 1, 1) := dk_43 (dk_at dksJ2_fastRemove_1 10 rfl rfl)
theorem dJ2_fastRemove_35 : decode cJ2_fastRemove 35 = .ok (.aload_n 0, 1) := dk_42 (dk_at dksJ2_fastRemove_1 11 rfl rfl)
theorem dJ2_fastRemove_36 : decode cJ2_fastRemove 36 = .ok (.iload_n 3, 1) := dk_29 (dk_at dksJ2_fastRemove_1 12 rfl rfl)
theorem dJ2_fastRemove_37 : decode cJ2_fastRemove 37 = .ok (.dup_x1, 1) := dk_90 (dk_at dksJ2_fastRemove_1 13 rfl rfl)
theorem dJ2_fastRemove_38 : decode cJ2_fastRemove 38 = .ok (.putfield 48, 3) := dk_181 0 48 (dk_at dksJ2_fastRemove_1 14 rfl rfl)
theorem dJ2_fastRemove_41 : decode cJ2_fastRemove 41 = .ok (.aconst_null, 1) := dk_1 (dk_at dksJ2_fastRemove_1 17 rfl rfl)
theorem dJ2_fastRemove_42 : decode cJ2_fastRemove 42 = .ok (.aastore, 1) := dk_83 (dk_at dksJ2_fastRemove_1 18 rfl rfl)
theorem dJ2_fastRemove_43 : decode cJ2_fastRemove 43 = .ok (.return_, 1) := dk_177 (dk_at dksJ2_fastRemove_1 19 rfl rfl)
abbrev cJ2_add : ByteArray := prog_36_method_25_code
def yJ2_add : MethodName := ⟨RJ2, "add", "(Ljava/lang/Object;)Z"⟩
def dkwJ2_add_1 : List UInt8 := [172]
abbrev dktJ2_add_1 : List UInt8 := dkwJ2_add_1 ++ []
def dkwJ2_add_0 : List UInt8 := [42, 89, 180, 0, 63, 4, 96, 181, 0, 63, 42, 43, 42, 180, 0, 9, 42, 180, 0, 48, 182, 0, 131, 4]
abbrev dktJ2_add_0 : List UInt8 := dkwJ2_add_0 ++ dktJ2_add_1
theorem dksJ2_add_0 : cJ2_add.data.toList.drop 0 = dktJ2_add_0 := by decide +kernel
theorem dksJ2_add_1 : cJ2_add.data.toList.drop 24 = dktJ2_add_1 := dk_seg dksJ2_add_0 24 rfl rfl
theorem dJ2_add_0 : decode cJ2_add 0 = .ok (.aload_n 0, 1) := dk_42 (dk_at dksJ2_add_0 0 rfl rfl)
theorem dJ2_add_1 : decode cJ2_add 1 = .ok (.dup, 1) := dk_89 (dk_at dksJ2_add_0 1 rfl rfl)
theorem dJ2_add_2 : decode cJ2_add 2 = .ok (.getfield 63, 3) := dk_180 0 63 (dk_at dksJ2_add_0 2 rfl rfl)
theorem dJ2_add_5 : decode cJ2_add 5 = .ok (.iconst 1, 1) := dk_4 (dk_at dksJ2_add_0 5 rfl rfl)
theorem dJ2_add_6 : decode cJ2_add 6 = .ok (.iadd, 1) := dk_96 (dk_at dksJ2_add_0 6 rfl rfl)
theorem dJ2_add_7 : decode cJ2_add 7 = .ok (.putfield 63, 3) := dk_181 0 63 (dk_at dksJ2_add_0 7 rfl rfl)
theorem dJ2_add_10 : decode cJ2_add 10 = .ok (.aload_n 0, 1) := dk_42 (dk_at dksJ2_add_0 10 rfl rfl)
theorem dJ2_add_11 : decode cJ2_add 11 = .ok (.aload_n 1, 1) := dk_43 (dk_at dksJ2_add_0 11 rfl rfl)
theorem dJ2_add_12 : decode cJ2_add 12 = .ok (.aload_n 0, 1) := dk_42 (dk_at dksJ2_add_0 12 rfl rfl)
theorem dJ2_add_13 : decode cJ2_add 13 = .ok (.getfield 9, 3) := dk_180 0 9 (dk_at dksJ2_add_0 13 rfl rfl)
theorem dJ2_add_16 : decode cJ2_add 16 = .ok (.aload_n 0, 1) := dk_42 (dk_at dksJ2_add_0 16 rfl rfl)
theorem dJ2_add_17 : decode cJ2_add 17 = .ok (.getfield 48, 3) := dk_180 0 48 (dk_at dksJ2_add_0 17 rfl rfl)
theorem dJ2_add_20 : decode cJ2_add 20 = .ok (.invokevirtual 131, 3) := dk_182 0 131 (dk_at dksJ2_add_0 20 rfl rfl)
theorem dJ2_add_23 : decode cJ2_add 23 = .ok (.iconst 1, 1) := dk_4 (dk_at dksJ2_add_0 23 rfl rfl)
theorem dJ2_add_24 : decode cJ2_add 24 = .ok (.ireturn, 1) := dk_172 (dk_at dksJ2_add_1 0 rfl rfl)
abbrev cJ2_add_2 : ByteArray := prog_36_method_24_code
def yJ2_add_2 : MethodName := ⟨RJ2, "add", "(Ljava/lang/Object;[Ljava/lang/Object;I)V"⟩
def dkwJ2_add_2_0 : List UInt8 := [29, 44, 190, 160, 0, 8, 42, 182, 0, 129, 77, 44, 29, 43, 83, 42, 29, 4, 96, 181, 0, 48, 177]
abbrev dktJ2_add_2_0 : List UInt8 := dkwJ2_add_2_0 ++ []
theorem dksJ2_add_2_0 : cJ2_add_2.data.toList.drop 0 = dktJ2_add_2_0 := by decide +kernel
theorem dJ2_add_2_0 : decode cJ2_add_2 0 = .ok (.iload_n 3, 1) := dk_29 (dk_at dksJ2_add_2_0 0 rfl rfl)
theorem dJ2_add_2_1 : decode cJ2_add_2 1 = .ok (.aload_n 2, 1) := dk_44 (dk_at dksJ2_add_2_0 1 rfl rfl)
theorem dJ2_add_2_2 : decode cJ2_add_2 2 = .ok (.arraylength, 1) := dk_190 (dk_at dksJ2_add_2_0 2 rfl rfl)
theorem dJ2_add_2_3 : decode cJ2_add_2 3 = .ok (.if_icmp .ne 8, 3) := dk_160 0 8 (dk_at dksJ2_add_2_0 3 rfl rfl)
theorem dJ2_add_2_6 : decode cJ2_add_2 6 = .ok (.aload_n 0, 1) := dk_42 (dk_at dksJ2_add_2_0 6 rfl rfl)
theorem dJ2_add_2_7 : decode cJ2_add_2 7 = .ok (.invokevirtual 129, 3) := dk_182 0 129 (dk_at dksJ2_add_2_0 7 rfl rfl)
theorem dJ2_add_2_10 : decode cJ2_add_2 10 = .ok (.astore_n 2, 1) := dk_77 (dk_at dksJ2_add_2_0 10 rfl rfl)
theorem dJ2_add_2_11 : decode cJ2_add_2 11 = .ok (.aload_n 2, 1) := dk_44 (dk_at dksJ2_add_2_0 11 rfl rfl)
theorem dJ2_add_2_12 : decode cJ2_add_2 12 = .ok (.iload_n 3, 1) := dk_29 (dk_at dksJ2_add_2_0 12 rfl rfl)
theorem dJ2_add_2_13 : decode cJ2_add_2 13 = .ok (.aload_n 1, 1) := dk_43 (dk_at dksJ2_add_2_0 13 rfl rfl)
theorem dJ2_add_2_14 : decode cJ2_add_2 14 = .ok (.aastore, 1) := dk_83 (dk_at dksJ2_add_2_0 14 rfl rfl)
theorem dJ2_add_2_15 : decode cJ2_add_2 15 = .ok (.aload_n 0, 1) := dk_42 (dk_at dksJ2_add_2_0 15 rfl rfl)
theorem dJ2_add_2_16 : decode cJ2_add_2 16 = .ok (.iload_n 3, 1) := dk_29 (dk_at dksJ2_add_2_0 16 rfl rfl)
theorem dJ2_add_2_17 : decode cJ2_add_2 17 = .ok (.iconst 1, 1) := dk_4 (dk_at dksJ2_add_2_0 17 rfl rfl)
theorem dJ2_add_2_18 : decode cJ2_add_2 18 = .ok (.iadd, 1) := dk_96 (dk_at dksJ2_add_2_0 18 rfl rfl)
theorem dJ2_add_2_19 : decode cJ2_add_2 19 = .ok (.putfield 48, 3) := dk_181 0 48 (dk_at dksJ2_add_2_0 19 rfl rfl)
theorem dJ2_add_2_22 : decode cJ2_add_2 22 = .ok (.return_, 1) := dk_177 (dk_at dksJ2_add_2_0 22 rfl rfl)
abbrev cJ2_grow : ByteArray := prog_36_method_7_code
def yJ2_grow : MethodName := ⟨RJ2, "grow", "()[Ljava/lang/Object;"⟩
def dkwJ2_grow_0 : List UInt8 := [42, 42, 180, 0, 48, 4, 96, 182, 0, 69, 176]
abbrev dktJ2_grow_0 : List UInt8 := dkwJ2_grow_0 ++ []
theorem dksJ2_grow_0 : cJ2_grow.data.toList.drop 0 = dktJ2_grow_0 := by decide +kernel
theorem dJ2_grow_0 : decode cJ2_grow 0 = .ok (.aload_n 0, 1) := dk_42 (dk_at dksJ2_grow_0 0 rfl rfl)
theorem dJ2_grow_1 : decode cJ2_grow 1 = .ok (.aload_n 0, 1) := dk_42 (dk_at dksJ2_grow_0 1 rfl rfl)
theorem dJ2_grow_2 : decode cJ2_grow 2 = .ok (.getfield 48, 3) := dk_180 0 48 (dk_at dksJ2_grow_0 2 rfl rfl)
theorem dJ2_grow_5 : decode cJ2_grow 5 = .ok (.iconst 1, 1) := dk_4 (dk_at dksJ2_grow_0 5 rfl rfl)
theorem dJ2_grow_6 : decode cJ2_grow 6 = .ok (.iadd, 1) := dk_96 (dk_at dksJ2_grow_0 6 rfl rfl)
theorem dJ2_grow_7 : decode cJ2_grow 7 = .ok (.invokevirtual 69, 3) := dk_182 0 69 (dk_at dksJ2_grow_0 7 rfl rfl)
theorem dJ2_grow_10 : decode cJ2_grow 10 = .ok (.areturn, 1) := dk_176 (dk_at dksJ2_grow_0 10 rfl rfl)
abbrev cJ2_grow_2 : ByteArray := prog_36_method_6_code
def yJ2_grow_2 : MethodName := ⟨RJ2, "grow", "(I)[Ljava/lang/Object;"⟩
def dkwJ2_grow_2_2 : List UInt8 := [27, 184, 0, 79, 189, 0, 7, 90, 181, 0, 9, 176]
abbrev dktJ2_grow_2_2 : List UInt8 := dkwJ2_grow_2_2 ++ []
def dkwJ2_grow_2_1 : List UInt8 := [28, 4, 122, 184, 0, 73, 62, 42, 42, 180, 0, 9, 29, 184, 0, 66, 90, 181, 0, 9, 176, 42, 16, 10]
abbrev dktJ2_grow_2_1 : List UInt8 := dkwJ2_grow_2_1 ++ dktJ2_grow_2_2
def dkwJ2_grow_2_0 : List UInt8 := [42, 180, 0, 9, 190, 61, 28, 157, 0, 13, 42, 180, 0, 9, 178, 0, 39, 165, 0, 28, 28, 27, 28, 100]
abbrev dktJ2_grow_2_0 : List UInt8 := dkwJ2_grow_2_0 ++ dktJ2_grow_2_1
theorem dksJ2_grow_2_0 : cJ2_grow_2.data.toList.drop 0 = dktJ2_grow_2_0 := by decide +kernel
theorem dksJ2_grow_2_1 : cJ2_grow_2.data.toList.drop 24 = dktJ2_grow_2_1 := dk_seg dksJ2_grow_2_0 24 rfl rfl
theorem dksJ2_grow_2_2 : cJ2_grow_2.data.toList.drop 48 = dktJ2_grow_2_2 := dk_seg dksJ2_grow_2_1 24 rfl rfl
theorem dJ2_grow_2_0 : decode cJ2_grow_2 0 = .ok (.aload_n 0, 1) := dk_42 (dk_at dksJ2_grow_2_0 0 rfl rfl)
theorem dJ2_grow_2_1 : decode cJ2_grow_2 1 = .ok (.getfield 9, 3) := dk_180 0 9 (dk_at dksJ2_grow_2_0 1 rfl rfl)
theorem dJ2_grow_2_4 : decode cJ2_grow_2 4 = .ok (.arraylength, 1) := dk_190 (dk_at dksJ2_grow_2_0 4 rfl rfl)
theorem dJ2_grow_2_5 : decode cJ2_grow_2 5 = .ok (.istore_n 2, 1) := dk_61 (dk_at dksJ2_grow_2_0 5 rfl rfl)
theorem dJ2_grow_2_6 : decode cJ2_grow_2 6 = .ok (.iload_n 2, 1) := dk_28 (dk_at dksJ2_grow_2_0 6 rfl rfl)
theorem dJ2_grow_2_7 : decode cJ2_grow_2 7 = .ok (.ifCond .gt 13, 3) := dk_157 0 13 (dk_at dksJ2_grow_2_0 7 rfl rfl)
theorem dJ2_grow_2_10 : decode cJ2_grow_2 10 = .ok (.aload_n 0, 1) := dk_42 (dk_at dksJ2_grow_2_0 10 rfl rfl)
theorem dJ2_grow_2_11 : decode cJ2_grow_2 11 = .ok (.getfield 9, 3) := dk_180 0 9 (dk_at dksJ2_grow_2_0 11 rfl rfl)
theorem dJ2_grow_2_14 : decode cJ2_grow_2 14 = .ok (.getstatic 39, 3) := dk_178 0 39 (dk_at dksJ2_grow_2_0 14 rfl rfl)
theorem dJ2_grow_2_17 : decode cJ2_grow_2 17 = .ok (.if_acmp .eq 28, 3) := dk_165 0 28 (dk_at dksJ2_grow_2_0 17 rfl rfl)
theorem dJ2_grow_2_20 : decode cJ2_grow_2 20 = .ok (.iload_n 2, 1) := dk_28 (dk_at dksJ2_grow_2_0 20 rfl rfl)
theorem dJ2_grow_2_21 : decode cJ2_grow_2 21 = .ok (.iload_n 1, 1) := dk_27 (dk_at dksJ2_grow_2_0 21 rfl rfl)
theorem dJ2_grow_2_22 : decode cJ2_grow_2 22 = .ok (.iload_n 2, 1) := dk_28 (dk_at dksJ2_grow_2_0 22 rfl rfl)
theorem dJ2_grow_2_23 : decode cJ2_grow_2 23 = .ok (.isub, 1) := dk_100 (dk_at dksJ2_grow_2_0 23 rfl rfl)
theorem dJ2_grow_2_24 : decode cJ2_grow_2 24 = .ok (.iload_n 2, 1) := dk_28 (dk_at dksJ2_grow_2_1 0 rfl rfl)
theorem dJ2_grow_2_25 : decode cJ2_grow_2 25 = .ok (.iconst 1, 1) := dk_4 (dk_at dksJ2_grow_2_1 1 rfl rfl)
theorem dJ2_grow_2_26 : decode cJ2_grow_2 26 = .ok (.ishr, 1) := dk_122 (dk_at dksJ2_grow_2_1 2 rfl rfl)
theorem dJ2_grow_2_27 : decode cJ2_grow_2 27 = .ok (.invokestatic 73, 3) := dk_184 0 73 (dk_at dksJ2_grow_2_1 3 rfl rfl)
theorem dJ2_grow_2_30 : decode cJ2_grow_2 30 = .ok (.istore_n 3, 1) := dk_62 (dk_at dksJ2_grow_2_1 6 rfl rfl)
theorem dJ2_grow_2_31 : decode cJ2_grow_2 31 = .ok (.aload_n 0, 1) := dk_42 (dk_at dksJ2_grow_2_1 7 rfl rfl)
theorem dJ2_grow_2_32 : decode cJ2_grow_2 32 = .ok (.aload_n 0, 1) := dk_42 (dk_at dksJ2_grow_2_1 8 rfl rfl)
theorem dJ2_grow_2_33 : decode cJ2_grow_2 33 = .ok (.getfield 9, 3) := dk_180 0 9 (dk_at dksJ2_grow_2_1 9 rfl rfl)
theorem dJ2_grow_2_36 : decode cJ2_grow_2 36 = .ok (.iload_n 3, 1) := dk_29 (dk_at dksJ2_grow_2_1 12 rfl rfl)
theorem dJ2_grow_2_37 : decode cJ2_grow_2 37 = .ok (.invokestatic 66, 3) := dk_184 0 66 (dk_at dksJ2_grow_2_1 13 rfl rfl)
theorem dJ2_grow_2_40 : decode cJ2_grow_2 40 = .ok (.dup_x1, 1) := dk_90 (dk_at dksJ2_grow_2_1 16 rfl rfl)
theorem dJ2_grow_2_41 : decode cJ2_grow_2 41 = .ok (.putfield 9, 3) := dk_181 0 9 (dk_at dksJ2_grow_2_1 17 rfl rfl)
theorem dJ2_grow_2_44 : decode cJ2_grow_2 44 = .ok (.areturn, 1) := dk_176 (dk_at dksJ2_grow_2_1 20 rfl rfl)
theorem dJ2_grow_2_45 : decode cJ2_grow_2 45 = .ok (.aload_n 0, 1) := dk_42 (dk_at dksJ2_grow_2_1 21 rfl rfl)
theorem dJ2_grow_2_46 : decode cJ2_grow_2 46 = .ok (.bipush 10, 2) := dk_16 10 (dk_at dksJ2_grow_2_1 22 rfl rfl)
theorem dJ2_grow_2_48 : decode cJ2_grow_2 48 = .ok (.iload_n 1, 1) := dk_27 (dk_at dksJ2_grow_2_2 0 rfl rfl)
theorem dJ2_grow_2_49 : decode cJ2_grow_2 49 = .ok (.invokestatic 79, 3) := dk_184 0 79 (dk_at dksJ2_grow_2_2 1 rfl rfl)
theorem dJ2_grow_2_52 : decode cJ2_grow_2 52 = .ok (.anewarray 7, 3) := dk_189 0 7 (dk_at dksJ2_grow_2_2 4 rfl rfl)
theorem dJ2_grow_2_55 : decode cJ2_grow_2 55 = .ok (.dup_x1, 1) := dk_90 (dk_at dksJ2_grow_2_2 7 rfl rfl)
theorem dJ2_grow_2_56 : decode cJ2_grow_2 56 = .ok (.putfield 9, 3) := dk_181 0 9 (dk_at dksJ2_grow_2_2 8 rfl rfl)
theorem dJ2_grow_2_59 : decode cJ2_grow_2 59 = .ok (.areturn, 1) := dk_176 (dk_at dksJ2_grow_2_2 11 rfl rfl)
abbrev cJ2_iterator : ByteArray := prog_36_method_55_code
def yJ2_iterator : MethodName := ⟨RJ2, "iterator", "()Ljava/util/Iterator;"⟩
def dkwJ2_iterator_0 : List UInt8 := [187, 1, 11, 89, 42, 183, 1, 13, 176]
abbrev dktJ2_iterator_0 : List UInt8 := dkwJ2_iterator_0 ++ []
theorem dksJ2_iterator_0 : cJ2_iterator.data.toList.drop 0 = dktJ2_iterator_0 := by decide +kernel
theorem dJ2_iterator_0 : decode cJ2_iterator 0 = .ok (.new 267, 3) := dk_187 1 11 (dk_at dksJ2_iterator_0 0 rfl rfl)
theorem dJ2_iterator_3 : decode cJ2_iterator 3 = .ok (.dup, 1) := dk_89 (dk_at dksJ2_iterator_0 3 rfl rfl)
theorem dJ2_iterator_4 : decode cJ2_iterator 4 = .ok (.aload_n 0, 1) := dk_42 (dk_at dksJ2_iterator_0 4 rfl rfl)
theorem dJ2_iterator_5 : decode cJ2_iterator 5 = .ok (.invokespecial 269, 3) := dk_183 1 13 (dk_at dksJ2_iterator_0 5 rfl rfl)
theorem dJ2_iterator_8 : decode cJ2_iterator 8 = .ok (.areturn, 1) := dk_176 (dk_at dksJ2_iterator_0 8 rfl rfl)
abbrev cJ2_set : ByteArray := prog_36_method_23_code
def yJ2_set : MethodName := ⟨RJ2, "set", "(ILjava/lang/Object;)Ljava/lang/Object;"⟩
def dkwJ2_set_0 : List UInt8 := [27, 42, 180, 0, 48, 184, 0, 118, 87, 42, 27, 182, 0, 123, 78, 42, 180, 0, 9, 27, 44, 83, 45, 176]
abbrev dktJ2_set_0 : List UInt8 := dkwJ2_set_0 ++ []
theorem dksJ2_set_0 : cJ2_set.data.toList.drop 0 = dktJ2_set_0 := by decide +kernel
theorem dJ2_set_0 : decode cJ2_set 0 = .ok (.iload_n 1, 1) := dk_27 (dk_at dksJ2_set_0 0 rfl rfl)
theorem dJ2_set_1 : decode cJ2_set 1 = .ok (.aload_n 0, 1) := dk_42 (dk_at dksJ2_set_0 1 rfl rfl)
theorem dJ2_set_2 : decode cJ2_set 2 = .ok (.getfield 48, 3) := dk_180 0 48 (dk_at dksJ2_set_0 2 rfl rfl)
theorem dJ2_set_5 : decode cJ2_set 5 = .ok (.invokestatic 118, 3) := dk_184 0 118 (dk_at dksJ2_set_0 5 rfl rfl)
theorem dJ2_set_8 : decode cJ2_set 8 = .ok (.pop, 1) := dk_87 (dk_at dksJ2_set_0 8 rfl rfl)
theorem dJ2_set_9 : decode cJ2_set 9 = .ok (.aload_n 0, 1) := dk_42 (dk_at dksJ2_set_0 9 rfl rfl)
theorem dJ2_set_10 : decode cJ2_set 10 = .ok (.iload_n 1, 1) := dk_27 (dk_at dksJ2_set_0 10 rfl rfl)
theorem dJ2_set_11 : decode cJ2_set 11 = .ok (.invokevirtual 123, 3) := dk_182 0 123 (dk_at dksJ2_set_0 11 rfl rfl)
theorem dJ2_set_14 : decode cJ2_set 14 = .ok (.astore_n 3, 1) := dk_78 (dk_at dksJ2_set_0 14 rfl rfl)
theorem dJ2_set_15 : decode cJ2_set 15 = .ok (.aload_n 0, 1) := dk_42 (dk_at dksJ2_set_0 15 rfl rfl)
theorem dJ2_set_16 : decode cJ2_set 16 = .ok (.getfield 9, 3) := dk_180 0 9 (dk_at dksJ2_set_0 16 rfl rfl)
theorem dJ2_set_19 : decode cJ2_set 19 = .ok (.iload_n 1, 1) := dk_27 (dk_at dksJ2_set_0 19 rfl rfl)
theorem dJ2_set_20 : decode cJ2_set 20 = .ok (.aload_n 2, 1) := dk_44 (dk_at dksJ2_set_0 20 rfl rfl)
theorem dJ2_set_21 : decode cJ2_set 21 = .ok (.aastore, 1) := dk_83 (dk_at dksJ2_set_0 21 rfl rfl)
theorem dJ2_set_22 : decode cJ2_set 22 = .ok (.aload_n 3, 1) := dk_45 (dk_at dksJ2_set_0 22 rfl rfl)
theorem dJ2_set_23 : decode cJ2_set 23 = .ok (.areturn, 1) := dk_176 (dk_at dksJ2_set_0 23 rfl rfl)
abbrev cJ2_listIterator : ByteArray := prog_36_method_54_code
def yJ2_listIterator : MethodName := ⟨RJ2, "listIterator", "()Ljava/util/ListIterator;"⟩
def dkwJ2_listIterator_0 : List UInt8 := [187, 1, 6, 89, 42, 3, 183, 1, 8, 176]
abbrev dktJ2_listIterator_0 : List UInt8 := dkwJ2_listIterator_0 ++ []
theorem dksJ2_listIterator_0 : cJ2_listIterator.data.toList.drop 0 = dktJ2_listIterator_0 := by decide +kernel
theorem dJ2_listIterator_0 : decode cJ2_listIterator 0 = .ok (.new 262, 3) := dk_187 1 6 (dk_at dksJ2_listIterator_0 0 rfl rfl)
theorem dJ2_listIterator_3 : decode cJ2_listIterator 3 = .ok (.dup, 1) := dk_89 (dk_at dksJ2_listIterator_0 3 rfl rfl)
theorem dJ2_listIterator_4 : decode cJ2_listIterator 4 = .ok (.aload_n 0, 1) := dk_42 (dk_at dksJ2_listIterator_0 4 rfl rfl)
theorem dJ2_listIterator_5 : decode cJ2_listIterator 5 = .ok (.iconst 0, 1) := dk_3 (dk_at dksJ2_listIterator_0 5 rfl rfl)
theorem dJ2_listIterator_6 : decode cJ2_listIterator 6 = .ok (.invokespecial 264, 3) := dk_183 1 8 (dk_at dksJ2_listIterator_0 6 rfl rfl)
theorem dJ2_listIterator_9 : decode cJ2_listIterator 9 = .ok (.areturn, 1) := dk_176 (dk_at dksJ2_listIterator_0 9 rfl rfl)
abbrev cJ2_add_3 : ByteArray := prog_36_method_26_code
def yJ2_add_3 : MethodName := ⟨RJ2, "add", "(ILjava/lang/Object;)V"⟩
def dkwJ2_add_3_2 : List UInt8 := [29, 27, 100, 184, 0, 112, 25, 4, 27, 44, 83, 42, 29, 4, 96, 181, 0, 48, 177]
abbrev dktJ2_add_3_2 : List UInt8 := dkwJ2_add_3_2 ++ []
def dkwJ2_add_3_1 : List UInt8 := [180, 0, 9, 89, 58, 4, 190, 160, 0, 9, 42, 182, 0, 129, 58, 4, 25, 4, 27, 25, 4, 27, 4, 96]
abbrev dktJ2_add_3_1 : List UInt8 := dkwJ2_add_3_1 ++ dktJ2_add_3_2
def dkwJ2_add_3_0 : List UInt8 := [42, 27, 182, 0, 135, 42, 89, 180, 0, 63, 4, 96, 181, 0, 63, 42, 180, 0, 48, 89, 62, 42]
abbrev dktJ2_add_3_0 : List UInt8 := dkwJ2_add_3_0 ++ dktJ2_add_3_1
theorem dksJ2_add_3_0 : cJ2_add_3.data.toList.drop 0 = dktJ2_add_3_0 := by decide +kernel
theorem dksJ2_add_3_1 : cJ2_add_3.data.toList.drop 22 = dktJ2_add_3_1 := dk_seg dksJ2_add_3_0 22 rfl rfl
theorem dksJ2_add_3_2 : cJ2_add_3.data.toList.drop 46 = dktJ2_add_3_2 := dk_seg dksJ2_add_3_1 24 rfl rfl
theorem dJ2_add_3_0 : decode cJ2_add_3 0 = .ok (.aload_n 0, 1) := dk_42 (dk_at dksJ2_add_3_0 0 rfl rfl)
theorem dJ2_add_3_1 : decode cJ2_add_3 1 = .ok (.iload_n 1, 1) := dk_27 (dk_at dksJ2_add_3_0 1 rfl rfl)
theorem dJ2_add_3_2 : decode cJ2_add_3 2 = .ok (.invokevirtual 135, 3) := dk_182 0 135 (dk_at dksJ2_add_3_0 2 rfl rfl)
theorem dJ2_add_3_5 : decode cJ2_add_3 5 = .ok (.aload_n 0, 1) := dk_42 (dk_at dksJ2_add_3_0 5 rfl rfl)
theorem dJ2_add_3_6 : decode cJ2_add_3 6 = .ok (.dup, 1) := dk_89 (dk_at dksJ2_add_3_0 6 rfl rfl)
theorem dJ2_add_3_7 : decode cJ2_add_3 7 = .ok (.getfield 63, 3) := dk_180 0 63 (dk_at dksJ2_add_3_0 7 rfl rfl)
theorem dJ2_add_3_10 : decode cJ2_add_3 10 = .ok (.iconst 1, 1) := dk_4 (dk_at dksJ2_add_3_0 10 rfl rfl)
theorem dJ2_add_3_11 : decode cJ2_add_3 11 = .ok (.iadd, 1) := dk_96 (dk_at dksJ2_add_3_0 11 rfl rfl)
theorem dJ2_add_3_12 : decode cJ2_add_3 12 = .ok (.putfield 63, 3) := dk_181 0 63 (dk_at dksJ2_add_3_0 12 rfl rfl)
theorem dJ2_add_3_15 : decode cJ2_add_3 15 = .ok (.aload_n 0, 1) := dk_42 (dk_at dksJ2_add_3_0 15 rfl rfl)
theorem dJ2_add_3_16 : decode cJ2_add_3 16 = .ok (.getfield 48, 3) := dk_180 0 48 (dk_at dksJ2_add_3_0 16 rfl rfl)
theorem dJ2_add_3_19 : decode cJ2_add_3 19 = .ok (.dup, 1) := dk_89 (dk_at dksJ2_add_3_0 19 rfl rfl)
theorem dJ2_add_3_20 : decode cJ2_add_3 20 = .ok (.istore_n 3, 1) := dk_62 (dk_at dksJ2_add_3_0 20 rfl rfl)
theorem dJ2_add_3_21 : decode cJ2_add_3 21 = .ok (.aload_n 0, 1) := dk_42 (dk_at dksJ2_add_3_0 21 rfl rfl)
theorem dJ2_add_3_22 : decode cJ2_add_3 22 = .ok (.getfield 9, 3) := dk_180 0 9 (dk_at dksJ2_add_3_1 0 rfl rfl)
theorem dJ2_add_3_25 : decode cJ2_add_3 25 = .ok (.dup, 1) := dk_89 (dk_at dksJ2_add_3_1 3 rfl rfl)
theorem dJ2_add_3_26 : decode cJ2_add_3 26 = .ok (.astore 4, 2) := dk_58 4 (dk_at dksJ2_add_3_1 4 rfl rfl)
theorem dJ2_add_3_28 : decode cJ2_add_3 28 = .ok (.arraylength, 1) := dk_190 (dk_at dksJ2_add_3_1 6 rfl rfl)
theorem dJ2_add_3_29 : decode cJ2_add_3 29 = .ok (.if_icmp .ne 9, 3) := dk_160 0 9 (dk_at dksJ2_add_3_1 7 rfl rfl)
theorem dJ2_add_3_32 : decode cJ2_add_3 32 = .ok (.aload_n 0, 1) := dk_42 (dk_at dksJ2_add_3_1 10 rfl rfl)
theorem dJ2_add_3_33 : decode cJ2_add_3 33 = .ok (.invokevirtual 129, 3) := dk_182 0 129 (dk_at dksJ2_add_3_1 11 rfl rfl)
theorem dJ2_add_3_36 : decode cJ2_add_3 36 = .ok (.astore 4, 2) := dk_58 4 (dk_at dksJ2_add_3_1 14 rfl rfl)
theorem dJ2_add_3_38 : decode cJ2_add_3 38 = .ok (.aload 4, 2) := dk_25 4 (dk_at dksJ2_add_3_1 16 rfl rfl)
theorem dJ2_add_3_40 : decode cJ2_add_3 40 = .ok (.iload_n 1, 1) := dk_27 (dk_at dksJ2_add_3_1 18 rfl rfl)
theorem dJ2_add_3_41 : decode cJ2_add_3 41 = .ok (.aload 4, 2) := dk_25 4 (dk_at dksJ2_add_3_1 19 rfl rfl)
theorem dJ2_add_3_43 : decode cJ2_add_3 43 = .ok (.iload_n 1, 1) := dk_27 (dk_at dksJ2_add_3_1 21 rfl rfl)
theorem dJ2_add_3_44 : decode cJ2_add_3 44 = .ok (.iconst 1, 1) := dk_4 (dk_at dksJ2_add_3_1 22 rfl rfl)
theorem dJ2_add_3_45 : decode cJ2_add_3 45 = .ok (.iadd, 1) := dk_96 (dk_at dksJ2_add_3_1 23 rfl rfl)
theorem dJ2_add_3_46 : decode cJ2_add_3 46 = .ok (.iload_n 3, 1) := dk_29 (dk_at dksJ2_add_3_2 0 rfl rfl)
theorem dJ2_add_3_47 : decode cJ2_add_3 47 = .ok (.iload_n 1, 1) := dk_27 (dk_at dksJ2_add_3_2 1 rfl rfl)
theorem dJ2_add_3_48 : decode cJ2_add_3 48 = .ok (.isub, 1) := dk_100 (dk_at dksJ2_add_3_2 2 rfl rfl)
theorem dJ2_add_3_49 : decode cJ2_add_3 49 = .ok (.invokestatic 112, 3) := dk_184 0 112 (dk_at dksJ2_add_3_2 3 rfl rfl)
theorem dJ2_add_3_52 : decode cJ2_add_3 52 = .ok (.aload 4, 2) := dk_25 4 (dk_at dksJ2_add_3_2 6 rfl rfl)
theorem dJ2_add_3_54 : decode cJ2_add_3 54 = .ok (.iload_n 1, 1) := dk_27 (dk_at dksJ2_add_3_2 8 rfl rfl)
theorem dJ2_add_3_55 : decode cJ2_add_3 55 = .ok (.aload_n 2, 1) := dk_44 (dk_at dksJ2_add_3_2 9 rfl rfl)
theorem dJ2_add_3_56 : decode cJ2_add_3 56 = .ok (.aastore, 1) := dk_83 (dk_at dksJ2_add_3_2 10 rfl rfl)
theorem dJ2_add_3_57 : decode cJ2_add_3 57 = .ok (.aload_n 0, 1) := dk_42 (dk_at dksJ2_add_3_2 11 rfl rfl)
theorem dJ2_add_3_58 : decode cJ2_add_3 58 = .ok (.iload_n 3, 1) := dk_29 (dk_at dksJ2_add_3_2 12 rfl rfl)
theorem dJ2_add_3_59 : decode cJ2_add_3 59 = .ok (.iconst 1, 1) := dk_4 (dk_at dksJ2_add_3_2 13 rfl rfl)
theorem dJ2_add_3_60 : decode cJ2_add_3 60 = .ok (.iadd, 1) := dk_96 (dk_at dksJ2_add_3_2 14 rfl rfl)
theorem dJ2_add_3_61 : decode cJ2_add_3 61 = .ok (.putfield 48, 3) := dk_181 0 48 (dk_at dksJ2_add_3_2 15 rfl rfl)
theorem dJ2_add_3_64 : decode cJ2_add_3 64 = .ok (.return_, 1) := dk_177 (dk_at dksJ2_add_3_2 18 rfl rfl)
abbrev cJ2_rangeCheckForAdd : ByteArray := prog_36_method_45_code
def yJ2_rangeCheckForAdd : MethodName := ⟨RJ2, "rangeCheckForAdd", "(I)V"⟩
def dkwJ2_rangeCheckForAdd_1 : List UInt8 := [191, 177]
abbrev dktJ2_rangeCheckForAdd_1 : List UInt8 := dkwJ2_rangeCheckForAdd_1 ++ []
def dkwJ2_rangeCheckForAdd_0 : List UInt8 := [27, 42, 180, 0, 48, 163, 0, 7, 27, 156, 0, 16, 187, 0, 187, 89, 42, 27, 182, 0, 198, 183, 0, 193]
abbrev dktJ2_rangeCheckForAdd_0 : List UInt8 := dkwJ2_rangeCheckForAdd_0 ++ dktJ2_rangeCheckForAdd_1
theorem dksJ2_rangeCheckForAdd_0 : cJ2_rangeCheckForAdd.data.toList.drop 0 = dktJ2_rangeCheckForAdd_0 := by decide +kernel
theorem dksJ2_rangeCheckForAdd_1 : cJ2_rangeCheckForAdd.data.toList.drop 24 = dktJ2_rangeCheckForAdd_1 := dk_seg dksJ2_rangeCheckForAdd_0 24 rfl rfl
theorem dJ2_rangeCheckForAdd_0 : decode cJ2_rangeCheckForAdd 0 = .ok (.iload_n 1, 1) := dk_27 (dk_at dksJ2_rangeCheckForAdd_0 0 rfl rfl)
theorem dJ2_rangeCheckForAdd_1 : decode cJ2_rangeCheckForAdd 1 = .ok (.aload_n 0, 1) := dk_42 (dk_at dksJ2_rangeCheckForAdd_0 1 rfl rfl)
theorem dJ2_rangeCheckForAdd_2 : decode cJ2_rangeCheckForAdd 2 = .ok (.getfield 48, 3) := dk_180 0 48 (dk_at dksJ2_rangeCheckForAdd_0 2 rfl rfl)
theorem dJ2_rangeCheckForAdd_5 : decode cJ2_rangeCheckForAdd 5 = .ok (.if_icmp .gt 7, 3) := dk_163 0 7 (dk_at dksJ2_rangeCheckForAdd_0 5 rfl rfl)
theorem dJ2_rangeCheckForAdd_8 : decode cJ2_rangeCheckForAdd 8 = .ok (.iload_n 1, 1) := dk_27 (dk_at dksJ2_rangeCheckForAdd_0 8 rfl rfl)
theorem dJ2_rangeCheckForAdd_9 : decode cJ2_rangeCheckForAdd 9 = .ok (.ifCond .ge 16, 3) := dk_156 0 16 (dk_at dksJ2_rangeCheckForAdd_0 9 rfl rfl)
theorem dJ2_rangeCheckForAdd_12 : decode cJ2_rangeCheckForAdd 12 = .ok (.new 187, 3) := dk_187 0 187 (dk_at dksJ2_rangeCheckForAdd_0 12 rfl rfl)
theorem dJ2_rangeCheckForAdd_15 : decode cJ2_rangeCheckForAdd 15 = .ok (.dup, 1) := dk_89 (dk_at dksJ2_rangeCheckForAdd_0 15 rfl rfl)
theorem dJ2_rangeCheckForAdd_16 : decode cJ2_rangeCheckForAdd 16 = .ok (.aload_n 0, 1) := dk_42 (dk_at dksJ2_rangeCheckForAdd_0 16 rfl rfl)
theorem dJ2_rangeCheckForAdd_17 : decode cJ2_rangeCheckForAdd 17 = .ok (.iload_n 1, 1) := dk_27 (dk_at dksJ2_rangeCheckForAdd_0 17 rfl rfl)
theorem dJ2_rangeCheckForAdd_18 : decode cJ2_rangeCheckForAdd 18 = .ok (.invokevirtual 198, 3) := dk_182 0 198 (dk_at dksJ2_rangeCheckForAdd_0 18 rfl rfl)
theorem dJ2_rangeCheckForAdd_21 : decode cJ2_rangeCheckForAdd 21 = .ok (.invokespecial 193, 3) := dk_183 0 193 (dk_at dksJ2_rangeCheckForAdd_0 21 rfl rfl)
theorem dJ2_rangeCheckForAdd_24 : decode cJ2_rangeCheckForAdd 24 = .ok (.athrow, 1) := dk_191 (dk_at dksJ2_rangeCheckForAdd_1 0 rfl rfl)
theorem dJ2_rangeCheckForAdd_25 : decode cJ2_rangeCheckForAdd 25 = .ok (.return_, 1) := dk_177 (dk_at dksJ2_rangeCheckForAdd_1 1 rfl rfl)
theorem q73 : (Jvm.Cond.initialized "java/util/ArrayList") ∈ lw_all := lw_g (lw_at lw_m1 4 rfl) rfl
theorem q114 : (Jvm.Cond.instantiable "java/util/ArrayList" (3 : Nat)) ∈ lw_all := lw_g (lw_at lw_m1 45 rfl) rfl
theorem q116 : (Jvm.Cond.instanceMethod ({ cls := "java/util/ArrayList", name := "<init>", desc := "()V" } : Jvm.MethodName)) ∈ lw_all := lw_g (lw_at lw_m1 47 rfl) rfl
theorem q117 : (Jvm.Cond.code ({ cls := "java/util/ArrayList", name := "<init>", desc := "()V" } : Jvm.MethodName) prog_36_method_2_code (1 : Nat) (Option.none : Option Jvm.ClassFile.FieldType)) ∈ lw_all := lw_g (lw_at lw_m1 48 rfl) rfl
theorem q118 : (Jvm.Cond.methodLink "java/util/ArrayList" (1 : Nat) ({ cls := "java/util/AbstractList", name := "<init>", desc := "()V" } : Jvm.MethodName)) ∈ lw_all := lw_g (lw_at lw_m1 49 rfl) rfl
theorem q125 : (Jvm.Cond.fieldLink "java/util/ArrayList" (39 : Nat) "java/util/ArrayList" "DEFAULTCAPACITY_EMPTY_ELEMENTDATA" "[Ljava/lang/Object;") ∈ lw_all := lw_g (lw_at lw_m1 56 rfl) rfl
theorem q126 : (Jvm.Cond.laysStatic "java/util/ArrayList" "DEFAULTCAPACITY_EMPTY_ELEMENTDATA" "[Ljava/lang/Object;") ∈ lw_tbl := lw_at lw_m1 57 rfl
theorem q127 : (Jvm.Cond.fieldLink "java/util/ArrayList" (9 : Nat) "java/util/ArrayList" "elementData" "[Ljava/lang/Object;") ∈ lw_all := lw_g (lw_at lw_m1 58 rfl) rfl
theorem q130 : (Jvm.Cond.fieldLink "java/util/ArrayList" (48 : Nat) "java/util/ArrayList" "size" "I") ∈ lw_all := lw_g (lw_at lw_m1 61 rfl) rfl
theorem q133 : (Jvm.Cond.sameField "java/util/ArrayList" "java/util/AbstractList" "modCount" "I") ∈ lw_all := lw_g (lw_at lw_m1 64 rfl) rfl
theorem q135 : (Jvm.Cond.fieldLink "java/util/ArrayList" (63 : Nat) "java/util/ArrayList" "modCount" "I") ∈ lw_all := lw_g (lw_at lw_m1 66 rfl) rfl
theorem q136 : (Jvm.Cond.lays "java/util/ArrayList" "java/util/ArrayList" "elementData" "[Ljava/lang/Object;") ∈ lw_all := lw_g (lw_at lw_m1 67 rfl) rfl
theorem q137 : (Jvm.Cond.soleField "java/util/ArrayList" "elementData") ∈ lw_all := lw_g (lw_at lw_m1 68 rfl) rfl
theorem q138 : (Jvm.Cond.lays "java/util/ArrayList" "java/util/ArrayList" "size" "I") ∈ lw_all := lw_g (lw_at lw_m1 69 rfl) rfl
theorem q139 : (Jvm.Cond.soleField "java/util/ArrayList" "size") ∈ lw_all := lw_g (lw_at lw_m1 70 rfl) rfl
theorem q140 : (Jvm.Cond.lays "java/util/ArrayList" "java/util/AbstractList" "modCount" "I") ∈ lw_all := lw_g (lw_at lw_m1 71 rfl) rfl
theorem q142 : (Jvm.Cond.superclass "java/util/ArrayList" "java/util/AbstractList") ∈ lw_all := lw_g (lw_at lw_m1 73 rfl) rfl
theorem q152 : (Jvm.Cond.instanceMethod ({ cls := "java/util/ArrayList", name := "size", desc := "()I" } : Jvm.MethodName)) ∈ lw_all := lw_g (lw_at lw_m1 83 rfl) rfl
theorem q153 : (Jvm.Cond.selects "java/util/ArrayList" ({ cls := "java/util/ArrayList", name := "size", desc := "()I" } : Jvm.MethodName) ({ cls := "java/util/ArrayList", name := "size", desc := "()I" } : Jvm.MethodName)) ∈ lw_all := lw_g (lw_at lw_m1 84 rfl) rfl
theorem q154 : (Jvm.Cond.code ({ cls := "java/util/ArrayList", name := "size", desc := "()I" } : Jvm.MethodName) prog_36_method_8_code (1 : Nat) (Option.some Jvm.ClassFile.FieldType.int)) ∈ lw_all := lw_g (lw_at lw_m1 85 rfl) rfl
theorem q156 : (Jvm.Cond.instanceMethod ({ cls := "java/util/ArrayList", name := "get", desc := "(I)Ljava/lang/Object;" } : Jvm.MethodName)) ∈ lw_all := lw_g (lw_at lw_m1 87 rfl) rfl
theorem q157 : (Jvm.Cond.selects "java/util/ArrayList" ({ cls := "java/util/ArrayList", name := "get", desc := "(I)Ljava/lang/Object;" } : Jvm.MethodName) ({ cls := "java/util/ArrayList", name := "get", desc := "(I)Ljava/lang/Object;" } : Jvm.MethodName)) ∈ lw_all := lw_g (lw_at lw_m1 88 rfl) rfl
theorem q158 : (Jvm.Cond.code ({ cls := "java/util/ArrayList", name := "get", desc := "(I)Ljava/lang/Object;" } : Jvm.MethodName) prog_36_method_20_code (2 : Nat) (Option.some (Jvm.ClassFile.FieldType.object "java/lang/Object"))) ∈ lw_all := lw_g (lw_at lw_m1 89 rfl) rfl
theorem q159 : (Jvm.Cond.methodLink "java/util/ArrayList" (118 : Nat) ({ cls := "java/util/Objects", name := "checkIndex", desc := "(II)I" } : Jvm.MethodName)) ∈ lw_all := lw_g (lw_at lw_m1 90 rfl) rfl
theorem q165 : (Jvm.Cond.methodLink "java/util/ArrayList" (123 : Nat) ({ cls := "java/util/ArrayList", name := "elementData", desc := "(I)Ljava/lang/Object;" } : Jvm.MethodName)) ∈ lw_all := lw_g (lw_at lw_m1 96 rfl) rfl
theorem q166 : (Jvm.Cond.instanceMethod ({ cls := "java/util/ArrayList", name := "elementData", desc := "(I)Ljava/lang/Object;" } : Jvm.MethodName)) ∈ lw_all := lw_g (lw_at lw_m1 97 rfl) rfl
theorem q167 : (Jvm.Cond.selects "java/util/ArrayList" ({ cls := "java/util/ArrayList", name := "elementData", desc := "(I)Ljava/lang/Object;" } : Jvm.MethodName) ({ cls := "java/util/ArrayList", name := "elementData", desc := "(I)Ljava/lang/Object;" } : Jvm.MethodName)) ∈ lw_all := lw_g (lw_at lw_m1 98 rfl) rfl
theorem q168 : (Jvm.Cond.code ({ cls := "java/util/ArrayList", name := "elementData", desc := "(I)Ljava/lang/Object;" } : Jvm.MethodName) prog_36_method_18_code (2 : Nat) (Option.some (Jvm.ClassFile.FieldType.object "java/lang/Object"))) ∈ lw_all := lw_g (lw_at lw_m1 99 rfl) rfl
theorem q175 : (Jvm.Cond.instanceMethod ({ cls := "java/util/ArrayList", name := "remove", desc := "(I)Ljava/lang/Object;" } : Jvm.MethodName)) ∈ lw_all := lw_g (lw_at lw_m1 106 rfl) rfl
theorem q176 : (Jvm.Cond.selects "java/util/ArrayList" ({ cls := "java/util/ArrayList", name := "remove", desc := "(I)Ljava/lang/Object;" } : Jvm.MethodName) ({ cls := "java/util/ArrayList", name := "remove", desc := "(I)Ljava/lang/Object;" } : Jvm.MethodName)) ∈ lw_all := lw_g (lw_at lw_m1 107 rfl) rfl
theorem q177 : (Jvm.Cond.code ({ cls := "java/util/ArrayList", name := "remove", desc := "(I)Ljava/lang/Object;" } : Jvm.MethodName) prog_36_method_29_code (4 : Nat) (Option.some (Jvm.ClassFile.FieldType.object "java/lang/Object"))) ∈ lw_all := lw_g (lw_at lw_m1 108 rfl) rfl
theorem q178 : (Jvm.Cond.methodLink "java/util/ArrayList" (144 : Nat) ({ cls := "java/util/ArrayList", name := "fastRemove", desc := "([Ljava/lang/Object;I)V" } : Jvm.MethodName)) ∈ lw_all := lw_g (lw_at lw_m1 109 rfl) rfl
theorem q179 : (Jvm.Cond.privateMethod ({ cls := "java/util/ArrayList", name := "fastRemove", desc := "([Ljava/lang/Object;I)V" } : Jvm.MethodName)) ∈ lw_tbl := lw_at lw_m1 110 rfl
theorem q180 : (Jvm.Cond.instanceMethod ({ cls := "java/util/ArrayList", name := "fastRemove", desc := "([Ljava/lang/Object;I)V" } : Jvm.MethodName)) ∈ lw_all := lw_g (lw_at lw_m1 111 rfl) rfl
theorem q181 : (Jvm.Cond.code ({ cls := "java/util/ArrayList", name := "fastRemove", desc := "([Ljava/lang/Object;I)V" } : Jvm.MethodName) prog_36_method_39_code (4 : Nat) (Option.none : Option Jvm.ClassFile.FieldType)) ∈ lw_all := lw_g (lw_at lw_m1 112 rfl) rfl
theorem q182 : (Jvm.Cond.methodLink "java/util/ArrayList" (112 : Nat) ({ cls := "java/lang/System", name := "arraycopy", desc := "(Ljava/lang/Object;ILjava/lang/Object;II)V" } : Jvm.MethodName)) ∈ lw_all := lw_g (lw_at lw_m1 113 rfl) rfl
theorem q209 : (Jvm.Cond.instanceMethod ({ cls := "java/util/ArrayList", name := "add", desc := "(Ljava/lang/Object;)Z" } : Jvm.MethodName)) ∈ lw_all := lw_g (lw_at lw_m1 140 rfl) rfl
theorem q210 : (Jvm.Cond.selects "java/util/ArrayList" ({ cls := "java/util/ArrayList", name := "add", desc := "(Ljava/lang/Object;)Z" } : Jvm.MethodName) ({ cls := "java/util/ArrayList", name := "add", desc := "(Ljava/lang/Object;)Z" } : Jvm.MethodName)) ∈ lw_all := lw_g (lw_at lw_m1 141 rfl) rfl
theorem q211 : (Jvm.Cond.code ({ cls := "java/util/ArrayList", name := "add", desc := "(Ljava/lang/Object;)Z" } : Jvm.MethodName) prog_36_method_25_code (2 : Nat) (Option.some Jvm.ClassFile.FieldType.boolean)) ∈ lw_all := lw_g (lw_at lw_m1 142 rfl) rfl
theorem q212 : (Jvm.Cond.methodLink "java/util/ArrayList" (131 : Nat) ({ cls := "java/util/ArrayList", name := "add", desc := "(Ljava/lang/Object;[Ljava/lang/Object;I)V" } : Jvm.MethodName)) ∈ lw_all := lw_g (lw_at lw_m1 143 rfl) rfl
theorem q213 : (Jvm.Cond.privateMethod ({ cls := "java/util/ArrayList", name := "add", desc := "(Ljava/lang/Object;[Ljava/lang/Object;I)V" } : Jvm.MethodName)) ∈ lw_tbl := lw_at lw_m1 144 rfl
theorem q214 : (Jvm.Cond.instanceMethod ({ cls := "java/util/ArrayList", name := "add", desc := "(Ljava/lang/Object;[Ljava/lang/Object;I)V" } : Jvm.MethodName)) ∈ lw_all := lw_g (lw_at lw_m1 145 rfl) rfl
theorem q215 : (Jvm.Cond.code ({ cls := "java/util/ArrayList", name := "add", desc := "(Ljava/lang/Object;[Ljava/lang/Object;I)V" } : Jvm.MethodName) prog_36_method_24_code (4 : Nat) (Option.none : Option Jvm.ClassFile.FieldType)) ∈ lw_all := lw_g (lw_at lw_m1 146 rfl) rfl
theorem q216 : (Jvm.Cond.methodLink "java/util/ArrayList" (129 : Nat) ({ cls := "java/util/ArrayList", name := "grow", desc := "()[Ljava/lang/Object;" } : Jvm.MethodName)) ∈ lw_all := lw_g (lw_at lw_m1 147 rfl) rfl
theorem q217 : (Jvm.Cond.privateMethod ({ cls := "java/util/ArrayList", name := "grow", desc := "()[Ljava/lang/Object;" } : Jvm.MethodName)) ∈ lw_tbl := lw_at lw_m1 148 rfl
theorem q218 : (Jvm.Cond.instanceMethod ({ cls := "java/util/ArrayList", name := "grow", desc := "()[Ljava/lang/Object;" } : Jvm.MethodName)) ∈ lw_all := lw_g (lw_at lw_m1 149 rfl) rfl
theorem q219 : (Jvm.Cond.code ({ cls := "java/util/ArrayList", name := "grow", desc := "()[Ljava/lang/Object;" } : Jvm.MethodName) prog_36_method_7_code (1 : Nat) (Option.some (Jvm.ClassFile.FieldType.array (Jvm.ClassFile.FieldType.object "java/lang/Object")))) ∈ lw_all := lw_g (lw_at lw_m1 150 rfl) rfl
theorem q220 : (Jvm.Cond.methodLink "java/util/ArrayList" (69 : Nat) ({ cls := "java/util/ArrayList", name := "grow", desc := "(I)[Ljava/lang/Object;" } : Jvm.MethodName)) ∈ lw_all := lw_g (lw_at lw_m1 151 rfl) rfl
theorem q221 : (Jvm.Cond.privateMethod ({ cls := "java/util/ArrayList", name := "grow", desc := "(I)[Ljava/lang/Object;" } : Jvm.MethodName)) ∈ lw_tbl := lw_at lw_m1 152 rfl
theorem q222 : (Jvm.Cond.instanceMethod ({ cls := "java/util/ArrayList", name := "grow", desc := "(I)[Ljava/lang/Object;" } : Jvm.MethodName)) ∈ lw_all := lw_g (lw_at lw_m1 153 rfl) rfl
theorem q223 : (Jvm.Cond.code ({ cls := "java/util/ArrayList", name := "grow", desc := "(I)[Ljava/lang/Object;" } : Jvm.MethodName) prog_36_method_6_code (4 : Nat) (Option.some (Jvm.ClassFile.FieldType.array (Jvm.ClassFile.FieldType.object "java/lang/Object")))) ∈ lw_all := lw_g (lw_at lw_m1 154 rfl) rfl
theorem q224 : (Jvm.Cond.methodLink "java/util/ArrayList" (73 : Nat) ({ cls := "jdk/internal/util/ArraysSupport", name := "newLength", desc := "(III)I" } : Jvm.MethodName)) ∈ lw_all := lw_g (lw_at lw_m1 155 rfl) rfl
theorem q234 : (Jvm.Cond.methodLink "java/util/ArrayList" (66 : Nat) ({ cls := "java/util/Arrays", name := "copyOf", desc := "([Ljava/lang/Object;I)[Ljava/lang/Object;" } : Jvm.MethodName)) ∈ lw_all := lw_g (lw_at lw_m1 165 rfl) rfl
theorem q254 : (Jvm.Cond.selects "java/util/ArrayList" ({ cls := "java/lang/Object", name := "getClass", desc := "()Ljava/lang/Class;" } : Jvm.MethodName) ({ cls := "java/lang/Object", name := "getClass", desc := "()Ljava/lang/Class;" } : Jvm.MethodName)) ∈ lw_all := lw_g (lw_at lw_m1 185 rfl) rfl
theorem q270 : (Jvm.Cond.methodLink "java/util/ArrayList" (79 : Nat) ({ cls := "java/lang/Math", name := "max", desc := "(II)I" } : Jvm.MethodName)) ∈ lw_all := lw_g (lw_at lw_m1 201 rfl) rfl
theorem q271 : (Jvm.Cond.classLink "java/util/ArrayList" (7 : Nat) "java/lang/Object") ∈ lw_all := lw_g (lw_at lw_m1 202 rfl) rfl
theorem q292 : (Jvm.Cond.instanceMethod ({ cls := "java/util/ArrayList", name := "iterator", desc := "()Ljava/util/Iterator;" } : Jvm.MethodName)) ∈ lw_all := lw_g (lw_at lw_m1 223 rfl) rfl
theorem q293 : (Jvm.Cond.selects "java/util/ArrayList" ({ cls := "java/util/ArrayList", name := "iterator", desc := "()Ljava/util/Iterator;" } : Jvm.MethodName) ({ cls := "java/util/ArrayList", name := "iterator", desc := "()Ljava/util/Iterator;" } : Jvm.MethodName)) ∈ lw_all := lw_g (lw_at lw_m1 224 rfl) rfl
theorem q294 : (Jvm.Cond.code ({ cls := "java/util/ArrayList", name := "iterator", desc := "()Ljava/util/Iterator;" } : Jvm.MethodName) prog_36_method_55_code (1 : Nat) (Option.some (Jvm.ClassFile.FieldType.object "java/util/Iterator"))) ∈ lw_all := lw_g (lw_at lw_m1 225 rfl) rfl
theorem q295 : (Jvm.Cond.classLink "java/util/ArrayList" (267 : Nat) "java/util/ArrayList$Itr") ∈ lw_all := lw_g (lw_at lw_m1 226 rfl) rfl
theorem q297 : (Jvm.Cond.methodLink "java/util/ArrayList" (269 : Nat) ({ cls := "java/util/ArrayList$Itr", name := "<init>", desc := "(Ljava/util/ArrayList;)V" } : Jvm.MethodName)) ∈ lw_all := lw_g (lw_at lw_m1 228 rfl) rfl
theorem q668 : (Jvm.Cond.instanceMethod ({ cls := "java/util/ArrayList", name := "set", desc := "(ILjava/lang/Object;)Ljava/lang/Object;" } : Jvm.MethodName)) ∈ lw_all := lw_g (lw_at lw_m3 119 rfl) rfl
theorem q669 : (Jvm.Cond.selects "java/util/ArrayList" ({ cls := "java/util/ArrayList", name := "set", desc := "(ILjava/lang/Object;)Ljava/lang/Object;" } : Jvm.MethodName) ({ cls := "java/util/ArrayList", name := "set", desc := "(ILjava/lang/Object;)Ljava/lang/Object;" } : Jvm.MethodName)) ∈ lw_all := lw_g (lw_at lw_m3 120 rfl) rfl
theorem q670 : (Jvm.Cond.code ({ cls := "java/util/ArrayList", name := "set", desc := "(ILjava/lang/Object;)Ljava/lang/Object;" } : Jvm.MethodName) prog_36_method_23_code (4 : Nat) (Option.some (Jvm.ClassFile.FieldType.object "java/lang/Object"))) ∈ lw_all := lw_g (lw_at lw_m3 121 rfl) rfl
theorem q1653 : (Jvm.Cond.instanceMethod ({ cls := "java/util/ArrayList", name := "listIterator", desc := "()Ljava/util/ListIterator;" } : Jvm.MethodName)) ∈ lw_all := lw_g (lw_at lw_m7 144 rfl) rfl
theorem q1654 : (Jvm.Cond.selects "java/util/ArrayList" ({ cls := "java/util/ArrayList", name := "listIterator", desc := "()Ljava/util/ListIterator;" } : Jvm.MethodName) ({ cls := "java/util/ArrayList", name := "listIterator", desc := "()Ljava/util/ListIterator;" } : Jvm.MethodName)) ∈ lw_all := lw_g (lw_at lw_m7 145 rfl) rfl
theorem q1655 : (Jvm.Cond.code ({ cls := "java/util/ArrayList", name := "listIterator", desc := "()Ljava/util/ListIterator;" } : Jvm.MethodName) prog_36_method_54_code (1 : Nat) (Option.some (Jvm.ClassFile.FieldType.object "java/util/ListIterator"))) ∈ lw_all := lw_g (lw_at lw_m7 146 rfl) rfl
theorem q1656 : (Jvm.Cond.classLink "java/util/ArrayList" (262 : Nat) "java/util/ArrayList$ListItr") ∈ lw_all := lw_g (lw_at lw_m7 147 rfl) rfl
theorem q1658 : (Jvm.Cond.methodLink "java/util/ArrayList" (264 : Nat) ({ cls := "java/util/ArrayList$ListItr", name := "<init>", desc := "(Ljava/util/ArrayList;I)V" } : Jvm.MethodName)) ∈ lw_all := lw_g (lw_at lw_m7 149 rfl) rfl
theorem q1704 : (Jvm.Cond.instanceMethod ({ cls := "java/util/ArrayList", name := "add", desc := "(ILjava/lang/Object;)V" } : Jvm.MethodName)) ∈ lw_all := lw_g (lw_at lw_m7 195 rfl) rfl
theorem q1705 : (Jvm.Cond.selects "java/util/ArrayList" ({ cls := "java/util/ArrayList", name := "add", desc := "(ILjava/lang/Object;)V" } : Jvm.MethodName) ({ cls := "java/util/ArrayList", name := "add", desc := "(ILjava/lang/Object;)V" } : Jvm.MethodName)) ∈ lw_all := lw_g (lw_at lw_m7 196 rfl) rfl
theorem q1706 : (Jvm.Cond.code ({ cls := "java/util/ArrayList", name := "add", desc := "(ILjava/lang/Object;)V" } : Jvm.MethodName) prog_36_method_26_code (5 : Nat) (Option.none : Option Jvm.ClassFile.FieldType)) ∈ lw_all := lw_g (lw_at lw_m7 197 rfl) rfl
theorem q1707 : (Jvm.Cond.methodLink "java/util/ArrayList" (135 : Nat) ({ cls := "java/util/ArrayList", name := "rangeCheckForAdd", desc := "(I)V" } : Jvm.MethodName)) ∈ lw_all := lw_g (lw_at lw_m7 198 rfl) rfl
theorem q1708 : (Jvm.Cond.privateMethod ({ cls := "java/util/ArrayList", name := "rangeCheckForAdd", desc := "(I)V" } : Jvm.MethodName)) ∈ lw_tbl := lw_at lw_m7 199 rfl
theorem q1709 : (Jvm.Cond.instanceMethod ({ cls := "java/util/ArrayList", name := "rangeCheckForAdd", desc := "(I)V" } : Jvm.MethodName)) ∈ lw_all := lw_g (lw_at lw_m7 200 rfl) rfl
theorem q1710 : (Jvm.Cond.code ({ cls := "java/util/ArrayList", name := "rangeCheckForAdd", desc := "(I)V" } : Jvm.MethodName) prog_36_method_45_code (2 : Nat) (Option.none : Option Jvm.ClassFile.FieldType)) ∈ lw_all := lw_g (lw_at lw_m7 201 rfl) rfl
theorem q1711 : (Jvm.Cond.classLink "java/util/ArrayList" (187 : Nat) "java/lang/IndexOutOfBoundsException") ∈ lw_all := lw_g (lw_at lw_m7 202 rfl) rfl
theorem q1712 : (Jvm.Cond.methodLink "java/util/ArrayList" (198 : Nat) ({ cls := "java/util/ArrayList", name := "outOfBoundsMsg", desc := "(I)Ljava/lang/String;" } : Jvm.MethodName)) ∈ lw_all := lw_g (lw_at lw_m7 203 rfl) rfl
theorem q1713 : (Jvm.Cond.privateMethod ({ cls := "java/util/ArrayList", name := "outOfBoundsMsg", desc := "(I)Ljava/lang/String;" } : Jvm.MethodName)) ∈ lw_tbl := lw_at lw_m7 204 rfl
theorem q1714 : (Jvm.Cond.instanceMethod ({ cls := "java/util/ArrayList", name := "outOfBoundsMsg", desc := "(I)Ljava/lang/String;" } : Jvm.MethodName)) ∈ lw_all := lw_g (lw_at lw_m7 205 rfl) rfl
theorem q1715 : (Jvm.Cond.code ({ cls := "java/util/ArrayList", name := "outOfBoundsMsg", desc := "(I)Ljava/lang/String;" } : Jvm.MethodName) prog_36_method_46_code (2 : Nat) (Option.some (Jvm.ClassFile.FieldType.object "java/lang/String"))) ∈ lw_all := lw_g (lw_at lw_m7 206 rfl) rfl
theorem q1716 : (Jvm.Cond.classLink "java/util/ArrayList" (20 : Nat) "java/lang/StringBuilder") ∈ lw_all := lw_g (lw_at lw_m7 207 rfl) rfl
theorem q1717 : (Jvm.Cond.methodLink "java/util/ArrayList" (22 : Nat) ({ cls := "java/lang/StringBuilder", name := "<init>", desc := "()V" } : Jvm.MethodName)) ∈ lw_all := lw_g (lw_at lw_m7 208 rfl) rfl
theorem q1718 : (Jvm.Cond.stringRef "java/util/ArrayList" (201 : Nat) "Index: ") ∈ lw_tbl := lw_at lw_m7 209 rfl
theorem q1719 : (Jvm.Cond.methodLink "java/util/ArrayList" (25 : Nat) ({ cls := "java/lang/StringBuilder", name := "append", desc := "(Ljava/lang/String;)Ljava/lang/StringBuilder;" } : Jvm.MethodName)) ∈ lw_all := lw_g (lw_at lw_m7 210 rfl) rfl
theorem q1720 : (Jvm.Cond.methodLink "java/util/ArrayList" (29 : Nat) ({ cls := "java/lang/StringBuilder", name := "append", desc := "(I)Ljava/lang/StringBuilder;" } : Jvm.MethodName)) ∈ lw_all := lw_g (lw_at lw_m7 211 rfl) rfl
theorem q1721 : (Jvm.Cond.stringRef "java/util/ArrayList" (203 : Nat) ", Size: ") ∈ lw_tbl := lw_at lw_m7 212 rfl
theorem q1722 : (Jvm.Cond.methodLink "java/util/ArrayList" (32 : Nat) ({ cls := "java/lang/StringBuilder", name := "toString", desc := "()Ljava/lang/String;" } : Jvm.MethodName)) ∈ lw_all := lw_g (lw_at lw_m7 213 rfl) rfl
theorem q1723 : (Jvm.Cond.methodLink "java/util/ArrayList" (193 : Nat) ({ cls := "java/lang/IndexOutOfBoundsException", name := "<init>", desc := "(Ljava/lang/String;)V" } : Jvm.MethodName)) ∈ lw_all := lw_g (lw_at lw_m7 214 rfl) rfl
theorem q2172 : (Jvm.Cond.castable "java/util/ArrayList" "java/lang/Object") ∈ lw_tbl := lw_at lw_m9 183 rfl
theorem in_J2 : ∀ w ∈ wsJ20, w ∈ lw_all := lw_in wsJ20 [140, 136, 138] (by decide +kernel) (by decide +kernel)
/-! java/util/Objects -/
set_option maxRecDepth 100000
def RJ3 : String := "java/util/Objects"
abbrev cJ3_checkIndex : ByteArray := prog_46_method_17_code
def yJ3_checkIndex : MethodName := ⟨RJ3, "checkIndex", "(II)I"⟩
def dkwJ3_checkIndex_0 : List UInt8 := [26, 27, 1, 184, 0, 105, 172]
abbrev dktJ3_checkIndex_0 : List UInt8 := dkwJ3_checkIndex_0 ++ []
theorem dksJ3_checkIndex_0 : cJ3_checkIndex.data.toList.drop 0 = dktJ3_checkIndex_0 := by decide +kernel
theorem dJ3_checkIndex_0 : decode cJ3_checkIndex 0 = .ok (.iload_n 0, 1) := dk_26 (dk_at dksJ3_checkIndex_0 0 rfl rfl)
theorem dJ3_checkIndex_1 : decode cJ3_checkIndex 1 = .ok (.iload_n 1, 1) := dk_27 (dk_at dksJ3_checkIndex_0 1 rfl rfl)
theorem dJ3_checkIndex_2 : decode cJ3_checkIndex 2 = .ok (.aconst_null, 1) := dk_1 (dk_at dksJ3_checkIndex_0 2 rfl rfl)
theorem dJ3_checkIndex_3 : decode cJ3_checkIndex 3 = .ok (.invokestatic 105, 3) := dk_184 0 105 (dk_at dksJ3_checkIndex_0 3 rfl rfl)
theorem dJ3_checkIndex_6 : decode cJ3_checkIndex 6 = .ok (.ireturn, 1) := dk_172 (dk_at dksJ3_checkIndex_0 6 rfl rfl)
abbrev cJ3_checkFromToIndex : ByteArray := prog_46_method_18_code
def yJ3_checkFromToIndex : MethodName := ⟨RJ3, "checkFromToIndex", "(III)I"⟩
def dkwJ3_checkFromToIndex_0 : List UInt8 := [26, 27, 28, 1, 184, 0, 111, 172]
abbrev dktJ3_checkFromToIndex_0 : List UInt8 := dkwJ3_checkFromToIndex_0 ++ []
theorem dksJ3_checkFromToIndex_0 : cJ3_checkFromToIndex.data.toList.drop 0 = dktJ3_checkFromToIndex_0 := by decide +kernel
theorem dJ3_checkFromToIndex_0 : decode cJ3_checkFromToIndex 0 = .ok (.iload_n 0, 1) := dk_26 (dk_at dksJ3_checkFromToIndex_0 0 rfl rfl)
theorem dJ3_checkFromToIndex_1 : decode cJ3_checkFromToIndex 1 = .ok (.iload_n 1, 1) := dk_27 (dk_at dksJ3_checkFromToIndex_0 1 rfl rfl)
theorem dJ3_checkFromToIndex_2 : decode cJ3_checkFromToIndex 2 = .ok (.iload_n 2, 1) := dk_28 (dk_at dksJ3_checkFromToIndex_0 2 rfl rfl)
theorem dJ3_checkFromToIndex_3 : decode cJ3_checkFromToIndex 3 = .ok (.aconst_null, 1) := dk_1 (dk_at dksJ3_checkFromToIndex_0 3 rfl rfl)
theorem dJ3_checkFromToIndex_4 : decode cJ3_checkFromToIndex 4 = .ok (.invokestatic 111, 3) := dk_184 0 111 (dk_at dksJ3_checkFromToIndex_0 4 rfl rfl)
theorem dJ3_checkFromToIndex_7 : decode cJ3_checkFromToIndex 7 = .ok (.ireturn, 1) := dk_172 (dk_at dksJ3_checkFromToIndex_0 7 rfl rfl)
abbrev cJ3_requireNonNull : ByteArray := prog_46_method_10_code
def yJ3_requireNonNull : MethodName := ⟨RJ3, "requireNonNull", "(Ljava/lang/Object;)Ljava/lang/Object;"⟩
def dkwJ3_requireNonNull_0 : List UInt8 := [42, 199, 0, 11, 187, 0, 84, 89, 183, 0, 86, 191, 42, 176]
abbrev dktJ3_requireNonNull_0 : List UInt8 := dkwJ3_requireNonNull_0 ++ []
theorem dksJ3_requireNonNull_0 : cJ3_requireNonNull.data.toList.drop 0 = dktJ3_requireNonNull_0 := by decide +kernel
theorem dJ3_requireNonNull_0 : decode cJ3_requireNonNull 0 = .ok (.aload_n 0, 1) := dk_42 (dk_at dksJ3_requireNonNull_0 0 rfl rfl)
theorem dJ3_requireNonNull_1 : decode cJ3_requireNonNull 1 = .ok (.ifnonnull 11, 3) := dk_199 0 11 (dk_at dksJ3_requireNonNull_0 1 rfl rfl)
theorem dJ3_requireNonNull_4 : decode cJ3_requireNonNull 4 = .ok (.new 84, 3) := dk_187 0 84 (dk_at dksJ3_requireNonNull_0 4 rfl rfl)
theorem dJ3_requireNonNull_7 : decode cJ3_requireNonNull 7 = .ok (.dup, 1) := dk_89 (dk_at dksJ3_requireNonNull_0 7 rfl rfl)
theorem dJ3_requireNonNull_8 : decode cJ3_requireNonNull 8 = .ok (.invokespecial 86, 3) := dk_183 0 86 (dk_at dksJ3_requireNonNull_0 8 rfl rfl)
theorem dJ3_requireNonNull_11 : decode cJ3_requireNonNull 11 = .ok (.athrow, 1) := dk_191 (dk_at dksJ3_requireNonNull_0 11 rfl rfl)
theorem dJ3_requireNonNull_12 : decode cJ3_requireNonNull 12 = .ok (.aload_n 0, 1) := dk_42 (dk_at dksJ3_requireNonNull_0 12 rfl rfl)
theorem dJ3_requireNonNull_13 : decode cJ3_requireNonNull 13 = .ok (.areturn, 1) := dk_176 (dk_at dksJ3_requireNonNull_0 13 rfl rfl)
theorem q76 : (Jvm.Cond.initialized "java/util/Objects") ∈ lw_all := lw_g (lw_at lw_m1 7 rfl) rfl
theorem q160 : (Jvm.Cond.static ({ cls := "java/util/Objects", name := "checkIndex", desc := "(II)I" } : Jvm.MethodName)) ∈ lw_all := lw_g (lw_at lw_m1 91 rfl) rfl
theorem q161 : (Jvm.Cond.code ({ cls := "java/util/Objects", name := "checkIndex", desc := "(II)I" } : Jvm.MethodName) prog_46_method_17_code (2 : Nat) (Option.some Jvm.ClassFile.FieldType.int)) ∈ lw_all := lw_g (lw_at lw_m1 92 rfl) rfl
theorem q162 : (Jvm.Cond.methodLink "java/util/Objects" (105 : Nat) ({ cls := "jdk/internal/util/Preconditions", name := "checkIndex", desc := "(IILjava/util/function/BiFunction;)I" } : Jvm.MethodName)) ∈ lw_all := lw_g (lw_at lw_m1 93 rfl) rfl
theorem q1010 : (Jvm.Cond.static ({ cls := "java/util/Objects", name := "checkFromToIndex", desc := "(III)I" } : Jvm.MethodName)) ∈ lw_all := lw_g (lw_at lw_m4 221 rfl) rfl
theorem q1011 : (Jvm.Cond.code ({ cls := "java/util/Objects", name := "checkFromToIndex", desc := "(III)I" } : Jvm.MethodName) prog_46_method_18_code (3 : Nat) (Option.some Jvm.ClassFile.FieldType.int)) ∈ lw_all := lw_g (lw_at lw_m4 222 rfl) rfl
theorem q1012 : (Jvm.Cond.methodLink "java/util/Objects" (111 : Nat) ({ cls := "jdk/internal/util/Preconditions", name := "checkFromToIndex", desc := "(IIILjava/util/function/BiFunction;)I" } : Jvm.MethodName)) ∈ lw_all := lw_g (lw_at lw_m4 223 rfl) rfl
theorem q1079 : (Jvm.Cond.static ({ cls := "java/util/Objects", name := "requireNonNull", desc := "(Ljava/lang/Object;)Ljava/lang/Object;" } : Jvm.MethodName)) ∈ lw_all := lw_g (lw_at lw_m5 50 rfl) rfl
theorem q1080 : (Jvm.Cond.code ({ cls := "java/util/Objects", name := "requireNonNull", desc := "(Ljava/lang/Object;)Ljava/lang/Object;" } : Jvm.MethodName) prog_46_method_10_code (1 : Nat) (Option.some (Jvm.ClassFile.FieldType.object "java/lang/Object"))) ∈ lw_all := lw_g (lw_at lw_m5 51 rfl) rfl
/-! jdk/internal/util/Preconditions -/
set_option maxRecDepth 100000
def RJ4 : String := "jdk/internal/util/Preconditions"
abbrev cJ4_checkIndex : ByteArray := prog_50_method_11_code
def yJ4_checkIndex : MethodName := ⟨RJ4, "checkIndex", "(IILjava/util/function/BiFunction;)I"⟩
def dkwJ4_checkIndex_0 : List UInt8 := [26, 155, 0, 8, 26, 27, 161, 0, 10, 44, 26, 27, 184, 0, 95, 191, 26, 172]
abbrev dktJ4_checkIndex_0 : List UInt8 := dkwJ4_checkIndex_0 ++ []
theorem dksJ4_checkIndex_0 : cJ4_checkIndex.data.toList.drop 0 = dktJ4_checkIndex_0 := by decide +kernel
theorem dJ4_checkIndex_0 : decode cJ4_checkIndex 0 = .ok (.iload_n 0, 1) := dk_26 (dk_at dksJ4_checkIndex_0 0 rfl rfl)
theorem dJ4_checkIndex_1 : decode cJ4_checkIndex 1 = .ok (.ifCond .lt 8, 3) := dk_155 0 8 (dk_at dksJ4_checkIndex_0 1 rfl rfl)
theorem dJ4_checkIndex_4 : decode cJ4_checkIndex 4 = .ok (.iload_n 0, 1) := dk_26 (dk_at dksJ4_checkIndex_0 4 rfl rfl)
theorem dJ4_checkIndex_5 : decode cJ4_checkIndex 5 = .ok (.iload_n 1, 1) := dk_27 (dk_at dksJ4_checkIndex_0 5 rfl rfl)
theorem dJ4_checkIndex_6 : decode cJ4_checkIndex 6 = .ok (.if_icmp .lt 10, 3) := dk_161 0 10 (dk_at dksJ4_checkIndex_0 6 rfl rfl)
theorem dJ4_checkIndex_9 : decode cJ4_checkIndex 9 = .ok (.aload_n 2, 1) := dk_44 (dk_at dksJ4_checkIndex_0 9 rfl rfl)
theorem dJ4_checkIndex_10 : decode cJ4_checkIndex 10 = .ok (.iload_n 0, 1) := dk_26 (dk_at dksJ4_checkIndex_0 10 rfl rfl)
theorem dJ4_checkIndex_11 : decode cJ4_checkIndex 11 = .ok (.iload_n 1, 1) := dk_27 (dk_at dksJ4_checkIndex_0 11 rfl rfl)
theorem dJ4_checkIndex_12 : decode cJ4_checkIndex 12 = .ok (.invokestatic 95, 3) := dk_184 0 95 (dk_at dksJ4_checkIndex_0 12 rfl rfl)
theorem dJ4_checkIndex_15 : decode cJ4_checkIndex 15 = .ok (.athrow, 1) := dk_191 (dk_at dksJ4_checkIndex_0 15 rfl rfl)
theorem dJ4_checkIndex_16 : decode cJ4_checkIndex 16 = .ok (.iload_n 0, 1) := dk_26 (dk_at dksJ4_checkIndex_0 16 rfl rfl)
theorem dJ4_checkIndex_17 : decode cJ4_checkIndex 17 = .ok (.ireturn, 1) := dk_172 (dk_at dksJ4_checkIndex_0 17 rfl rfl)
abbrev cJ4_checkFromToIndex : ByteArray := prog_50_method_12_code
def yJ4_checkFromToIndex : MethodName := ⟨RJ4, "checkFromToIndex", "(IIILjava/util/function/BiFunction;)I"⟩
def dkwJ4_checkFromToIndex_0 : List UInt8 := [26, 155, 0, 13, 26, 27, 163, 0, 8, 27, 28, 164, 0, 11, 45, 26, 27, 28, 184, 0, 99, 191, 26, 172]
abbrev dktJ4_checkFromToIndex_0 : List UInt8 := dkwJ4_checkFromToIndex_0 ++ []
theorem dksJ4_checkFromToIndex_0 : cJ4_checkFromToIndex.data.toList.drop 0 = dktJ4_checkFromToIndex_0 := by decide +kernel
theorem dJ4_checkFromToIndex_0 : decode cJ4_checkFromToIndex 0 = .ok (.iload_n 0, 1) := dk_26 (dk_at dksJ4_checkFromToIndex_0 0 rfl rfl)
theorem dJ4_checkFromToIndex_1 : decode cJ4_checkFromToIndex 1 = .ok (.ifCond .lt 13, 3) := dk_155 0 13 (dk_at dksJ4_checkFromToIndex_0 1 rfl rfl)
theorem dJ4_checkFromToIndex_4 : decode cJ4_checkFromToIndex 4 = .ok (.iload_n 0, 1) := dk_26 (dk_at dksJ4_checkFromToIndex_0 4 rfl rfl)
theorem dJ4_checkFromToIndex_5 : decode cJ4_checkFromToIndex 5 = .ok (.iload_n 1, 1) := dk_27 (dk_at dksJ4_checkFromToIndex_0 5 rfl rfl)
theorem dJ4_checkFromToIndex_6 : decode cJ4_checkFromToIndex 6 = .ok (.if_icmp .gt 8, 3) := dk_163 0 8 (dk_at dksJ4_checkFromToIndex_0 6 rfl rfl)
theorem dJ4_checkFromToIndex_9 : decode cJ4_checkFromToIndex 9 = .ok (.iload_n 1, 1) := dk_27 (dk_at dksJ4_checkFromToIndex_0 9 rfl rfl)
theorem dJ4_checkFromToIndex_10 : decode cJ4_checkFromToIndex 10 = .ok (.iload_n 2, 1) := dk_28 (dk_at dksJ4_checkFromToIndex_0 10 rfl rfl)
theorem dJ4_checkFromToIndex_11 : decode cJ4_checkFromToIndex 11 = .ok (.if_icmp .le 11, 3) := dk_164 0 11 (dk_at dksJ4_checkFromToIndex_0 11 rfl rfl)
theorem dJ4_checkFromToIndex_14 : decode cJ4_checkFromToIndex 14 = .ok (.aload_n 3, 1) := dk_45 (dk_at dksJ4_checkFromToIndex_0 14 rfl rfl)
theorem dJ4_checkFromToIndex_15 : decode cJ4_checkFromToIndex 15 = .ok (.iload_n 0, 1) := dk_26 (dk_at dksJ4_checkFromToIndex_0 15 rfl rfl)
theorem dJ4_checkFromToIndex_16 : decode cJ4_checkFromToIndex 16 = .ok (.iload_n 1, 1) := dk_27 (dk_at dksJ4_checkFromToIndex_0 16 rfl rfl)
theorem dJ4_checkFromToIndex_17 : decode cJ4_checkFromToIndex 17 = .ok (.iload_n 2, 1) := dk_28 (dk_at dksJ4_checkFromToIndex_0 17 rfl rfl)
theorem dJ4_checkFromToIndex_18 : decode cJ4_checkFromToIndex 18 = .ok (.invokestatic 99, 3) := dk_184 0 99 (dk_at dksJ4_checkFromToIndex_0 18 rfl rfl)
theorem dJ4_checkFromToIndex_21 : decode cJ4_checkFromToIndex 21 = .ok (.athrow, 1) := dk_191 (dk_at dksJ4_checkFromToIndex_0 21 rfl rfl)
theorem dJ4_checkFromToIndex_22 : decode cJ4_checkFromToIndex 22 = .ok (.iload_n 0, 1) := dk_26 (dk_at dksJ4_checkFromToIndex_0 22 rfl rfl)
theorem dJ4_checkFromToIndex_23 : decode cJ4_checkFromToIndex 23 = .ok (.ireturn, 1) := dk_172 (dk_at dksJ4_checkFromToIndex_0 23 rfl rfl)
abbrev cJ4_checkFromIndexSize : ByteArray := prog_50_method_13_code
def yJ4_checkFromIndexSize : MethodName := ⟨RJ4, "checkFromIndexSize", "(IIILjava/util/function/BiFunction;)I"⟩
def dkwJ4_checkFromIndexSize_1 : List UInt8 := [172]
abbrev dktJ4_checkFromIndexSize_1 : List UInt8 := dkwJ4_checkFromIndexSize_1 ++ []
def dkwJ4_checkFromIndexSize_0 : List UInt8 := [28, 26, 128, 27, 128, 155, 0, 10, 27, 28, 26, 100, 164, 0, 11, 45, 26, 27, 28, 184, 0, 103, 191, 26]
abbrev dktJ4_checkFromIndexSize_0 : List UInt8 := dkwJ4_checkFromIndexSize_0 ++ dktJ4_checkFromIndexSize_1
theorem dksJ4_checkFromIndexSize_0 : cJ4_checkFromIndexSize.data.toList.drop 0 = dktJ4_checkFromIndexSize_0 := by decide +kernel
theorem dksJ4_checkFromIndexSize_1 : cJ4_checkFromIndexSize.data.toList.drop 24 = dktJ4_checkFromIndexSize_1 := dk_seg dksJ4_checkFromIndexSize_0 24 rfl rfl
theorem dJ4_checkFromIndexSize_0 : decode cJ4_checkFromIndexSize 0 = .ok (.iload_n 2, 1) := dk_28 (dk_at dksJ4_checkFromIndexSize_0 0 rfl rfl)
theorem dJ4_checkFromIndexSize_1 : decode cJ4_checkFromIndexSize 1 = .ok (.iload_n 0, 1) := dk_26 (dk_at dksJ4_checkFromIndexSize_0 1 rfl rfl)
theorem dJ4_checkFromIndexSize_2 : decode cJ4_checkFromIndexSize 2 = .ok (.ior, 1) := dk_128 (dk_at dksJ4_checkFromIndexSize_0 2 rfl rfl)
theorem dJ4_checkFromIndexSize_3 : decode cJ4_checkFromIndexSize 3 = .ok (.iload_n 1, 1) := dk_27 (dk_at dksJ4_checkFromIndexSize_0 3 rfl rfl)
theorem dJ4_checkFromIndexSize_4 : decode cJ4_checkFromIndexSize 4 = .ok (.ior, 1) := dk_128 (dk_at dksJ4_checkFromIndexSize_0 4 rfl rfl)
theorem dJ4_checkFromIndexSize_5 : decode cJ4_checkFromIndexSize 5 = .ok (.ifCond .lt 10, 3) := dk_155 0 10 (dk_at dksJ4_checkFromIndexSize_0 5 rfl rfl)
theorem dJ4_checkFromIndexSize_8 : decode cJ4_checkFromIndexSize 8 = .ok (.iload_n 1, 1) := dk_27 (dk_at dksJ4_checkFromIndexSize_0 8 rfl rfl)
theorem dJ4_checkFromIndexSize_9 : decode cJ4_checkFromIndexSize 9 = .ok (.iload_n 2, 1) := dk_28 (dk_at dksJ4_checkFromIndexSize_0 9 rfl rfl)
theorem dJ4_checkFromIndexSize_10 : decode cJ4_checkFromIndexSize 10 = .ok (.iload_n 0, 1) := dk_26 (dk_at dksJ4_checkFromIndexSize_0 10 rfl rfl)
theorem dJ4_checkFromIndexSize_11 : decode cJ4_checkFromIndexSize 11 = .ok (.isub, 1) := dk_100 (dk_at dksJ4_checkFromIndexSize_0 11 rfl rfl)
theorem dJ4_checkFromIndexSize_12 : decode cJ4_checkFromIndexSize 12 = .ok (.if_icmp .le 11, 3) := dk_164 0 11 (dk_at dksJ4_checkFromIndexSize_0 12 rfl rfl)
theorem dJ4_checkFromIndexSize_15 : decode cJ4_checkFromIndexSize 15 = .ok (.aload_n 3, 1) := dk_45 (dk_at dksJ4_checkFromIndexSize_0 15 rfl rfl)
theorem dJ4_checkFromIndexSize_16 : decode cJ4_checkFromIndexSize 16 = .ok (.iload_n 0, 1) := dk_26 (dk_at dksJ4_checkFromIndexSize_0 16 rfl rfl)
theorem dJ4_checkFromIndexSize_17 : decode cJ4_checkFromIndexSize 17 = .ok (.iload_n 1, 1) := dk_27 (dk_at dksJ4_checkFromIndexSize_0 17 rfl rfl)
theorem dJ4_checkFromIndexSize_18 : decode cJ4_checkFromIndexSize 18 = .ok (.iload_n 2, 1) := dk_28 (dk_at dksJ4_checkFromIndexSize_0 18 rfl rfl)
theorem dJ4_checkFromIndexSize_19 : decode cJ4_checkFromIndexSize 19 = .ok (.invokestatic 103, 3) := dk_184 0 103 (dk_at dksJ4_checkFromIndexSize_0 19 rfl rfl)
theorem dJ4_checkFromIndexSize_22 : decode cJ4_checkFromIndexSize 22 = .ok (.athrow, 1) := dk_191 (dk_at dksJ4_checkFromIndexSize_0 22 rfl rfl)
theorem dJ4_checkFromIndexSize_23 : decode cJ4_checkFromIndexSize 23 = .ok (.iload_n 0, 1) := dk_26 (dk_at dksJ4_checkFromIndexSize_0 23 rfl rfl)
theorem dJ4_checkFromIndexSize_24 : decode cJ4_checkFromIndexSize 24 = .ok (.ireturn, 1) := dk_172 (dk_at dksJ4_checkFromIndexSize_1 0 rfl rfl)
theorem q77 : (Jvm.Cond.initialized "jdk/internal/util/Preconditions") ∈ lw_all := lw_g (lw_at lw_m1 8 rfl) rfl
theorem q163 : (Jvm.Cond.static ({ cls := "jdk/internal/util/Preconditions", name := "checkIndex", desc := "(IILjava/util/function/BiFunction;)I" } : Jvm.MethodName)) ∈ lw_all := lw_g (lw_at lw_m1 94 rfl) rfl
theorem q164 : (Jvm.Cond.code ({ cls := "jdk/internal/util/Preconditions", name := "checkIndex", desc := "(IILjava/util/function/BiFunction;)I" } : Jvm.MethodName) prog_50_method_11_code (3 : Nat) (Option.some Jvm.ClassFile.FieldType.int)) ∈ lw_all := lw_g (lw_at lw_m1 95 rfl) rfl
theorem q814 : (Jvm.Cond.laysStatic "jdk/internal/util/Preconditions" "SIOOBE_FORMATTER" "Ljava/util/function/BiFunction;") ∈ lw_tbl := lw_at lw_m4 25 rfl
theorem q816 : (Jvm.Cond.static ({ cls := "jdk/internal/util/Preconditions", name := "checkFromToIndex", desc := "(IIILjava/util/function/BiFunction;)I" } : Jvm.MethodName)) ∈ lw_all := lw_g (lw_at lw_m4 27 rfl) rfl
theorem q817 : (Jvm.Cond.code ({ cls := "jdk/internal/util/Preconditions", name := "checkFromToIndex", desc := "(IIILjava/util/function/BiFunction;)I" } : Jvm.MethodName) prog_50_method_12_code (4 : Nat) (Option.some Jvm.ClassFile.FieldType.int)) ∈ lw_all := lw_g (lw_at lw_m4 28 rfl) rfl
theorem q882 : (Jvm.Cond.static ({ cls := "jdk/internal/util/Preconditions", name := "checkFromIndexSize", desc := "(IIILjava/util/function/BiFunction;)I" } : Jvm.MethodName)) ∈ lw_all := lw_g (lw_at lw_m4 93 rfl) rfl
theorem q883 : (Jvm.Cond.code ({ cls := "jdk/internal/util/Preconditions", name := "checkFromIndexSize", desc := "(IIILjava/util/function/BiFunction;)I" } : Jvm.MethodName) prog_50_method_13_code (4 : Nat) (Option.some Jvm.ClassFile.FieldType.int)) ∈ lw_all := lw_g (lw_at lw_m4 94 rfl) rfl
/-! jdk/internal/util/ArraysSupport -/
set_option maxRecDepth 100000
def RJ5 : String := "jdk/internal/util/ArraysSupport"
abbrev cJ5_newLength : ByteArray := prog_49_method_27_code
def yJ5_newLength : MethodName := ⟨RJ5, "newLength", "(III)I"⟩
def dkwJ5_newLength_1 : List UInt8 := [184, 0, 201, 172]
abbrev dktJ5_newLength_1 : List UInt8 := dkwJ5_newLength_1 ++ []
def dkwJ5_newLength_0 : List UInt8 := [26, 27, 28, 184, 0, 194, 96, 62, 3, 29, 162, 0, 11, 29, 18, 200, 163, 0, 5, 29, 172, 26, 27]
abbrev dktJ5_newLength_0 : List UInt8 := dkwJ5_newLength_0 ++ dktJ5_newLength_1
theorem dksJ5_newLength_0 : cJ5_newLength.data.toList.drop 0 = dktJ5_newLength_0 := by decide +kernel
theorem dksJ5_newLength_1 : cJ5_newLength.data.toList.drop 23 = dktJ5_newLength_1 := dk_seg dksJ5_newLength_0 23 rfl rfl
theorem dJ5_newLength_0 : decode cJ5_newLength 0 = .ok (.iload_n 0, 1) := dk_26 (dk_at dksJ5_newLength_0 0 rfl rfl)
theorem dJ5_newLength_1 : decode cJ5_newLength 1 = .ok (.iload_n 1, 1) := dk_27 (dk_at dksJ5_newLength_0 1 rfl rfl)
theorem dJ5_newLength_2 : decode cJ5_newLength 2 = .ok (.iload_n 2, 1) := dk_28 (dk_at dksJ5_newLength_0 2 rfl rfl)
theorem dJ5_newLength_3 : decode cJ5_newLength 3 = .ok (.invokestatic 194, 3) := dk_184 0 194 (dk_at dksJ5_newLength_0 3 rfl rfl)
theorem dJ5_newLength_6 : decode cJ5_newLength 6 = .ok (.iadd, 1) := dk_96 (dk_at dksJ5_newLength_0 6 rfl rfl)
theorem dJ5_newLength_7 : decode cJ5_newLength 7 = .ok (.istore_n 3, 1) := dk_62 (dk_at dksJ5_newLength_0 7 rfl rfl)
theorem dJ5_newLength_8 : decode cJ5_newLength 8 = .ok (.iconst 0, 1) := dk_3 (dk_at dksJ5_newLength_0 8 rfl rfl)
theorem dJ5_newLength_9 : decode cJ5_newLength 9 = .ok (.iload_n 3, 1) := dk_29 (dk_at dksJ5_newLength_0 9 rfl rfl)
theorem dJ5_newLength_10 : decode cJ5_newLength 10 = .ok (.if_icmp .ge 11, 3) := dk_162 0 11 (dk_at dksJ5_newLength_0 10 rfl rfl)
theorem dJ5_newLength_13 : decode cJ5_newLength 13 = .ok (.iload_n 3, 1) := dk_29 (dk_at dksJ5_newLength_0 13 rfl rfl)
theorem dJ5_newLength_14 : decode cJ5_newLength 14 = .ok (.ldc 200, 2) := dk_18 200 (dk_at dksJ5_newLength_0 14 rfl rfl)
theorem dJ5_newLength_16 : decode cJ5_newLength 16 = .ok (.if_icmp .gt 5, 3) := dk_163 0 5 (dk_at dksJ5_newLength_0 16 rfl rfl)
theorem dJ5_newLength_19 : decode cJ5_newLength 19 = .ok (.iload_n 3, 1) := dk_29 (dk_at dksJ5_newLength_0 19 rfl rfl)
theorem dJ5_newLength_20 : decode cJ5_newLength 20 = .ok (.ireturn, 1) := dk_172 (dk_at dksJ5_newLength_0 20 rfl rfl)
theorem dJ5_newLength_21 : decode cJ5_newLength 21 = .ok (.iload_n 0, 1) := dk_26 (dk_at dksJ5_newLength_0 21 rfl rfl)
theorem dJ5_newLength_22 : decode cJ5_newLength 22 = .ok (.iload_n 1, 1) := dk_27 (dk_at dksJ5_newLength_0 22 rfl rfl)
theorem dJ5_newLength_23 : decode cJ5_newLength 23 = .ok (.invokestatic 201, 3) := dk_184 0 201 (dk_at dksJ5_newLength_1 0 rfl rfl)
theorem dJ5_newLength_26 : decode cJ5_newLength 26 = .ok (.ireturn, 1) := dk_172 (dk_at dksJ5_newLength_1 3 rfl rfl)
theorem q79 : (Jvm.Cond.initialized "jdk/internal/util/ArraysSupport") ∈ lw_all := lw_g (lw_at lw_m1 10 rfl) rfl
theorem q225 : (Jvm.Cond.static ({ cls := "jdk/internal/util/ArraysSupport", name := "newLength", desc := "(III)I" } : Jvm.MethodName)) ∈ lw_all := lw_g (lw_at lw_m1 156 rfl) rfl
theorem q226 : (Jvm.Cond.code ({ cls := "jdk/internal/util/ArraysSupport", name := "newLength", desc := "(III)I" } : Jvm.MethodName) prog_49_method_27_code (4 : Nat) (Option.some Jvm.ClassFile.FieldType.int)) ∈ lw_all := lw_g (lw_at lw_m1 157 rfl) rfl
theorem q227 : (Jvm.Cond.methodLink "jdk/internal/util/ArraysSupport" (194 : Nat) ({ cls := "java/lang/Math", name := "max", desc := "(II)I" } : Jvm.MethodName)) ∈ lw_all := lw_g (lw_at lw_m1 158 rfl) rfl
theorem q230 : (Jvm.Cond.constant "jdk/internal/util/ArraysSupport" (200 : Nat) (2147483639 : Int32)) ∈ lw_all := lw_g (lw_at lw_m1 161 rfl) rfl
theorem q231 : (Jvm.Cond.methodLink "jdk/internal/util/ArraysSupport" (201 : Nat) ({ cls := "jdk/internal/util/ArraysSupport", name := "hugeLength", desc := "(II)I" } : Jvm.MethodName)) ∈ lw_all := lw_g (lw_at lw_m1 162 rfl) rfl
theorem q232 : (Jvm.Cond.static ({ cls := "jdk/internal/util/ArraysSupport", name := "hugeLength", desc := "(II)I" } : Jvm.MethodName)) ∈ lw_all := lw_g (lw_at lw_m1 163 rfl) rfl
theorem q233 : (Jvm.Cond.code ({ cls := "jdk/internal/util/ArraysSupport", name := "hugeLength", desc := "(II)I" } : Jvm.MethodName) prog_49_method_28_code (3 : Nat) (Option.some Jvm.ClassFile.FieldType.int)) ∈ lw_all := lw_g (lw_at lw_m1 164 rfl) rfl
/-! java/lang/Math -/
set_option maxRecDepth 100000
def RJ6 : String := "java/lang/Math"
abbrev cJ6_max : ByteArray := prog_21_method_65_code
def yJ6_max : MethodName := ⟨RJ6, "max", "(II)I"⟩
def dkwJ6_max_0 : List UInt8 := [26, 27, 161, 0, 7, 26, 167, 0, 4, 27, 172]
abbrev dktJ6_max_0 : List UInt8 := dkwJ6_max_0 ++ []
theorem dksJ6_max_0 : cJ6_max.data.toList.drop 0 = dktJ6_max_0 := by decide +kernel
theorem dJ6_max_0 : decode cJ6_max 0 = .ok (.iload_n 0, 1) := dk_26 (dk_at dksJ6_max_0 0 rfl rfl)
theorem dJ6_max_1 : decode cJ6_max 1 = .ok (.iload_n 1, 1) := dk_27 (dk_at dksJ6_max_0 1 rfl rfl)
theorem dJ6_max_2 : decode cJ6_max 2 = .ok (.if_icmp .lt 7, 3) := dk_161 0 7 (dk_at dksJ6_max_0 2 rfl rfl)
theorem dJ6_max_5 : decode cJ6_max 5 = .ok (.iload_n 0, 1) := dk_26 (dk_at dksJ6_max_0 5 rfl rfl)
theorem dJ6_max_6 : decode cJ6_max 6 = .ok (.goto 4, 3) := dk_167 0 4 (dk_at dksJ6_max_0 6 rfl rfl)
theorem dJ6_max_9 : decode cJ6_max 9 = .ok (.iload_n 1, 1) := dk_27 (dk_at dksJ6_max_0 9 rfl rfl)
theorem dJ6_max_10 : decode cJ6_max 10 = .ok (.ireturn, 1) := dk_172 (dk_at dksJ6_max_0 10 rfl rfl)
abbrev cJ6_min : ByteArray := prog_21_method_69_code
def yJ6_min : MethodName := ⟨RJ6, "min", "(II)I"⟩
def dkwJ6_min_0 : List UInt8 := [26, 27, 163, 0, 7, 26, 167, 0, 4, 27, 172]
abbrev dktJ6_min_0 : List UInt8 := dkwJ6_min_0 ++ []
theorem dksJ6_min_0 : cJ6_min.data.toList.drop 0 = dktJ6_min_0 := by decide +kernel
theorem dJ6_min_0 : decode cJ6_min 0 = .ok (.iload_n 0, 1) := dk_26 (dk_at dksJ6_min_0 0 rfl rfl)
theorem dJ6_min_1 : decode cJ6_min 1 = .ok (.iload_n 1, 1) := dk_27 (dk_at dksJ6_min_0 1 rfl rfl)
theorem dJ6_min_2 : decode cJ6_min 2 = .ok (.if_icmp .gt 7, 3) := dk_163 0 7 (dk_at dksJ6_min_0 2 rfl rfl)
theorem dJ6_min_5 : decode cJ6_min 5 = .ok (.iload_n 0, 1) := dk_26 (dk_at dksJ6_min_0 5 rfl rfl)
theorem dJ6_min_6 : decode cJ6_min 6 = .ok (.goto 4, 3) := dk_167 0 4 (dk_at dksJ6_min_0 6 rfl rfl)
theorem dJ6_min_9 : decode cJ6_min 9 = .ok (.iload_n 1, 1) := dk_27 (dk_at dksJ6_min_0 9 rfl rfl)
theorem dJ6_min_10 : decode cJ6_min 10 = .ok (.ireturn, 1) := dk_172 (dk_at dksJ6_min_0 10 rfl rfl)
abbrev cJ6_abs : ByteArray := prog_21_method_59_code
def yJ6_abs : MethodName := ⟨RJ6, "abs", "(I)I"⟩
def dkwJ6_abs_0 : List UInt8 := [26, 156, 0, 8, 26, 116, 167, 0, 4, 26, 172]
abbrev dktJ6_abs_0 : List UInt8 := dkwJ6_abs_0 ++ []
theorem dksJ6_abs_0 : cJ6_abs.data.toList.drop 0 = dktJ6_abs_0 := by decide +kernel
theorem dJ6_abs_0 : decode cJ6_abs 0 = .ok (.iload_n 0, 1) := dk_26 (dk_at dksJ6_abs_0 0 rfl rfl)
theorem dJ6_abs_1 : decode cJ6_abs 1 = .ok (.ifCond .ge 8, 3) := dk_156 0 8 (dk_at dksJ6_abs_0 1 rfl rfl)
theorem dJ6_abs_4 : decode cJ6_abs 4 = .ok (.iload_n 0, 1) := dk_26 (dk_at dksJ6_abs_0 4 rfl rfl)
theorem dJ6_abs_5 : decode cJ6_abs 5 = .ok (.ineg, 1) := dk_116 (dk_at dksJ6_abs_0 5 rfl rfl)
theorem dJ6_abs_6 : decode cJ6_abs 6 = .ok (.goto 4, 3) := dk_167 0 4 (dk_at dksJ6_abs_0 6 rfl rfl)
theorem dJ6_abs_9 : decode cJ6_abs 9 = .ok (.iload_n 0, 1) := dk_26 (dk_at dksJ6_abs_0 9 rfl rfl)
theorem dJ6_abs_10 : decode cJ6_abs 10 = .ok (.ireturn, 1) := dk_172 (dk_at dksJ6_abs_0 10 rfl rfl)
abbrev cJ6_max_2 : ByteArray := prog_21_method_66_code
def yJ6_max_2 : MethodName := ⟨RJ6, "max", "(JJ)J"⟩
def dkwJ6_max_2_0 : List UInt8 := [30, 32, 148, 155, 0, 7, 30, 167, 0, 4, 32, 173]
abbrev dktJ6_max_2_0 : List UInt8 := dkwJ6_max_2_0 ++ []
theorem dksJ6_max_2_0 : cJ6_max_2.data.toList.drop 0 = dktJ6_max_2_0 := by decide +kernel
theorem dJ6_max_2_0 : decode cJ6_max_2 0 = .ok (.lload_n 0, 1) := dk_30 (dk_at dksJ6_max_2_0 0 rfl rfl)
theorem dJ6_max_2_1 : decode cJ6_max_2 1 = .ok (.lload_n 2, 1) := dk_32 (dk_at dksJ6_max_2_0 1 rfl rfl)
theorem dJ6_max_2_2 : decode cJ6_max_2 2 = .ok (.lcmp, 1) := dk_148 (dk_at dksJ6_max_2_0 2 rfl rfl)
theorem dJ6_max_2_3 : decode cJ6_max_2 3 = .ok (.ifCond .lt 7, 3) := dk_155 0 7 (dk_at dksJ6_max_2_0 3 rfl rfl)
theorem dJ6_max_2_6 : decode cJ6_max_2 6 = .ok (.lload_n 0, 1) := dk_30 (dk_at dksJ6_max_2_0 6 rfl rfl)
theorem dJ6_max_2_7 : decode cJ6_max_2 7 = .ok (.goto 4, 3) := dk_167 0 4 (dk_at dksJ6_max_2_0 7 rfl rfl)
theorem dJ6_max_2_10 : decode cJ6_max_2 10 = .ok (.lload_n 2, 1) := dk_32 (dk_at dksJ6_max_2_0 10 rfl rfl)
theorem dJ6_max_2_11 : decode cJ6_max_2 11 = .ok (.lreturn, 1) := dk_173 (dk_at dksJ6_max_2_0 11 rfl rfl)
theorem q80 : (Jvm.Cond.initialized "java/lang/Math") ∈ lw_all := lw_g (lw_at lw_m1 11 rfl) rfl
theorem q228 : (Jvm.Cond.static ({ cls := "java/lang/Math", name := "max", desc := "(II)I" } : Jvm.MethodName)) ∈ lw_all := lw_g (lw_at lw_m1 159 rfl) rfl
theorem q229 : (Jvm.Cond.code ({ cls := "java/lang/Math", name := "max", desc := "(II)I" } : Jvm.MethodName) prog_21_method_65_code (2 : Nat) (Option.some Jvm.ClassFile.FieldType.int)) ∈ lw_all := lw_g (lw_at lw_m1 160 rfl) rfl
theorem q267 : (Jvm.Cond.static ({ cls := "java/lang/Math", name := "min", desc := "(II)I" } : Jvm.MethodName)) ∈ lw_all := lw_g (lw_at lw_m1 198 rfl) rfl
theorem q268 : (Jvm.Cond.code ({ cls := "java/lang/Math", name := "min", desc := "(II)I" } : Jvm.MethodName) prog_21_method_69_code (2 : Nat) (Option.some Jvm.ClassFile.FieldType.int)) ∈ lw_all := lw_g (lw_at lw_m1 199 rfl) rfl
theorem q1191 : (Jvm.Cond.static ({ cls := "java/lang/Math", name := "abs", desc := "(I)I" } : Jvm.MethodName)) ∈ lw_all := lw_g (lw_at lw_m5 162 rfl) rfl
theorem q1192 : (Jvm.Cond.code ({ cls := "java/lang/Math", name := "abs", desc := "(I)I" } : Jvm.MethodName) prog_21_method_59_code (1 : Nat) (Option.some Jvm.ClassFile.FieldType.int)) ∈ lw_all := lw_g (lw_at lw_m5 163 rfl) rfl
theorem q1322 : (Jvm.Cond.static ({ cls := "java/lang/Math", name := "max", desc := "(JJ)J" } : Jvm.MethodName)) ∈ lw_all := lw_g (lw_at lw_m6 53 rfl) rfl
theorem q1323 : (Jvm.Cond.code ({ cls := "java/lang/Math", name := "max", desc := "(JJ)J" } : Jvm.MethodName) prog_21_method_66_code (4 : Nat) (Option.some Jvm.ClassFile.FieldType.long)) ∈ lw_all := lw_g (lw_at lw_m6 54 rfl) rfl
/-! java/util/Arrays -/
set_option maxRecDepth 100000
def RJ7 : String := "java/util/Arrays"
abbrev cJ7_copyOf : ByteArray := prog_39_method_119_code
def yJ7_copyOf : MethodName := ⟨RJ7, "copyOf", "([Ljava/lang/Object;I)[Ljava/lang/Object;"⟩
def dkwJ7_copyOf_0 : List UInt8 := [42, 27, 42, 182, 0, 86, 184, 1, 44, 176]
abbrev dktJ7_copyOf_0 : List UInt8 := dkwJ7_copyOf_0 ++ []
theorem dksJ7_copyOf_0 : cJ7_copyOf.data.toList.drop 0 = dktJ7_copyOf_0 := by decide +kernel
theorem dJ7_copyOf_0 : decode cJ7_copyOf 0 = .ok (.aload_n 0, 1) := dk_42 (dk_at dksJ7_copyOf_0 0 rfl rfl)
theorem dJ7_copyOf_1 : decode cJ7_copyOf 1 = .ok (.iload_n 1, 1) := dk_27 (dk_at dksJ7_copyOf_0 1 rfl rfl)
theorem dJ7_copyOf_2 : decode cJ7_copyOf 2 = .ok (.aload_n 0, 1) := dk_42 (dk_at dksJ7_copyOf_0 2 rfl rfl)
theorem dJ7_copyOf_3 : decode cJ7_copyOf 3 = .ok (.invokevirtual 86, 3) := dk_182 0 86 (dk_at dksJ7_copyOf_0 3 rfl rfl)
theorem dJ7_copyOf_6 : decode cJ7_copyOf 6 = .ok (.invokestatic 300, 3) := dk_184 1 44 (dk_at dksJ7_copyOf_0 6 rfl rfl)
theorem dJ7_copyOf_9 : decode cJ7_copyOf 9 = .ok (.areturn, 1) := dk_176 (dk_at dksJ7_copyOf_0 9 rfl rfl)
abbrev cJ7_copyOf_2 : ByteArray := prog_39_method_120_code
def yJ7_copyOf_2 : MethodName := ⟨RJ7, "copyOf", "([Ljava/lang/Object;ILjava/lang/Class;)[Ljava/lang/Object;"⟩
def dkwJ7_copyOf_2_1 : List UInt8 := [78, 42, 3, 45, 3, 42, 190, 27, 184, 1, 48, 184, 0, 150, 45, 176]
abbrev dktJ7_copyOf_2_1 : List UInt8 := dkwJ7_copyOf_2_1 ++ []
def dkwJ7_copyOf_2_0 : List UInt8 := [44, 18, 110, 166, 0, 10, 27, 189, 0, 2, 167, 0, 14, 44, 182, 0, 90, 27, 184, 0, 95, 192, 0, 110]
abbrev dktJ7_copyOf_2_0 : List UInt8 := dkwJ7_copyOf_2_0 ++ dktJ7_copyOf_2_1
theorem dksJ7_copyOf_2_0 : cJ7_copyOf_2.data.toList.drop 0 = dktJ7_copyOf_2_0 := by decide +kernel
theorem dksJ7_copyOf_2_1 : cJ7_copyOf_2.data.toList.drop 24 = dktJ7_copyOf_2_1 := dk_seg dksJ7_copyOf_2_0 24 rfl rfl
theorem dJ7_copyOf_2_0 : decode cJ7_copyOf_2 0 = .ok (.aload_n 2, 1) := dk_44 (dk_at dksJ7_copyOf_2_0 0 rfl rfl)
theorem dJ7_copyOf_2_1 : decode cJ7_copyOf_2 1 = .ok (.ldc 110, 2) := dk_18 110 (dk_at dksJ7_copyOf_2_0 1 rfl rfl)
theorem dJ7_copyOf_2_3 : decode cJ7_copyOf_2 3 = .ok (.if_acmp .ne 10, 3) := dk_166 0 10 (dk_at dksJ7_copyOf_2_0 3 rfl rfl)
theorem dJ7_copyOf_2_6 : decode cJ7_copyOf_2 6 = .ok (.iload_n 1, 1) := dk_27 (dk_at dksJ7_copyOf_2_0 6 rfl rfl)
theorem dJ7_copyOf_2_7 : decode cJ7_copyOf_2 7 = .ok (.anewarray 2, 3) := dk_189 0 2 (dk_at dksJ7_copyOf_2_0 7 rfl rfl)
theorem dJ7_copyOf_2_10 : decode cJ7_copyOf_2 10 = .ok (.goto 14, 3) := dk_167 0 14 (dk_at dksJ7_copyOf_2_0 10 rfl rfl)
theorem dJ7_copyOf_2_13 : decode cJ7_copyOf_2 13 = .ok (.aload_n 2, 1) := dk_44 (dk_at dksJ7_copyOf_2_0 13 rfl rfl)
theorem dJ7_copyOf_2_14 : decode cJ7_copyOf_2 14 = .ok (.invokevirtual 90, 3) := dk_182 0 90 (dk_at dksJ7_copyOf_2_0 14 rfl rfl)
theorem dJ7_copyOf_2_17 : decode cJ7_copyOf_2 17 = .ok (.iload_n 1, 1) := dk_27 (dk_at dksJ7_copyOf_2_0 17 rfl rfl)
theorem dJ7_copyOf_2_18 : decode cJ7_copyOf_2 18 = .ok (.invokestatic 95, 3) := dk_184 0 95 (dk_at dksJ7_copyOf_2_0 18 rfl rfl)
theorem dJ7_copyOf_2_21 : decode cJ7_copyOf_2 21 = .ok (.checkcast 110, 3) := dk_192 0 110 (dk_at dksJ7_copyOf_2_0 21 rfl rfl)
theorem dJ7_copyOf_2_24 : decode cJ7_copyOf_2 24 = .ok (.astore_n 3, 1) := dk_78 (dk_at dksJ7_copyOf_2_1 0 rfl rfl)
theorem dJ7_copyOf_2_25 : decode cJ7_copyOf_2 25 = .ok (.aload_n 0, 1) := dk_42 (dk_at dksJ7_copyOf_2_1 1 rfl rfl)
theorem dJ7_copyOf_2_26 : decode cJ7_copyOf_2 26 = .ok (.iconst 0, 1) := dk_3 (dk_at dksJ7_copyOf_2_1 2 rfl rfl)
theorem dJ7_copyOf_2_27 : decode cJ7_copyOf_2 27 = .ok (.aload_n 3, 1) := dk_45 (dk_at dksJ7_copyOf_2_1 3 rfl rfl)
theorem dJ7_copyOf_2_28 : decode cJ7_copyOf_2 28 = .ok (.iconst 0, 1) := dk_3 (dk_at dksJ7_copyOf_2_1 4 rfl rfl)
theorem dJ7_copyOf_2_29 : decode cJ7_copyOf_2 29 = .ok (.aload_n 0, 1) := dk_42 (dk_at dksJ7_copyOf_2_1 5 rfl rfl)
theorem dJ7_copyOf_2_30 : decode cJ7_copyOf_2 30 = .ok (.arraylength, 1) := dk_190 (dk_at dksJ7_copyOf_2_1 6 rfl rfl)
theorem dJ7_copyOf_2_31 : decode cJ7_copyOf_2 31 = .ok (.iload_n 1, 1) := dk_27 (dk_at dksJ7_copyOf_2_1 7 rfl rfl)
theorem dJ7_copyOf_2_32 : decode cJ7_copyOf_2 32 = .ok (.invokestatic 304, 3) := dk_184 1 48 (dk_at dksJ7_copyOf_2_1 8 rfl rfl)
theorem dJ7_copyOf_2_35 : decode cJ7_copyOf_2 35 = .ok (.invokestatic 150, 3) := dk_184 0 150 (dk_at dksJ7_copyOf_2_1 11 rfl rfl)
theorem dJ7_copyOf_2_38 : decode cJ7_copyOf_2 38 = .ok (.aload_n 3, 1) := dk_45 (dk_at dksJ7_copyOf_2_1 14 rfl rfl)
theorem dJ7_copyOf_2_39 : decode cJ7_copyOf_2 39 = .ok (.areturn, 1) := dk_176 (dk_at dksJ7_copyOf_2_1 15 rfl rfl)
abbrev cJ7_copyOfRange : ByteArray := prog_39_method_136_code
def yJ7_copyOfRange : MethodName := ⟨RJ7, "copyOfRange", "([III)[I"⟩
def dkwJ7_copyOfRange_1 : List UInt8 := [176]
abbrev dktJ7_copyOfRange_1 : List UInt8 := dkwJ7_copyOfRange_1 ++ []
def dkwJ7_copyOfRange_0 : List UInt8 := [27, 154, 0, 9, 28, 42, 190, 159, 0, 10, 42, 27, 28, 184, 1, 95, 176, 42, 182, 1, 60, 192, 1, 61]
abbrev dktJ7_copyOfRange_0 : List UInt8 := dkwJ7_copyOfRange_0 ++ dktJ7_copyOfRange_1
theorem dksJ7_copyOfRange_0 : cJ7_copyOfRange.data.toList.drop 0 = dktJ7_copyOfRange_0 := by decide +kernel
theorem dksJ7_copyOfRange_1 : cJ7_copyOfRange.data.toList.drop 24 = dktJ7_copyOfRange_1 := dk_seg dksJ7_copyOfRange_0 24 rfl rfl
theorem dJ7_copyOfRange_0 : decode cJ7_copyOfRange 0 = .ok (.iload_n 1, 1) := dk_27 (dk_at dksJ7_copyOfRange_0 0 rfl rfl)
theorem dJ7_copyOfRange_1 : decode cJ7_copyOfRange 1 = .ok (.ifCond .ne 9, 3) := dk_154 0 9 (dk_at dksJ7_copyOfRange_0 1 rfl rfl)
theorem dJ7_copyOfRange_4 : decode cJ7_copyOfRange 4 = .ok (.iload_n 2, 1) := dk_28 (dk_at dksJ7_copyOfRange_0 4 rfl rfl)
theorem dJ7_copyOfRange_5 : decode cJ7_copyOfRange 5 = .ok (.aload_n 0, 1) := dk_42 (dk_at dksJ7_copyOfRange_0 5 rfl rfl)
theorem dJ7_copyOfRange_6 : decode cJ7_copyOfRange 6 = .ok (.arraylength, 1) := dk_190 (dk_at dksJ7_copyOfRange_0 6 rfl rfl)
theorem dJ7_copyOfRange_7 : decode cJ7_copyOfRange 7 = .ok (.if_icmp .eq 10, 3) := dk_159 0 10 (dk_at dksJ7_copyOfRange_0 7 rfl rfl)
theorem dJ7_copyOfRange_10 : decode cJ7_copyOfRange 10 = .ok (.aload_n 0, 1) := dk_42 (dk_at dksJ7_copyOfRange_0 10 rfl rfl)
theorem dJ7_copyOfRange_11 : decode cJ7_copyOfRange 11 = .ok (.iload_n 1, 1) := dk_27 (dk_at dksJ7_copyOfRange_0 11 rfl rfl)
theorem dJ7_copyOfRange_12 : decode cJ7_copyOfRange 12 = .ok (.iload_n 2, 1) := dk_28 (dk_at dksJ7_copyOfRange_0 12 rfl rfl)
theorem dJ7_copyOfRange_13 : decode cJ7_copyOfRange 13 = .ok (.invokestatic 351, 3) := dk_184 1 95 (dk_at dksJ7_copyOfRange_0 13 rfl rfl)
theorem dJ7_copyOfRange_16 : decode cJ7_copyOfRange 16 = .ok (.areturn, 1) := dk_176 (dk_at dksJ7_copyOfRange_0 16 rfl rfl)
theorem dJ7_copyOfRange_17 : decode cJ7_copyOfRange 17 = .ok (.aload_n 0, 1) := dk_42 (dk_at dksJ7_copyOfRange_0 17 rfl rfl)
theorem dJ7_copyOfRange_18 : decode cJ7_copyOfRange 18 = .ok (.invokevirtual 316, 3) := dk_182 1 60 (dk_at dksJ7_copyOfRange_0 18 rfl rfl)
theorem dJ7_copyOfRange_21 : decode cJ7_copyOfRange 21 = .ok (.checkcast 317, 3) := dk_192 1 61 (dk_at dksJ7_copyOfRange_0 21 rfl rfl)
theorem dJ7_copyOfRange_24 : decode cJ7_copyOfRange 24 = .ok (.areturn, 1) := dk_176 (dk_at dksJ7_copyOfRange_1 0 rfl rfl)
abbrev cJ7_copyOfRangeInt : ByteArray := prog_39_method_137_code
def yJ7_copyOfRangeInt : MethodName := ⟨RJ7, "copyOfRangeInt", "([III)[I"⟩
def dkwJ7_copyOfRangeInt_1 : List UInt8 := [184, 1, 48, 184, 0, 150, 25, 4, 176]
abbrev dktJ7_copyOfRangeInt_1 : List UInt8 := dkwJ7_copyOfRangeInt_1 ++ []
def dkwJ7_copyOfRangeInt_0 : List UInt8 := [27, 28, 184, 1, 87, 28, 27, 100, 62, 29, 188, 10, 58, 4, 42, 27, 25, 4, 3, 42, 190, 27, 100, 29]
abbrev dktJ7_copyOfRangeInt_0 : List UInt8 := dkwJ7_copyOfRangeInt_0 ++ dktJ7_copyOfRangeInt_1
theorem dksJ7_copyOfRangeInt_0 : cJ7_copyOfRangeInt.data.toList.drop 0 = dktJ7_copyOfRangeInt_0 := by decide +kernel
theorem dksJ7_copyOfRangeInt_1 : cJ7_copyOfRangeInt.data.toList.drop 24 = dktJ7_copyOfRangeInt_1 := dk_seg dksJ7_copyOfRangeInt_0 24 rfl rfl
theorem dJ7_copyOfRangeInt_0 : decode cJ7_copyOfRangeInt 0 = .ok (.iload_n 1, 1) := dk_27 (dk_at dksJ7_copyOfRangeInt_0 0 rfl rfl)
theorem dJ7_copyOfRangeInt_1 : decode cJ7_copyOfRangeInt 1 = .ok (.iload_n 2, 1) := dk_28 (dk_at dksJ7_copyOfRangeInt_0 1 rfl rfl)
theorem dJ7_copyOfRangeInt_2 : decode cJ7_copyOfRangeInt 2 = .ok (.invokestatic 343, 3) := dk_184 1 87 (dk_at dksJ7_copyOfRangeInt_0 2 rfl rfl)
theorem dJ7_copyOfRangeInt_5 : decode cJ7_copyOfRangeInt 5 = .ok (.iload_n 2, 1) := dk_28 (dk_at dksJ7_copyOfRangeInt_0 5 rfl rfl)
theorem dJ7_copyOfRangeInt_6 : decode cJ7_copyOfRangeInt 6 = .ok (.iload_n 1, 1) := dk_27 (dk_at dksJ7_copyOfRangeInt_0 6 rfl rfl)
theorem dJ7_copyOfRangeInt_7 : decode cJ7_copyOfRangeInt 7 = .ok (.isub, 1) := dk_100 (dk_at dksJ7_copyOfRangeInt_0 7 rfl rfl)
theorem dJ7_copyOfRangeInt_8 : decode cJ7_copyOfRangeInt 8 = .ok (.istore_n 3, 1) := dk_62 (dk_at dksJ7_copyOfRangeInt_0 8 rfl rfl)
theorem dJ7_copyOfRangeInt_9 : decode cJ7_copyOfRangeInt 9 = .ok (.iload_n 3, 1) := dk_29 (dk_at dksJ7_copyOfRangeInt_0 9 rfl rfl)
theorem dJ7_copyOfRangeInt_10 : decode cJ7_copyOfRangeInt 10 = .ok (.newarray .int, 2) := dk_188_10 (dk_at dksJ7_copyOfRangeInt_0 10 rfl rfl)
theorem dJ7_copyOfRangeInt_12 : decode cJ7_copyOfRangeInt 12 = .ok (.astore 4, 2) := dk_58 4 (dk_at dksJ7_copyOfRangeInt_0 12 rfl rfl)
theorem dJ7_copyOfRangeInt_14 : decode cJ7_copyOfRangeInt 14 = .ok (.aload_n 0, 1) := dk_42 (dk_at dksJ7_copyOfRangeInt_0 14 rfl rfl)
theorem dJ7_copyOfRangeInt_15 : decode cJ7_copyOfRangeInt 15 = .ok (.iload_n 1, 1) := dk_27 (dk_at dksJ7_copyOfRangeInt_0 15 rfl rfl)
theorem dJ7_copyOfRangeInt_16 : decode cJ7_copyOfRangeInt 16 = .ok (.aload 4, 2) := dk_25 4 (dk_at dksJ7_copyOfRangeInt_0 16 rfl rfl)
theorem dJ7_copyOfRangeInt_18 : decode cJ7_copyOfRangeInt 18 = .ok (.iconst 0, 1) := dk_3 (dk_at dksJ7_copyOfRangeInt_0 18 rfl rfl)
theorem dJ7_copyOfRangeInt_19 : decode cJ7_copyOfRangeInt 19 = .ok (.aload_n 0, 1) := dk_42 (dk_at dksJ7_copyOfRangeInt_0 19 rfl rfl)
theorem dJ7_copyOfRangeInt_20 : decode cJ7_copyOfRangeInt 20 = .ok (.arraylength, 1) := dk_190 (dk_at dksJ7_copyOfRangeInt_0 20 rfl rfl)
theorem dJ7_copyOfRangeInt_21 : decode cJ7_copyOfRangeInt 21 = .ok (.iload_n 1, 1) := dk_27 (dk_at dksJ7_copyOfRangeInt_0 21 rfl rfl)
theorem dJ7_copyOfRangeInt_22 : decode cJ7_copyOfRangeInt 22 = .ok (.isub, 1) := dk_100 (dk_at dksJ7_copyOfRangeInt_0 22 rfl rfl)
theorem dJ7_copyOfRangeInt_23 : decode cJ7_copyOfRangeInt 23 = .ok (.iload_n 3, 1) := dk_29 (dk_at dksJ7_copyOfRangeInt_0 23 rfl rfl)
theorem dJ7_copyOfRangeInt_24 : decode cJ7_copyOfRangeInt 24 = .ok (.invokestatic 304, 3) := dk_184 1 48 (dk_at dksJ7_copyOfRangeInt_1 0 rfl rfl)
theorem dJ7_copyOfRangeInt_27 : decode cJ7_copyOfRangeInt 27 = .ok (.invokestatic 150, 3) := dk_184 0 150 (dk_at dksJ7_copyOfRangeInt_1 3 rfl rfl)
theorem dJ7_copyOfRangeInt_30 : decode cJ7_copyOfRangeInt 30 = .ok (.aload 4, 2) := dk_25 4 (dk_at dksJ7_copyOfRangeInt_1 6 rfl rfl)
theorem dJ7_copyOfRangeInt_32 : decode cJ7_copyOfRangeInt 32 = .ok (.areturn, 1) := dk_176 (dk_at dksJ7_copyOfRangeInt_1 8 rfl rfl)
abbrev cJ7_checkLength : ByteArray := prog_39_method_131_code
def yJ7_checkLength : MethodName := ⟨RJ7, "checkLength", "(II)V"⟩
def dkwJ7_checkLength_1 : List UInt8 := [182, 0, 50, 27, 182, 0, 54, 182, 0, 61, 183, 0, 65, 191, 177]
abbrev dktJ7_checkLength_1 : List UInt8 := dkwJ7_checkLength_1 ++ []
def dkwJ7_checkLength_0 : List UInt8 := [27, 26, 162, 0, 35, 187, 0, 43, 89, 187, 0, 45, 89, 183, 0, 47, 26, 182, 0, 54, 19, 1, 81]
abbrev dktJ7_checkLength_0 : List UInt8 := dkwJ7_checkLength_0 ++ dktJ7_checkLength_1
theorem dksJ7_checkLength_0 : cJ7_checkLength.data.toList.drop 0 = dktJ7_checkLength_0 := by decide +kernel
theorem dksJ7_checkLength_1 : cJ7_checkLength.data.toList.drop 23 = dktJ7_checkLength_1 := dk_seg dksJ7_checkLength_0 23 rfl rfl
theorem dJ7_checkLength_0 : decode cJ7_checkLength 0 = .ok (.iload_n 1, 1) := dk_27 (dk_at dksJ7_checkLength_0 0 rfl rfl)
theorem dJ7_checkLength_1 : decode cJ7_checkLength 1 = .ok (.iload_n 0, 1) := dk_26 (dk_at dksJ7_checkLength_0 1 rfl rfl)
theorem dJ7_checkLength_2 : decode cJ7_checkLength 2 = .ok (.if_icmp .ge 35, 3) := dk_162 0 35 (dk_at dksJ7_checkLength_0 2 rfl rfl)
theorem dJ7_checkLength_5 : decode cJ7_checkLength 5 = .ok (.new 43, 3) := dk_187 0 43 (dk_at dksJ7_checkLength_0 5 rfl rfl)
theorem dJ7_checkLength_8 : decode cJ7_checkLength 8 = .ok (.dup, 1) := dk_89 (dk_at dksJ7_checkLength_0 8 rfl rfl)
theorem dJ7_checkLength_9 : decode cJ7_checkLength 9 = .ok (.new 45, 3) := dk_187 0 45 (dk_at dksJ7_checkLength_0 9 rfl rfl)
theorem dJ7_checkLength_12 : decode cJ7_checkLength 12 = .ok (.dup, 1) := dk_89 (dk_at dksJ7_checkLength_0 12 rfl rfl)
theorem dJ7_checkLength_13 : decode cJ7_checkLength 13 = .ok (.invokespecial 47, 3) := dk_183 0 47 (dk_at dksJ7_checkLength_0 13 rfl rfl)
theorem dJ7_checkLength_16 : decode cJ7_checkLength 16 = .ok (.iload_n 0, 1) := dk_26 (dk_at dksJ7_checkLength_0 16 rfl rfl)
theorem dJ7_checkLength_17 : decode cJ7_checkLength 17 = .ok (.invokevirtual 54, 3) := dk_182 0 54 (dk_at dksJ7_checkLength_0 17 rfl rfl)
theorem dJ7_checkLength_20 : decode cJ7_checkLength 20 = .ok (.ldc_w 337, 3) := dk_19 1 81 (dk_at dksJ7_checkLength_0 20 rfl rfl)
theorem dJ7_checkLength_23 : decode cJ7_checkLength 23 = .ok (.invokevirtual 50, 3) := dk_182 0 50 (dk_at dksJ7_checkLength_1 0 rfl rfl)
theorem dJ7_checkLength_26 : decode cJ7_checkLength 26 = .ok (.iload_n 1, 1) := dk_27 (dk_at dksJ7_checkLength_1 3 rfl rfl)
theorem dJ7_checkLength_27 : decode cJ7_checkLength 27 = .ok (.invokevirtual 54, 3) := dk_182 0 54 (dk_at dksJ7_checkLength_1 4 rfl rfl)
theorem dJ7_checkLength_30 : decode cJ7_checkLength 30 = .ok (.invokevirtual 61, 3) := dk_182 0 61 (dk_at dksJ7_checkLength_1 7 rfl rfl)
theorem dJ7_checkLength_33 : decode cJ7_checkLength 33 = .ok (.invokespecial 65, 3) := dk_183 0 65 (dk_at dksJ7_checkLength_1 10 rfl rfl)
theorem dJ7_checkLength_36 : decode cJ7_checkLength 36 = .ok (.athrow, 1) := dk_191 (dk_at dksJ7_checkLength_1 13 rfl rfl)
theorem dJ7_checkLength_37 : decode cJ7_checkLength 37 = .ok (.return_, 1) := dk_177 (dk_at dksJ7_checkLength_1 14 rfl rfl)
abbrev cJ7_copyOf_4 : ByteArray := prog_39_method_123_code
def yJ7_copyOf_4 : MethodName := ⟨RJ7, "copyOf", "([II)[I"⟩
def dkwJ7_copyOf_4_1 : List UInt8 := [27, 184, 1, 48, 184, 0, 150, 44, 176]
abbrev dktJ7_copyOf_4_1 : List UInt8 := dkwJ7_copyOf_4_1 ++ []
def dkwJ7_copyOf_4_0 : List UInt8 := [27, 42, 190, 160, 0, 11, 42, 182, 1, 60, 192, 1, 61, 176, 27, 188, 10, 77, 42, 3, 44, 3, 42, 190]
abbrev dktJ7_copyOf_4_0 : List UInt8 := dkwJ7_copyOf_4_0 ++ dktJ7_copyOf_4_1
theorem dksJ7_copyOf_4_0 : cJ7_copyOf_4.data.toList.drop 0 = dktJ7_copyOf_4_0 := by decide +kernel
theorem dksJ7_copyOf_4_1 : cJ7_copyOf_4.data.toList.drop 24 = dktJ7_copyOf_4_1 := dk_seg dksJ7_copyOf_4_0 24 rfl rfl
theorem dJ7_copyOf_4_0 : decode cJ7_copyOf_4 0 = .ok (.iload_n 1, 1) := dk_27 (dk_at dksJ7_copyOf_4_0 0 rfl rfl)
theorem dJ7_copyOf_4_1 : decode cJ7_copyOf_4 1 = .ok (.aload_n 0, 1) := dk_42 (dk_at dksJ7_copyOf_4_0 1 rfl rfl)
theorem dJ7_copyOf_4_2 : decode cJ7_copyOf_4 2 = .ok (.arraylength, 1) := dk_190 (dk_at dksJ7_copyOf_4_0 2 rfl rfl)
theorem dJ7_copyOf_4_3 : decode cJ7_copyOf_4 3 = .ok (.if_icmp .ne 11, 3) := dk_160 0 11 (dk_at dksJ7_copyOf_4_0 3 rfl rfl)
theorem dJ7_copyOf_4_6 : decode cJ7_copyOf_4 6 = .ok (.aload_n 0, 1) := dk_42 (dk_at dksJ7_copyOf_4_0 6 rfl rfl)
theorem dJ7_copyOf_4_7 : decode cJ7_copyOf_4 7 = .ok (.invokevirtual 316, 3) := dk_182 1 60 (dk_at dksJ7_copyOf_4_0 7 rfl rfl)
theorem dJ7_copyOf_4_10 : decode cJ7_copyOf_4 10 = .ok (.checkcast 317, 3) := dk_192 1 61 (dk_at dksJ7_copyOf_4_0 10 rfl rfl)
theorem dJ7_copyOf_4_13 : decode cJ7_copyOf_4 13 = .ok (.areturn, 1) := dk_176 (dk_at dksJ7_copyOf_4_0 13 rfl rfl)
theorem dJ7_copyOf_4_14 : decode cJ7_copyOf_4 14 = .ok (.iload_n 1, 1) := dk_27 (dk_at dksJ7_copyOf_4_0 14 rfl rfl)
theorem dJ7_copyOf_4_15 : decode cJ7_copyOf_4 15 = .ok (.newarray .int, 2) := dk_188_10 (dk_at dksJ7_copyOf_4_0 15 rfl rfl)
theorem dJ7_copyOf_4_17 : decode cJ7_copyOf_4 17 = .ok (.astore_n 2, 1) := dk_77 (dk_at dksJ7_copyOf_4_0 17 rfl rfl)
theorem dJ7_copyOf_4_18 : decode cJ7_copyOf_4 18 = .ok (.aload_n 0, 1) := dk_42 (dk_at dksJ7_copyOf_4_0 18 rfl rfl)
theorem dJ7_copyOf_4_19 : decode cJ7_copyOf_4 19 = .ok (.iconst 0, 1) := dk_3 (dk_at dksJ7_copyOf_4_0 19 rfl rfl)
theorem dJ7_copyOf_4_20 : decode cJ7_copyOf_4 20 = .ok (.aload_n 2, 1) := dk_44 (dk_at dksJ7_copyOf_4_0 20 rfl rfl)
theorem dJ7_copyOf_4_21 : decode cJ7_copyOf_4 21 = .ok (.iconst 0, 1) := dk_3 (dk_at dksJ7_copyOf_4_0 21 rfl rfl)
theorem dJ7_copyOf_4_22 : decode cJ7_copyOf_4 22 = .ok (.aload_n 0, 1) := dk_42 (dk_at dksJ7_copyOf_4_0 22 rfl rfl)
theorem dJ7_copyOf_4_23 : decode cJ7_copyOf_4 23 = .ok (.arraylength, 1) := dk_190 (dk_at dksJ7_copyOf_4_0 23 rfl rfl)
theorem dJ7_copyOf_4_24 : decode cJ7_copyOf_4 24 = .ok (.iload_n 1, 1) := dk_27 (dk_at dksJ7_copyOf_4_1 0 rfl rfl)
theorem dJ7_copyOf_4_25 : decode cJ7_copyOf_4 25 = .ok (.invokestatic 304, 3) := dk_184 1 48 (dk_at dksJ7_copyOf_4_1 1 rfl rfl)
theorem dJ7_copyOf_4_28 : decode cJ7_copyOf_4 28 = .ok (.invokestatic 150, 3) := dk_184 0 150 (dk_at dksJ7_copyOf_4_1 4 rfl rfl)
theorem dJ7_copyOf_4_31 : decode cJ7_copyOf_4 31 = .ok (.aload_n 2, 1) := dk_44 (dk_at dksJ7_copyOf_4_1 7 rfl rfl)
theorem dJ7_copyOf_4_32 : decode cJ7_copyOf_4 32 = .ok (.areturn, 1) := dk_176 (dk_at dksJ7_copyOf_4_1 8 rfl rfl)
abbrev cJ7_fill : ByteArray := prog_39_method_104_code
def yJ7_fill : MethodName := ⟨RJ7, "fill", "([IIII)V"⟩
def dkwJ7_fill_1 : List UInt8 := [167, 255, 242, 177]
abbrev dktJ7_fill_1 : List UInt8 := dkwJ7_fill_1 ++ []
def dkwJ7_fill_0 : List UInt8 := [42, 190, 27, 28, 184, 0, 13, 27, 54, 4, 21, 4, 28, 162, 0, 14, 42, 21, 4, 29, 79, 132, 4, 1]
abbrev dktJ7_fill_0 : List UInt8 := dkwJ7_fill_0 ++ dktJ7_fill_1
theorem dksJ7_fill_0 : cJ7_fill.data.toList.drop 0 = dktJ7_fill_0 := by decide +kernel
theorem dksJ7_fill_1 : cJ7_fill.data.toList.drop 24 = dktJ7_fill_1 := dk_seg dksJ7_fill_0 24 rfl rfl
theorem dJ7_fill_0 : decode cJ7_fill 0 = .ok (.aload_n 0, 1) := dk_42 (dk_at dksJ7_fill_0 0 rfl rfl)
theorem dJ7_fill_1 : decode cJ7_fill 1 = .ok (.arraylength, 1) := dk_190 (dk_at dksJ7_fill_0 1 rfl rfl)
theorem dJ7_fill_2 : decode cJ7_fill 2 = .ok (.iload_n 1, 1) := dk_27 (dk_at dksJ7_fill_0 2 rfl rfl)
theorem dJ7_fill_3 : decode cJ7_fill 3 = .ok (.iload_n 2, 1) := dk_28 (dk_at dksJ7_fill_0 3 rfl rfl)
theorem dJ7_fill_4 : decode cJ7_fill 4 = .ok (.invokestatic 13, 3) := dk_184 0 13 (dk_at dksJ7_fill_0 4 rfl rfl)
theorem dJ7_fill_7 : decode cJ7_fill 7 = .ok (.iload_n 1, 1) := dk_27 (dk_at dksJ7_fill_0 7 rfl rfl)
theorem dJ7_fill_8 : decode cJ7_fill 8 = .ok (.istore 4, 2) := dk_54 4 (dk_at dksJ7_fill_0 8 rfl rfl)
theorem dJ7_fill_10 : decode cJ7_fill 10 = .ok (.iload 4, 2) := dk_21 4 (dk_at dksJ7_fill_0 10 rfl rfl)
theorem dJ7_fill_12 : decode cJ7_fill 12 = .ok (.iload_n 2, 1) := dk_28 (dk_at dksJ7_fill_0 12 rfl rfl)
theorem dJ7_fill_13 : decode cJ7_fill 13 = .ok (.if_icmp .ge 14, 3) := dk_162 0 14 (dk_at dksJ7_fill_0 13 rfl rfl)
theorem dJ7_fill_16 : decode cJ7_fill 16 = .ok (.aload_n 0, 1) := dk_42 (dk_at dksJ7_fill_0 16 rfl rfl)
theorem dJ7_fill_17 : decode cJ7_fill 17 = .ok (.iload 4, 2) := dk_21 4 (dk_at dksJ7_fill_0 17 rfl rfl)
theorem dJ7_fill_19 : decode cJ7_fill 19 = .ok (.iload_n 3, 1) := dk_29 (dk_at dksJ7_fill_0 19 rfl rfl)
theorem dJ7_fill_20 : decode cJ7_fill 20 = .ok (.iastore, 1) := dk_79 (dk_at dksJ7_fill_0 20 rfl rfl)
theorem dJ7_fill_21 : decode cJ7_fill 21 = .ok (.iinc 4 1, 3) := dk_132 4 1 (dk_at dksJ7_fill_0 21 rfl rfl)
theorem dJ7_fill_24 : decode cJ7_fill 24 = .ok (.goto (-14), 3) := dk_167 255 242 (dk_at dksJ7_fill_1 0 rfl rfl)
theorem dJ7_fill_27 : decode cJ7_fill 27 = .ok (.return_, 1) := dk_177 (dk_at dksJ7_fill_1 3 rfl rfl)
abbrev cJ7_rangeCheck : ByteArray := prog_39_method_30_code
def yJ7_rangeCheck : MethodName := ⟨RJ7, "rangeCheck", "(III)V"⟩
def dkwJ7_rangeCheck_3 : List UInt8 := [183, 0, 70, 191, 177]
abbrev dktJ7_rangeCheck_3 : List UInt8 := dkwJ7_rangeCheck_3 ++ []
def dkwJ7_rangeCheck_2 : List UInt8 := [27, 156, 0, 12, 187, 0, 68, 89, 27, 183, 0, 70, 191, 28, 26, 164, 0, 12, 187, 0, 68, 89, 28]
abbrev dktJ7_rangeCheck_2 : List UInt8 := dkwJ7_rangeCheck_2 ++ dktJ7_rangeCheck_3
def dkwJ7_rangeCheck_1 : List UInt8 := [182, 0, 54, 18, 57, 182, 0, 50, 28, 182, 0, 54, 18, 59, 182, 0, 50, 182, 0, 61, 183, 0, 65, 191]
abbrev dktJ7_rangeCheck_1 : List UInt8 := dkwJ7_rangeCheck_1 ++ dktJ7_rangeCheck_2
def dkwJ7_rangeCheck_0 : List UInt8 := [27, 28, 164, 0, 44, 187, 0, 43, 89, 187, 0, 45, 89, 183, 0, 47, 18, 48, 182, 0, 50, 27]
abbrev dktJ7_rangeCheck_0 : List UInt8 := dkwJ7_rangeCheck_0 ++ dktJ7_rangeCheck_1
theorem dksJ7_rangeCheck_0 : cJ7_rangeCheck.data.toList.drop 0 = dktJ7_rangeCheck_0 := by decide +kernel
theorem dksJ7_rangeCheck_1 : cJ7_rangeCheck.data.toList.drop 22 = dktJ7_rangeCheck_1 := dk_seg dksJ7_rangeCheck_0 22 rfl rfl
theorem dksJ7_rangeCheck_2 : cJ7_rangeCheck.data.toList.drop 46 = dktJ7_rangeCheck_2 := dk_seg dksJ7_rangeCheck_1 24 rfl rfl
theorem dksJ7_rangeCheck_3 : cJ7_rangeCheck.data.toList.drop 69 = dktJ7_rangeCheck_3 := dk_seg dksJ7_rangeCheck_2 23 rfl rfl
theorem dJ7_rangeCheck_0 : decode cJ7_rangeCheck 0 = .ok (.iload_n 1, 1) := dk_27 (dk_at dksJ7_rangeCheck_0 0 rfl rfl)
theorem dJ7_rangeCheck_1 : decode cJ7_rangeCheck 1 = .ok (.iload_n 2, 1) := dk_28 (dk_at dksJ7_rangeCheck_0 1 rfl rfl)
theorem dJ7_rangeCheck_2 : decode cJ7_rangeCheck 2 = .ok (.if_icmp .le 44, 3) := dk_164 0 44 (dk_at dksJ7_rangeCheck_0 2 rfl rfl)
theorem dJ7_rangeCheck_5 : decode cJ7_rangeCheck 5 = .ok (.new 43, 3) := dk_187 0 43 (dk_at dksJ7_rangeCheck_0 5 rfl rfl)
theorem dJ7_rangeCheck_8 : decode cJ7_rangeCheck 8 = .ok (.dup, 1) := dk_89 (dk_at dksJ7_rangeCheck_0 8 rfl rfl)
theorem dJ7_rangeCheck_9 : decode cJ7_rangeCheck 9 = .ok (.new 45, 3) := dk_187 0 45 (dk_at dksJ7_rangeCheck_0 9 rfl rfl)
theorem dJ7_rangeCheck_12 : decode cJ7_rangeCheck 12 = .ok (.dup, 1) := dk_89 (dk_at dksJ7_rangeCheck_0 12 rfl rfl)
theorem dJ7_rangeCheck_13 : decode cJ7_rangeCheck 13 = .ok (.invokespecial 47, 3) := dk_183 0 47 (dk_at dksJ7_rangeCheck_0 13 rfl rfl)
theorem dJ7_rangeCheck_16 : decode cJ7_rangeCheck 16 = .ok (.ldc 48, 2) := dk_18 48 (dk_at dksJ7_rangeCheck_0 16 rfl rfl)
theorem dJ7_rangeCheck_18 : decode cJ7_rangeCheck 18 = .ok (.invokevirtual 50, 3) := dk_182 0 50 (dk_at dksJ7_rangeCheck_0 18 rfl rfl)
theorem dJ7_rangeCheck_21 : decode cJ7_rangeCheck 21 = .ok (.iload_n 1, 1) := dk_27 (dk_at dksJ7_rangeCheck_0 21 rfl rfl)
theorem dJ7_rangeCheck_22 : decode cJ7_rangeCheck 22 = .ok (.invokevirtual 54, 3) := dk_182 0 54 (dk_at dksJ7_rangeCheck_1 0 rfl rfl)
theorem dJ7_rangeCheck_25 : decode cJ7_rangeCheck 25 = .ok (.ldc 57, 2) := dk_18 57 (dk_at dksJ7_rangeCheck_1 3 rfl rfl)
theorem dJ7_rangeCheck_27 : decode cJ7_rangeCheck 27 = .ok (.invokevirtual 50, 3) := dk_182 0 50 (dk_at dksJ7_rangeCheck_1 5 rfl rfl)
theorem dJ7_rangeCheck_30 : decode cJ7_rangeCheck 30 = .ok (.iload_n 2, 1) := dk_28 (dk_at dksJ7_rangeCheck_1 8 rfl rfl)
theorem dJ7_rangeCheck_31 : decode cJ7_rangeCheck 31 = .ok (.invokevirtual 54, 3) := dk_182 0 54 (dk_at dksJ7_rangeCheck_1 9 rfl rfl)
theorem dJ7_rangeCheck_34 : decode cJ7_rangeCheck 34 = .ok (.ldc 59, 2) := dk_18 59 (dk_at dksJ7_rangeCheck_1 12 rfl rfl)
theorem dJ7_rangeCheck_36 : decode cJ7_rangeCheck 36 = .ok (.invokevirtual 50, 3) := dk_182 0 50 (dk_at dksJ7_rangeCheck_1 14 rfl rfl)
theorem dJ7_rangeCheck_39 : decode cJ7_rangeCheck 39 = .ok (.invokevirtual 61, 3) := dk_182 0 61 (dk_at dksJ7_rangeCheck_1 17 rfl rfl)
theorem dJ7_rangeCheck_42 : decode cJ7_rangeCheck 42 = .ok (.invokespecial 65, 3) := dk_183 0 65 (dk_at dksJ7_rangeCheck_1 20 rfl rfl)
theorem dJ7_rangeCheck_45 : decode cJ7_rangeCheck 45 = .ok (.athrow, 1) := dk_191 (dk_at dksJ7_rangeCheck_1 23 rfl rfl)
theorem dJ7_rangeCheck_46 : decode cJ7_rangeCheck 46 = .ok (.iload_n 1, 1) := dk_27 (dk_at dksJ7_rangeCheck_2 0 rfl rfl)
theorem dJ7_rangeCheck_47 : decode cJ7_rangeCheck 47 = .ok (.ifCond .ge 12, 3) := dk_156 0 12 (dk_at dksJ7_rangeCheck_2 1 rfl rfl)
theorem dJ7_rangeCheck_50 : decode cJ7_rangeCheck 50 = .ok (.new 68, 3) := dk_187 0 68 (dk_at dksJ7_rangeCheck_2 4 rfl rfl)
theorem dJ7_rangeCheck_53 : decode cJ7_rangeCheck 53 = .ok (.dup, 1) := dk_89 (dk_at dksJ7_rangeCheck_2 7 rfl rfl)
theorem dJ7_rangeCheck_54 : decode cJ7_rangeCheck 54 = .ok (.iload_n 1, 1) := dk_27 (dk_at dksJ7_rangeCheck_2 8 rfl rfl)
theorem dJ7_rangeCheck_55 : decode cJ7_rangeCheck 55 = .ok (.invokespecial 70, 3) := dk_183 0 70 (dk_at dksJ7_rangeCheck_2 9 rfl rfl)
theorem dJ7_rangeCheck_58 : decode cJ7_rangeCheck 58 = .ok (.athrow, 1) := dk_191 (dk_at dksJ7_rangeCheck_2 12 rfl rfl)
theorem dJ7_rangeCheck_59 : decode cJ7_rangeCheck 59 = .ok (.iload_n 2, 1) := dk_28 (dk_at dksJ7_rangeCheck_2 13 rfl rfl)
theorem dJ7_rangeCheck_60 : decode cJ7_rangeCheck 60 = .ok (.iload_n 0, 1) := dk_26 (dk_at dksJ7_rangeCheck_2 14 rfl rfl)
theorem dJ7_rangeCheck_61 : decode cJ7_rangeCheck 61 = .ok (.if_icmp .le 12, 3) := dk_164 0 12 (dk_at dksJ7_rangeCheck_2 15 rfl rfl)
theorem dJ7_rangeCheck_64 : decode cJ7_rangeCheck 64 = .ok (.new 68, 3) := dk_187 0 68 (dk_at dksJ7_rangeCheck_2 18 rfl rfl)
theorem dJ7_rangeCheck_67 : decode cJ7_rangeCheck 67 = .ok (.dup, 1) := dk_89 (dk_at dksJ7_rangeCheck_2 21 rfl rfl)
theorem dJ7_rangeCheck_68 : decode cJ7_rangeCheck 68 = .ok (.iload_n 2, 1) := dk_28 (dk_at dksJ7_rangeCheck_2 22 rfl rfl)
theorem dJ7_rangeCheck_69 : decode cJ7_rangeCheck 69 = .ok (.invokespecial 70, 3) := dk_183 0 70 (dk_at dksJ7_rangeCheck_3 0 rfl rfl)
theorem dJ7_rangeCheck_72 : decode cJ7_rangeCheck 72 = .ok (.athrow, 1) := dk_191 (dk_at dksJ7_rangeCheck_3 3 rfl rfl)
theorem dJ7_rangeCheck_73 : decode cJ7_rangeCheck 73 = .ok (.return_, 1) := dk_177 (dk_at dksJ7_rangeCheck_3 4 rfl rfl)
abbrev cJ7_fill_2 : ByteArray := prog_39_method_103_code
def yJ7_fill_2 : MethodName := ⟨RJ7, "fill", "([II)V"⟩
def dkwJ7_fill_2_0 : List UInt8 := [3, 61, 42, 190, 62, 28, 29, 162, 0, 13, 42, 28, 27, 79, 132, 2, 1, 167, 255, 244, 177]
abbrev dktJ7_fill_2_0 : List UInt8 := dkwJ7_fill_2_0 ++ []
theorem dksJ7_fill_2_0 : cJ7_fill_2.data.toList.drop 0 = dktJ7_fill_2_0 := by decide +kernel
theorem dJ7_fill_2_0 : decode cJ7_fill_2 0 = .ok (.iconst 0, 1) := dk_3 (dk_at dksJ7_fill_2_0 0 rfl rfl)
theorem dJ7_fill_2_1 : decode cJ7_fill_2 1 = .ok (.istore_n 2, 1) := dk_61 (dk_at dksJ7_fill_2_0 1 rfl rfl)
theorem dJ7_fill_2_2 : decode cJ7_fill_2 2 = .ok (.aload_n 0, 1) := dk_42 (dk_at dksJ7_fill_2_0 2 rfl rfl)
theorem dJ7_fill_2_3 : decode cJ7_fill_2 3 = .ok (.arraylength, 1) := dk_190 (dk_at dksJ7_fill_2_0 3 rfl rfl)
theorem dJ7_fill_2_4 : decode cJ7_fill_2 4 = .ok (.istore_n 3, 1) := dk_62 (dk_at dksJ7_fill_2_0 4 rfl rfl)
theorem dJ7_fill_2_5 : decode cJ7_fill_2 5 = .ok (.iload_n 2, 1) := dk_28 (dk_at dksJ7_fill_2_0 5 rfl rfl)
theorem dJ7_fill_2_6 : decode cJ7_fill_2 6 = .ok (.iload_n 3, 1) := dk_29 (dk_at dksJ7_fill_2_0 6 rfl rfl)
theorem dJ7_fill_2_7 : decode cJ7_fill_2 7 = .ok (.if_icmp .ge 13, 3) := dk_162 0 13 (dk_at dksJ7_fill_2_0 7 rfl rfl)
theorem dJ7_fill_2_10 : decode cJ7_fill_2 10 = .ok (.aload_n 0, 1) := dk_42 (dk_at dksJ7_fill_2_0 10 rfl rfl)
theorem dJ7_fill_2_11 : decode cJ7_fill_2 11 = .ok (.iload_n 2, 1) := dk_28 (dk_at dksJ7_fill_2_0 11 rfl rfl)
theorem dJ7_fill_2_12 : decode cJ7_fill_2 12 = .ok (.iload_n 1, 1) := dk_27 (dk_at dksJ7_fill_2_0 12 rfl rfl)
theorem dJ7_fill_2_13 : decode cJ7_fill_2 13 = .ok (.iastore, 1) := dk_79 (dk_at dksJ7_fill_2_0 13 rfl rfl)
theorem dJ7_fill_2_14 : decode cJ7_fill_2 14 = .ok (.iinc 2 1, 3) := dk_132 2 1 (dk_at dksJ7_fill_2_0 14 rfl rfl)
theorem dJ7_fill_2_17 : decode cJ7_fill_2 17 = .ok (.goto (-12), 3) := dk_167 255 244 (dk_at dksJ7_fill_2_0 17 rfl rfl)
theorem dJ7_fill_2_20 : decode cJ7_fill_2 20 = .ok (.return_, 1) := dk_177 (dk_at dksJ7_fill_2_0 20 rfl rfl)
theorem q81 : (Jvm.Cond.initialized "java/util/Arrays") ∈ lw_all := lw_g (lw_at lw_m1 12 rfl) rfl
theorem q235 : (Jvm.Cond.static ({ cls := "java/util/Arrays", name := "copyOf", desc := "([Ljava/lang/Object;I)[Ljava/lang/Object;" } : Jvm.MethodName)) ∈ lw_all := lw_g (lw_at lw_m1 166 rfl) rfl
theorem q236 : (Jvm.Cond.code ({ cls := "java/util/Arrays", name := "copyOf", desc := "([Ljava/lang/Object;I)[Ljava/lang/Object;" } : Jvm.MethodName) prog_39_method_119_code (2 : Nat) (Option.some (Jvm.ClassFile.FieldType.array (Jvm.ClassFile.FieldType.object "java/lang/Object")))) ∈ lw_all := lw_g (lw_at lw_m1 167 rfl) rfl
theorem q237 : (Jvm.Cond.methodLink "java/util/Arrays" (86 : Nat) ({ cls := "java/lang/Object", name := "getClass", desc := "()Ljava/lang/Class;" } : Jvm.MethodName)) ∈ lw_all := lw_g (lw_at lw_m1 168 rfl) rfl
theorem q260 : (Jvm.Cond.methodLink "java/util/Arrays" (300 : Nat) ({ cls := "java/util/Arrays", name := "copyOf", desc := "([Ljava/lang/Object;ILjava/lang/Class;)[Ljava/lang/Object;" } : Jvm.MethodName)) ∈ lw_all := lw_g (lw_at lw_m1 191 rfl) rfl
theorem q261 : (Jvm.Cond.static ({ cls := "java/util/Arrays", name := "copyOf", desc := "([Ljava/lang/Object;ILjava/lang/Class;)[Ljava/lang/Object;" } : Jvm.MethodName)) ∈ lw_all := lw_g (lw_at lw_m1 192 rfl) rfl
theorem q262 : (Jvm.Cond.code ({ cls := "java/util/Arrays", name := "copyOf", desc := "([Ljava/lang/Object;ILjava/lang/Class;)[Ljava/lang/Object;" } : Jvm.MethodName) prog_39_method_120_code (4 : Nat) (Option.some (Jvm.ClassFile.FieldType.array (Jvm.ClassFile.FieldType.object "java/lang/Object")))) ∈ lw_all := lw_g (lw_at lw_m1 193 rfl) rfl
theorem q263 : (Jvm.Cond.classLink "java/util/Arrays" (110 : Nat) "[Ljava/lang/Object;") ∈ lw_all := lw_g (lw_at lw_m1 194 rfl) rfl
theorem q265 : (Jvm.Cond.classLink "java/util/Arrays" (2 : Nat) "java/lang/Object") ∈ lw_all := lw_g (lw_at lw_m1 196 rfl) rfl
theorem q266 : (Jvm.Cond.methodLink "java/util/Arrays" (304 : Nat) ({ cls := "java/lang/Math", name := "min", desc := "(II)I" } : Jvm.MethodName)) ∈ lw_all := lw_g (lw_at lw_m1 197 rfl) rfl
theorem q269 : (Jvm.Cond.methodLink "java/util/Arrays" (150 : Nat) ({ cls := "java/lang/System", name := "arraycopy", desc := "(Ljava/lang/Object;ILjava/lang/Object;II)V" } : Jvm.MethodName)) ∈ lw_all := lw_g (lw_at lw_m1 200 rfl) rfl
theorem q719 : (Jvm.Cond.static ({ cls := "java/util/Arrays", name := "copyOfRange", desc := "([III)[I" } : Jvm.MethodName)) ∈ lw_all := lw_g (lw_at lw_m3 170 rfl) rfl
theorem q720 : (Jvm.Cond.code ({ cls := "java/util/Arrays", name := "copyOfRange", desc := "([III)[I" } : Jvm.MethodName) prog_39_method_136_code (3 : Nat) (Option.some (Jvm.ClassFile.FieldType.array Jvm.ClassFile.FieldType.int))) ∈ lw_all := lw_g (lw_at lw_m3 171 rfl) rfl
theorem q721 : (Jvm.Cond.methodLink "java/util/Arrays" (351 : Nat) ({ cls := "java/util/Arrays", name := "copyOfRangeInt", desc := "([III)[I" } : Jvm.MethodName)) ∈ lw_all := lw_g (lw_at lw_m3 172 rfl) rfl
theorem q722 : (Jvm.Cond.static ({ cls := "java/util/Arrays", name := "copyOfRangeInt", desc := "([III)[I" } : Jvm.MethodName)) ∈ lw_all := lw_g (lw_at lw_m3 173 rfl) rfl
theorem q723 : (Jvm.Cond.code ({ cls := "java/util/Arrays", name := "copyOfRangeInt", desc := "([III)[I" } : Jvm.MethodName) prog_39_method_137_code (5 : Nat) (Option.some (Jvm.ClassFile.FieldType.array Jvm.ClassFile.FieldType.int))) ∈ lw_all := lw_g (lw_at lw_m3 174 rfl) rfl
theorem q724 : (Jvm.Cond.methodLink "java/util/Arrays" (343 : Nat) ({ cls := "java/util/Arrays", name := "checkLength", desc := "(II)V" } : Jvm.MethodName)) ∈ lw_all := lw_g (lw_at lw_m3 175 rfl) rfl
theorem q725 : (Jvm.Cond.static ({ cls := "java/util/Arrays", name := "checkLength", desc := "(II)V" } : Jvm.MethodName)) ∈ lw_all := lw_g (lw_at lw_m3 176 rfl) rfl
theorem q726 : (Jvm.Cond.code ({ cls := "java/util/Arrays", name := "checkLength", desc := "(II)V" } : Jvm.MethodName) prog_39_method_131_code (2 : Nat) (Option.none : Option Jvm.ClassFile.FieldType)) ∈ lw_all := lw_g (lw_at lw_m3 177 rfl) rfl
theorem q727 : (Jvm.Cond.classLink "java/util/Arrays" (43 : Nat) "java/lang/IllegalArgumentException") ∈ lw_all := lw_g (lw_at lw_m3 178 rfl) rfl
theorem q728 : (Jvm.Cond.classLink "java/util/Arrays" (45 : Nat) "java/lang/StringBuilder") ∈ lw_all := lw_g (lw_at lw_m3 179 rfl) rfl
theorem q730 : (Jvm.Cond.methodLink "java/util/Arrays" (47 : Nat) ({ cls := "java/lang/StringBuilder", name := "<init>", desc := "()V" } : Jvm.MethodName)) ∈ lw_all := lw_g (lw_at lw_m3 181 rfl) rfl
theorem q759 : (Jvm.Cond.methodLink "java/util/Arrays" (54 : Nat) ({ cls := "java/lang/StringBuilder", name := "append", desc := "(I)Ljava/lang/StringBuilder;" } : Jvm.MethodName)) ∈ lw_all := lw_g (lw_at lw_m3 210 rfl) rfl
theorem q780 : (Jvm.Cond.static ({ cls := "java/util/Arrays", name := "copyOf", desc := "([BI)[B" } : Jvm.MethodName)) ∈ lw_all := lw_g (lw_at lw_m3 231 rfl) rfl
theorem q781 : (Jvm.Cond.code ({ cls := "java/util/Arrays", name := "copyOf", desc := "([BI)[B" } : Jvm.MethodName) prog_39_method_121_code (3 : Nat) (Option.some (Jvm.ClassFile.FieldType.array Jvm.ClassFile.FieldType.byte))) ∈ lw_all := lw_g (lw_at lw_m3 232 rfl) rfl
theorem q782 : (Jvm.Cond.methodLink "java/util/Arrays" (310 : Nat) ({ cls := "[B", name := "clone", desc := "()Ljava/lang/Object;" } : Jvm.MethodName)) ∈ lw_all := lw_g (lw_at lw_m3 233 rfl) rfl
theorem q788 : (Jvm.Cond.classLink "java/util/Arrays" (311 : Nat) "[B") ∈ lw_all := lw_g (lw_at lw_m3 239 rfl) rfl
theorem q832 : (Jvm.Cond.stringRef "java/util/Arrays" (337 : Nat) " > ") ∈ lw_tbl := lw_at lw_m4 43 rfl
theorem q833 : (Jvm.Cond.methodLink "java/util/Arrays" (50 : Nat) ({ cls := "java/lang/StringBuilder", name := "append", desc := "(Ljava/lang/String;)Ljava/lang/StringBuilder;" } : Jvm.MethodName)) ∈ lw_all := lw_g (lw_at lw_m4 44 rfl) rfl
theorem q890 : (Jvm.Cond.methodLink "java/util/Arrays" (61 : Nat) ({ cls := "java/lang/StringBuilder", name := "toString", desc := "()Ljava/lang/String;" } : Jvm.MethodName)) ∈ lw_all := lw_g (lw_at lw_m4 101 rfl) rfl
theorem q917 : (Jvm.Cond.static ({ cls := "java/util/Arrays", name := "copyOfRange", desc := "([BII)[B" } : Jvm.MethodName)) ∈ lw_all := lw_g (lw_at lw_m4 128 rfl) rfl
theorem q918 : (Jvm.Cond.code ({ cls := "java/util/Arrays", name := "copyOfRange", desc := "([BII)[B" } : Jvm.MethodName) prog_39_method_132_code (3 : Nat) (Option.some (Jvm.ClassFile.FieldType.array Jvm.ClassFile.FieldType.byte))) ∈ lw_all := lw_g (lw_at lw_m4 129 rfl) rfl
theorem q919 : (Jvm.Cond.methodLink "java/util/Arrays" (339 : Nat) ({ cls := "java/util/Arrays", name := "copyOfRangeByte", desc := "([BII)[B" } : Jvm.MethodName)) ∈ lw_all := lw_g (lw_at lw_m4 130 rfl) rfl
theorem q920 : (Jvm.Cond.static ({ cls := "java/util/Arrays", name := "copyOfRangeByte", desc := "([BII)[B" } : Jvm.MethodName)) ∈ lw_all := lw_g (lw_at lw_m4 131 rfl) rfl
theorem q921 : (Jvm.Cond.code ({ cls := "java/util/Arrays", name := "copyOfRangeByte", desc := "([BII)[B" } : Jvm.MethodName) prog_39_method_133_code (5 : Nat) (Option.some (Jvm.ClassFile.FieldType.array Jvm.ClassFile.FieldType.byte))) ∈ lw_all := lw_g (lw_at lw_m4 132 rfl) rfl
theorem q942 : (Jvm.Cond.methodLink "java/util/Arrays" (65 : Nat) ({ cls := "java/lang/IllegalArgumentException", name := "<init>", desc := "(Ljava/lang/String;)V" } : Jvm.MethodName)) ∈ lw_all := lw_g (lw_at lw_m4 153 rfl) rfl
theorem q946 : (Jvm.Cond.methodLink "java/util/Arrays" (316 : Nat) ({ cls := "[I", name := "clone", desc := "()Ljava/lang/Object;" } : Jvm.MethodName)) ∈ lw_all := lw_g (lw_at lw_m4 157 rfl) rfl
theorem q950 : (Jvm.Cond.classLink "java/util/Arrays" (317 : Nat) "[I") ∈ lw_all := lw_g (lw_at lw_m4 161 rfl) rfl
theorem q1045 : (Jvm.Cond.static ({ cls := "java/util/Arrays", name := "copyOf", desc := "([II)[I" } : Jvm.MethodName)) ∈ lw_all := lw_g (lw_at lw_m5 16 rfl) rfl
theorem q1046 : (Jvm.Cond.code ({ cls := "java/util/Arrays", name := "copyOf", desc := "([II)[I" } : Jvm.MethodName) prog_39_method_123_code (3 : Nat) (Option.some (Jvm.ClassFile.FieldType.array Jvm.ClassFile.FieldType.int))) ∈ lw_all := lw_g (lw_at lw_m5 17 rfl) rfl
theorem q1341 : (Jvm.Cond.static ({ cls := "java/util/Arrays", name := "fill", desc := "([IIII)V" } : Jvm.MethodName)) ∈ lw_all := lw_g (lw_at lw_m6 72 rfl) rfl
theorem q1342 : (Jvm.Cond.code ({ cls := "java/util/Arrays", name := "fill", desc := "([IIII)V" } : Jvm.MethodName) prog_39_method_104_code (5 : Nat) (Option.none : Option Jvm.ClassFile.FieldType)) ∈ lw_all := lw_g (lw_at lw_m6 73 rfl) rfl
theorem q1343 : (Jvm.Cond.methodLink "java/util/Arrays" (13 : Nat) ({ cls := "java/util/Arrays", name := "rangeCheck", desc := "(III)V" } : Jvm.MethodName)) ∈ lw_all := lw_g (lw_at lw_m6 74 rfl) rfl
theorem q1344 : (Jvm.Cond.static ({ cls := "java/util/Arrays", name := "rangeCheck", desc := "(III)V" } : Jvm.MethodName)) ∈ lw_all := lw_g (lw_at lw_m6 75 rfl) rfl
theorem q1345 : (Jvm.Cond.code ({ cls := "java/util/Arrays", name := "rangeCheck", desc := "(III)V" } : Jvm.MethodName) prog_39_method_30_code (3 : Nat) (Option.none : Option Jvm.ClassFile.FieldType)) ∈ lw_all := lw_g (lw_at lw_m6 76 rfl) rfl
theorem q1346 : (Jvm.Cond.stringRef "java/util/Arrays" (48 : Nat) "fromIndex(") ∈ lw_tbl := lw_at lw_m6 77 rfl
theorem q1347 : (Jvm.Cond.stringRef "java/util/Arrays" (57 : Nat) ") > toIndex(") ∈ lw_tbl := lw_at lw_m6 78 rfl
theorem q1348 : (Jvm.Cond.stringRef "java/util/Arrays" (59 : Nat) ")") ∈ lw_tbl := lw_at lw_m6 79 rfl
theorem q1349 : (Jvm.Cond.classLink "java/util/Arrays" (68 : Nat) "java/lang/ArrayIndexOutOfBoundsException") ∈ lw_all := lw_g (lw_at lw_m6 80 rfl) rfl
theorem q1350 : (Jvm.Cond.methodLink "java/util/Arrays" (70 : Nat) ({ cls := "java/lang/ArrayIndexOutOfBoundsException", name := "<init>", desc := "(I)V" } : Jvm.MethodName)) ∈ lw_all := lw_g (lw_at lw_m6 81 rfl) rfl
theorem q1386 : (Jvm.Cond.static ({ cls := "java/util/Arrays", name := "fill", desc := "([II)V" } : Jvm.MethodName)) ∈ lw_all := lw_g (lw_at lw_m6 117 rfl) rfl
theorem q1387 : (Jvm.Cond.code ({ cls := "java/util/Arrays", name := "fill", desc := "([II)V" } : Jvm.MethodName) prog_39_method_103_code (4 : Nat) (Option.none : Option Jvm.ClassFile.FieldType)) ∈ lw_all := lw_g (lw_at lw_m6 118 rfl) rfl
/-! java/math/BigInteger -/
set_option maxRecDepth 100000
def RJ16 : String := "java/math/BigInteger"
def TJ16 : u_T := fun k => match k with
  | 0 => ("java/math/BigInteger", "signum", "I", true)
  | 1 => ("java/math/BigInteger", "mag", "[I", true)
  | 2 => ("java/math/BigInteger", "bitCountPlusOne", "I", false)
  | 3 => ("java/math/BigInteger", "bitLengthPlusOne", "I", false)
  | 4 => ("java/math/BigInteger", "lowestSetBitPlusTwo", "I", false)
  | _ => ("java/math/BigInteger", "firstNonzeroIntNumPlusTwo", "I", false)
def tyJ16 : Nat → FieldType := fun k => match k with
  | 0 => .int
  | 1 => .array .int
  | 2 => .int
  | 3 => .int
  | 4 => .int
  | _ => .int
abbrev wsJ160 : List Cond := u_ws RJ16 TJ16 6
theorem nmJ16 : ∀ a, a < 6 → ∀ b, b < 6 → a ≠ b → (TJ16 a).2.1 ≠ (TJ16 b).2.1 := by decide +kernel
theorem tyJ16_ok : ∀ k, k < 6 → parseFieldDescriptor (TJ16 k).2.2.1 = some (tyJ16 k) := by decide +kernel
abbrev cJ16_signum : ByteArray := prog_32_method_81_code
def yJ16_signum : MethodName := ⟨RJ16, "signum", "()I"⟩
theorem dJ16_signum_0 : decode cJ16_signum 0 = .ok (.aload_n 0, 1) := by decide +kernel
theorem dJ16_signum_1 : decode cJ16_signum 1 = .ok (.getfield 32, 3) := by decide +kernel
theorem dJ16_signum_4 : decode cJ16_signum 4 = .ok (.ireturn, 1) := by decide +kernel
abbrev cJ16_valueOf : ByteArray := prog_32_method_29_code
def yJ16_valueOf : MethodName := ⟨RJ16, "valueOf", "(J)Ljava/math/BigInteger;"⟩
def dkwJ16_valueOf_2 : List UInt8 := [30, 117, 136, 50, 176, 187, 0, 23, 89, 30, 183, 1, 100, 176]
abbrev dktJ16_valueOf_2 : List UInt8 := dkwJ16_valueOf_2 ++ []
def dkwJ16_valueOf_1 : List UInt8 := [178, 1, 91, 30, 136, 50, 176, 30, 9, 148, 156, 0, 19, 30, 20, 1, 95, 148, 155, 0, 11, 178, 1, 97]
abbrev dktJ16_valueOf_1 : List UInt8 := dkwJ16_valueOf_1 ++ dktJ16_valueOf_2
def dkwJ16_valueOf_0 : List UInt8 := [30, 9, 148, 154, 0, 7, 178, 0, 22, 176, 30, 9, 148, 158, 0, 18, 30, 20, 1, 89, 148, 157, 0, 10]
abbrev dktJ16_valueOf_0 : List UInt8 := dkwJ16_valueOf_0 ++ dktJ16_valueOf_1
theorem dksJ16_valueOf_0 : cJ16_valueOf.data.toList.drop 0 = dktJ16_valueOf_0 := by decide +kernel
theorem dksJ16_valueOf_1 : cJ16_valueOf.data.toList.drop 24 = dktJ16_valueOf_1 := dk_seg dksJ16_valueOf_0 24 rfl rfl
theorem dksJ16_valueOf_2 : cJ16_valueOf.data.toList.drop 48 = dktJ16_valueOf_2 := dk_seg dksJ16_valueOf_1 24 rfl rfl
theorem dJ16_valueOf_0 : decode cJ16_valueOf 0 = .ok (.lload_n 0, 1) := dk_30 (dk_at dksJ16_valueOf_0 0 rfl rfl)
theorem dJ16_valueOf_1 : decode cJ16_valueOf 1 = .ok (.lconst 0, 1) := dk_9 (dk_at dksJ16_valueOf_0 1 rfl rfl)
theorem dJ16_valueOf_2 : decode cJ16_valueOf 2 = .ok (.lcmp, 1) := dk_148 (dk_at dksJ16_valueOf_0 2 rfl rfl)
theorem dJ16_valueOf_3 : decode cJ16_valueOf 3 = .ok (.ifCond .ne 7, 3) := dk_154 0 7 (dk_at dksJ16_valueOf_0 3 rfl rfl)
theorem dJ16_valueOf_6 : decode cJ16_valueOf 6 = .ok (.getstatic 22, 3) := dk_178 0 22 (dk_at dksJ16_valueOf_0 6 rfl rfl)
theorem dJ16_valueOf_9 : decode cJ16_valueOf 9 = .ok (.areturn, 1) := dk_176 (dk_at dksJ16_valueOf_0 9 rfl rfl)
theorem dJ16_valueOf_10 : decode cJ16_valueOf 10 = .ok (.lload_n 0, 1) := dk_30 (dk_at dksJ16_valueOf_0 10 rfl rfl)
theorem dJ16_valueOf_11 : decode cJ16_valueOf 11 = .ok (.lconst 0, 1) := dk_9 (dk_at dksJ16_valueOf_0 11 rfl rfl)
theorem dJ16_valueOf_12 : decode cJ16_valueOf 12 = .ok (.lcmp, 1) := dk_148 (dk_at dksJ16_valueOf_0 12 rfl rfl)
theorem dJ16_valueOf_13 : decode cJ16_valueOf 13 = .ok (.ifCond .le 18, 3) := dk_158 0 18 (dk_at dksJ16_valueOf_0 13 rfl rfl)
theorem dJ16_valueOf_16 : decode cJ16_valueOf 16 = .ok (.lload_n 0, 1) := dk_30 (dk_at dksJ16_valueOf_0 16 rfl rfl)
theorem dJ16_valueOf_17 : decode cJ16_valueOf 17 = .ok (.ldc2_w 345, 3) := dk_20 1 89 (dk_at dksJ16_valueOf_0 17 rfl rfl)
theorem dJ16_valueOf_20 : decode cJ16_valueOf 20 = .ok (.lcmp, 1) := dk_148 (dk_at dksJ16_valueOf_0 20 rfl rfl)
theorem dJ16_valueOf_21 : decode cJ16_valueOf 21 = .ok (.ifCond .gt 10, 3) := dk_157 0 10 (dk_at dksJ16_valueOf_0 21 rfl rfl)
theorem dJ16_valueOf_24 : decode cJ16_valueOf 24 = .ok (.getstatic 347, 3) := dk_178 1 91 (dk_at dksJ16_valueOf_1 0 rfl rfl)
theorem dJ16_valueOf_27 : decode cJ16_valueOf 27 = .ok (.lload_n 0, 1) := dk_30 (dk_at dksJ16_valueOf_1 3 rfl rfl)
theorem dJ16_valueOf_28 : decode cJ16_valueOf 28 = .ok (.l2i, 1) := dk_136 (dk_at dksJ16_valueOf_1 4 rfl rfl)
theorem dJ16_valueOf_29 : decode cJ16_valueOf 29 = .ok (.aaload, 1) := dk_50 (dk_at dksJ16_valueOf_1 5 rfl rfl)
theorem dJ16_valueOf_30 : decode cJ16_valueOf 30 = .ok (.areturn, 1) := dk_176 (dk_at dksJ16_valueOf_1 6 rfl rfl)
theorem dJ16_valueOf_31 : decode cJ16_valueOf 31 = .ok (.lload_n 0, 1) := dk_30 (dk_at dksJ16_valueOf_1 7 rfl rfl)
theorem dJ16_valueOf_32 : decode cJ16_valueOf 32 = .ok (.lconst 0, 1) := dk_9 (dk_at dksJ16_valueOf_1 8 rfl rfl)
theorem dJ16_valueOf_33 : decode cJ16_valueOf 33 = .ok (.lcmp, 1) := dk_148 (dk_at dksJ16_valueOf_1 9 rfl rfl)
theorem dJ16_valueOf_34 : decode cJ16_valueOf 34 = .ok (.ifCond .ge 19, 3) := dk_156 0 19 (dk_at dksJ16_valueOf_1 10 rfl rfl)
theorem dJ16_valueOf_37 : decode cJ16_valueOf 37 = .ok (.lload_n 0, 1) := dk_30 (dk_at dksJ16_valueOf_1 13 rfl rfl)
theorem dJ16_valueOf_38 : decode cJ16_valueOf 38 = .ok (.ldc2_w 351, 3) := dk_20 1 95 (dk_at dksJ16_valueOf_1 14 rfl rfl)
theorem dJ16_valueOf_41 : decode cJ16_valueOf 41 = .ok (.lcmp, 1) := dk_148 (dk_at dksJ16_valueOf_1 17 rfl rfl)
theorem dJ16_valueOf_42 : decode cJ16_valueOf 42 = .ok (.ifCond .lt 11, 3) := dk_155 0 11 (dk_at dksJ16_valueOf_1 18 rfl rfl)
theorem dJ16_valueOf_45 : decode cJ16_valueOf 45 = .ok (.getstatic 353, 3) := dk_178 1 97 (dk_at dksJ16_valueOf_1 21 rfl rfl)
theorem dJ16_valueOf_48 : decode cJ16_valueOf 48 = .ok (.lload_n 0, 1) := dk_30 (dk_at dksJ16_valueOf_2 0 rfl rfl)
theorem dJ16_valueOf_49 : decode cJ16_valueOf 49 = .ok (.lneg, 1) := dk_117 (dk_at dksJ16_valueOf_2 1 rfl rfl)
theorem dJ16_valueOf_50 : decode cJ16_valueOf 50 = .ok (.l2i, 1) := dk_136 (dk_at dksJ16_valueOf_2 2 rfl rfl)
theorem dJ16_valueOf_51 : decode cJ16_valueOf 51 = .ok (.aaload, 1) := dk_50 (dk_at dksJ16_valueOf_2 3 rfl rfl)
theorem dJ16_valueOf_52 : decode cJ16_valueOf 52 = .ok (.areturn, 1) := dk_176 (dk_at dksJ16_valueOf_2 4 rfl rfl)
theorem dJ16_valueOf_53 : decode cJ16_valueOf 53 = .ok (.new 23, 3) := dk_187 0 23 (dk_at dksJ16_valueOf_2 5 rfl rfl)
theorem dJ16_valueOf_56 : decode cJ16_valueOf 56 = .ok (.dup, 1) := dk_89 (dk_at dksJ16_valueOf_2 8 rfl rfl)
theorem dJ16_valueOf_57 : decode cJ16_valueOf 57 = .ok (.lload_n 0, 1) := dk_30 (dk_at dksJ16_valueOf_2 9 rfl rfl)
theorem dJ16_valueOf_58 : decode cJ16_valueOf 58 = .ok (.invokespecial 356, 3) := dk_183 1 100 (dk_at dksJ16_valueOf_2 10 rfl rfl)
theorem dJ16_valueOf_61 : decode cJ16_valueOf 61 = .ok (.areturn, 1) := dk_176 (dk_at dksJ16_valueOf_2 13 rfl rfl)
abbrev cJ16_init : ByteArray := prog_32_method_30_code
def yJ16_init : MethodName := ⟨RJ16, "<init>", "(J)V"⟩
def dkwJ16_init_3 : List UInt8 := [180, 0, 28, 4, 31, 136, 79, 177]
abbrev dktJ16_init_3 : List UInt8 := dkwJ16_init_3 ++ []
def dkwJ16_init_2 : List UInt8 := [3, 31, 136, 79, 167, 0, 25, 42, 5, 188, 10, 181, 0, 28, 42, 180, 0, 28, 3, 29, 79, 42]
abbrev dktJ16_init_2 : List UInt8 := dkwJ16_init_2 ++ dktJ16_init_3
def dkwJ16_init_1 : List UInt8 := [181, 0, 32, 31, 16, 32, 125, 136, 62, 29, 154, 0, 21, 42, 4, 188, 10, 181, 0, 28, 42, 180, 0, 28]
abbrev dktJ16_init_1 : List UInt8 := dkwJ16_init_1 ++ dktJ16_init_2
def dkwJ16_init_0 : List UInt8 := [42, 183, 0, 3, 31, 9, 148, 156, 0, 14, 31, 117, 64, 42, 2, 181, 0, 32, 167, 0, 8, 42, 4]
abbrev dktJ16_init_0 : List UInt8 := dkwJ16_init_0 ++ dktJ16_init_1
theorem dksJ16_init_0 : cJ16_init.data.toList.drop 0 = dktJ16_init_0 := by decide +kernel
theorem dksJ16_init_1 : cJ16_init.data.toList.drop 23 = dktJ16_init_1 := dk_seg dksJ16_init_0 23 rfl rfl
theorem dksJ16_init_2 : cJ16_init.data.toList.drop 47 = dktJ16_init_2 := dk_seg dksJ16_init_1 24 rfl rfl
theorem dksJ16_init_3 : cJ16_init.data.toList.drop 69 = dktJ16_init_3 := dk_seg dksJ16_init_2 22 rfl rfl
theorem dJ16_init_0 : decode cJ16_init 0 = .ok (.aload_n 0, 1) := dk_42 (dk_at dksJ16_init_0 0 rfl rfl)
theorem dJ16_init_1 : decode cJ16_init 1 = .ok (.invokespecial 3, 3) := dk_183 0 3 (dk_at dksJ16_init_0 1 rfl rfl)
theorem dJ16_init_4 : decode cJ16_init 4 = .ok (.lload_n 1, 1) := dk_31 (dk_at dksJ16_init_0 4 rfl rfl)
theorem dJ16_init_5 : decode cJ16_init 5 = .ok (.lconst 0, 1) := dk_9 (dk_at dksJ16_init_0 5 rfl rfl)
theorem dJ16_init_6 : decode cJ16_init 6 = .ok (.lcmp, 1) := dk_148 (dk_at dksJ16_init_0 6 rfl rfl)
theorem dJ16_init_7 : decode cJ16_init 7 = .ok (.ifCond .ge 14, 3) := dk_156 0 14 (dk_at dksJ16_init_0 7 rfl rfl)
theorem dJ16_init_10 : decode cJ16_init 10 = .ok (.lload_n 1, 1) := dk_31 (dk_at dksJ16_init_0 10 rfl rfl)
theorem dJ16_init_11 : decode cJ16_init 11 = .ok (.lneg, 1) := dk_117 (dk_at dksJ16_init_0 11 rfl rfl)
theorem dJ16_init_12 : decode cJ16_init 12 = .ok (.lstore_n 1, 1) := dk_64 (dk_at dksJ16_init_0 12 rfl rfl)
theorem dJ16_init_13 : decode cJ16_init 13 = .ok (.aload_n 0, 1) := dk_42 (dk_at dksJ16_init_0 13 rfl rfl)
theorem dJ16_init_14 : decode cJ16_init 14 = .ok (.iconst (-1), 1) := dk_2 (dk_at dksJ16_init_0 14 rfl rfl)
theorem dJ16_init_15 : decode cJ16_init 15 = .ok (.putfield 32, 3) := dk_181 0 32 (dk_at dksJ16_init_0 15 rfl rfl)
theorem dJ16_init_18 : decode cJ16_init 18 = .ok (.goto 8, 3) := dk_167 0 8 (dk_at dksJ16_init_0 18 rfl rfl)
theorem dJ16_init_21 : decode cJ16_init 21 = .ok (.aload_n 0, 1) := dk_42 (dk_at dksJ16_init_0 21 rfl rfl)
theorem dJ16_init_22 : decode cJ16_init 22 = .ok (.iconst 1, 1) := dk_4 (dk_at dksJ16_init_0 22 rfl rfl)
theorem dJ16_init_23 : decode cJ16_init 23 = .ok (.putfield 32, 3) := dk_181 0 32 (dk_at dksJ16_init_1 0 rfl rfl)
theorem dJ16_init_26 : decode cJ16_init 26 = .ok (.lload_n 1, 1) := dk_31 (dk_at dksJ16_init_1 3 rfl rfl)
theorem dJ16_init_27 : decode cJ16_init 27 = .ok (.bipush 32, 2) := dk_16 32 (dk_at dksJ16_init_1 4 rfl rfl)
theorem dJ16_init_29 : decode cJ16_init 29 = .ok (.lushr, 1) := dk_125 (dk_at dksJ16_init_1 6 rfl rfl)
theorem dJ16_init_30 : decode cJ16_init 30 = .ok (.l2i, 1) := dk_136 (dk_at dksJ16_init_1 7 rfl rfl)
theorem dJ16_init_31 : decode cJ16_init 31 = .ok (.istore_n 3, 1) := dk_62 (dk_at dksJ16_init_1 8 rfl rfl)
theorem dJ16_init_32 : decode cJ16_init 32 = .ok (.iload_n 3, 1) := dk_29 (dk_at dksJ16_init_1 9 rfl rfl)
theorem dJ16_init_33 : decode cJ16_init 33 = .ok (.ifCond .ne 21, 3) := dk_154 0 21 (dk_at dksJ16_init_1 10 rfl rfl)
theorem dJ16_init_36 : decode cJ16_init 36 = .ok (.aload_n 0, 1) := dk_42 (dk_at dksJ16_init_1 13 rfl rfl)
theorem dJ16_init_37 : decode cJ16_init 37 = .ok (.iconst 1, 1) := dk_4 (dk_at dksJ16_init_1 14 rfl rfl)
theorem dJ16_init_38 : decode cJ16_init 38 = .ok (.newarray .int, 2) := dk_188_10 (dk_at dksJ16_init_1 15 rfl rfl)
theorem dJ16_init_40 : decode cJ16_init 40 = .ok (.putfield 28, 3) := dk_181 0 28 (dk_at dksJ16_init_1 17 rfl rfl)
theorem dJ16_init_43 : decode cJ16_init 43 = .ok (.aload_n 0, 1) := dk_42 (dk_at dksJ16_init_1 20 rfl rfl)
theorem dJ16_init_44 : decode cJ16_init 44 = .ok (.getfield 28, 3) := dk_180 0 28 (dk_at dksJ16_init_1 21 rfl rfl)
theorem dJ16_init_47 : decode cJ16_init 47 = .ok (.iconst 0, 1) := dk_3 (dk_at dksJ16_init_2 0 rfl rfl)
theorem dJ16_init_48 : decode cJ16_init 48 = .ok (.lload_n 1, 1) := dk_31 (dk_at dksJ16_init_2 1 rfl rfl)
theorem dJ16_init_49 : decode cJ16_init 49 = .ok (.l2i, 1) := dk_136 (dk_at dksJ16_init_2 2 rfl rfl)
theorem dJ16_init_50 : decode cJ16_init 50 = .ok (.iastore, 1) := dk_79 (dk_at dksJ16_init_2 3 rfl rfl)
theorem dJ16_init_51 : decode cJ16_init 51 = .ok (.goto 25, 3) := dk_167 0 25 (dk_at dksJ16_init_2 4 rfl rfl)
theorem dJ16_init_54 : decode cJ16_init 54 = .ok (.aload_n 0, 1) := dk_42 (dk_at dksJ16_init_2 7 rfl rfl)
theorem dJ16_init_55 : decode cJ16_init 55 = .ok (.iconst 2, 1) := dk_5 (dk_at dksJ16_init_2 8 rfl rfl)
theorem dJ16_init_56 : decode cJ16_init 56 = .ok (.newarray .int, 2) := dk_188_10 (dk_at dksJ16_init_2 9 rfl rfl)
theorem dJ16_init_58 : decode cJ16_init 58 = .ok (.putfield 28, 3) := dk_181 0 28 (dk_at dksJ16_init_2 11 rfl rfl)
theorem dJ16_init_61 : decode cJ16_init 61 = .ok (.aload_n 0, 1) := dk_42 (dk_at dksJ16_init_2 14 rfl rfl)
theorem dJ16_init_62 : decode cJ16_init 62 = .ok (.getfield 28, 3) := dk_180 0 28 (dk_at dksJ16_init_2 15 rfl rfl)
theorem dJ16_init_65 : decode cJ16_init 65 = .ok (.iconst 0, 1) := dk_3 (dk_at dksJ16_init_2 18 rfl rfl)
theorem dJ16_init_66 : decode cJ16_init 66 = .ok (.iload_n 3, 1) := dk_29 (dk_at dksJ16_init_2 19 rfl rfl)
theorem dJ16_init_67 : decode cJ16_init 67 = .ok (.iastore, 1) := dk_79 (dk_at dksJ16_init_2 20 rfl rfl)
theorem dJ16_init_68 : decode cJ16_init 68 = .ok (.aload_n 0, 1) := dk_42 (dk_at dksJ16_init_2 21 rfl rfl)
theorem dJ16_init_69 : decode cJ16_init 69 = .ok (.getfield 28, 3) := dk_180 0 28 (dk_at dksJ16_init_3 0 rfl rfl)
theorem dJ16_init_72 : decode cJ16_init 72 = .ok (.iconst 1, 1) := dk_4 (dk_at dksJ16_init_3 3 rfl rfl)
theorem dJ16_init_73 : decode cJ16_init 73 = .ok (.lload_n 1, 1) := dk_31 (dk_at dksJ16_init_3 4 rfl rfl)
theorem dJ16_init_74 : decode cJ16_init 74 = .ok (.l2i, 1) := dk_136 (dk_at dksJ16_init_3 5 rfl rfl)
theorem dJ16_init_75 : decode cJ16_init 75 = .ok (.iastore, 1) := dk_79 (dk_at dksJ16_init_3 6 rfl rfl)
theorem dJ16_init_76 : decode cJ16_init 76 = .ok (.return_, 1) := dk_177 (dk_at dksJ16_init_3 7 rfl rfl)
abbrev cJ16_longValue : ByteArray := prog_32_method_136_code
def yJ16_longValue : MethodName := ⟨RJ16, "longValue", "()J"⟩
def dkwJ16_longValue_1 : List UInt8 := [132, 3, 255, 167, 255, 233, 31, 173]
abbrev dktJ16_longValue_1 : List UInt8 := dkwJ16_longValue_1 ++ []
def dkwJ16_longValue_0 : List UInt8 := [9, 64, 4, 62, 29, 155, 0, 25, 31, 16, 32, 121, 42, 29, 182, 2, 224, 133, 20, 0, 130, 127, 97, 64]
abbrev dktJ16_longValue_0 : List UInt8 := dkwJ16_longValue_0 ++ dktJ16_longValue_1
theorem dksJ16_longValue_0 : cJ16_longValue.data.toList.drop 0 = dktJ16_longValue_0 := by decide +kernel
theorem dksJ16_longValue_1 : cJ16_longValue.data.toList.drop 24 = dktJ16_longValue_1 := dk_seg dksJ16_longValue_0 24 rfl rfl
theorem dJ16_longValue_0 : decode cJ16_longValue 0 = .ok (.lconst 0, 1) := dk_9 (dk_at dksJ16_longValue_0 0 rfl rfl)
theorem dJ16_longValue_1 : decode cJ16_longValue 1 = .ok (.lstore_n 1, 1) := dk_64 (dk_at dksJ16_longValue_0 1 rfl rfl)
theorem dJ16_longValue_2 : decode cJ16_longValue 2 = .ok (.iconst 1, 1) := dk_4 (dk_at dksJ16_longValue_0 2 rfl rfl)
theorem dJ16_longValue_3 : decode cJ16_longValue 3 = .ok (.istore_n 3, 1) := dk_62 (dk_at dksJ16_longValue_0 3 rfl rfl)
theorem dJ16_longValue_4 : decode cJ16_longValue 4 = .ok (.iload_n 3, 1) := dk_29 (dk_at dksJ16_longValue_0 4 rfl rfl)
theorem dJ16_longValue_5 : decode cJ16_longValue 5 = .ok (.ifCond .lt 25, 3) := dk_155 0 25 (dk_at dksJ16_longValue_0 5 rfl rfl)
theorem dJ16_longValue_8 : decode cJ16_longValue 8 = .ok (.lload_n 1, 1) := dk_31 (dk_at dksJ16_longValue_0 8 rfl rfl)
theorem dJ16_longValue_9 : decode cJ16_longValue 9 = .ok (.bipush 32, 2) := dk_16 32 (dk_at dksJ16_longValue_0 9 rfl rfl)
theorem dJ16_longValue_11 : decode cJ16_longValue 11 = .ok (.lshl, 1) := dk_121 (dk_at dksJ16_longValue_0 11 rfl rfl)
theorem dJ16_longValue_12 : decode cJ16_longValue 12 = .ok (.aload_n 0, 1) := dk_42 (dk_at dksJ16_longValue_0 12 rfl rfl)
theorem dJ16_longValue_13 : decode cJ16_longValue 13 = .ok (.iload_n 3, 1) := dk_29 (dk_at dksJ16_longValue_0 13 rfl rfl)
theorem dJ16_longValue_14 : decode cJ16_longValue 14 = .ok (.invokevirtual 736, 3) := dk_182 2 224 (dk_at dksJ16_longValue_0 14 rfl rfl)
theorem dJ16_longValue_17 : decode cJ16_longValue 17 = .ok (.i2l, 1) := dk_133 (dk_at dksJ16_longValue_0 17 rfl rfl)
theorem dJ16_longValue_18 : decode cJ16_longValue 18 = .ok (.ldc2_w 130, 3) := dk_20 0 130 (dk_at dksJ16_longValue_0 18 rfl rfl)
theorem dJ16_longValue_21 : decode cJ16_longValue 21 = .ok (.land, 1) := dk_127 (dk_at dksJ16_longValue_0 21 rfl rfl)
theorem dJ16_longValue_22 : decode cJ16_longValue 22 = .ok (.ladd, 1) := dk_97 (dk_at dksJ16_longValue_0 22 rfl rfl)
theorem dJ16_longValue_23 : decode cJ16_longValue 23 = .ok (.lstore_n 1, 1) := dk_64 (dk_at dksJ16_longValue_0 23 rfl rfl)
theorem dJ16_longValue_24 : decode cJ16_longValue 24 = .ok (.iinc 3 (-1), 3) := dk_132 3 255 (dk_at dksJ16_longValue_1 0 rfl rfl)
theorem dJ16_longValue_27 : decode cJ16_longValue 27 = .ok (.goto (-23), 3) := dk_167 255 233 (dk_at dksJ16_longValue_1 3 rfl rfl)
theorem dJ16_longValue_30 : decode cJ16_longValue 30 = .ok (.lload_n 1, 1) := dk_31 (dk_at dksJ16_longValue_1 6 rfl rfl)
theorem dJ16_longValue_31 : decode cJ16_longValue 31 = .ok (.lreturn, 1) := dk_173 (dk_at dksJ16_longValue_1 7 rfl rfl)
abbrev cJ16_getInt : ByteArray := prog_32_method_148_code
def yJ16_getInt : MethodName := ⟨RJ16, "getInt", "(I)I"⟩
def dkwJ16_getInt_2 : List UInt8 := [182, 3, 95, 163, 0, 8, 28, 116, 167, 0, 6, 28, 2, 130, 172]
abbrev dktJ16_getInt_2 : List UInt8 := dkwJ16_getInt_2 ++ []
def dkwJ16_getInt_1 : List UInt8 := [42, 180, 0, 28, 190, 27, 100, 4, 100, 46, 61, 42, 180, 0, 32, 155, 0, 7, 28, 167, 0, 19, 27, 42]
abbrev dktJ16_getInt_1 : List UInt8 := dkwJ16_getInt_1 ++ dktJ16_getInt_2
def dkwJ16_getInt_0 : List UInt8 := [27, 156, 0, 5, 3, 172, 27, 42, 180, 0, 28, 190, 161, 0, 8, 42, 182, 3, 92, 172, 42, 180, 0, 28]
abbrev dktJ16_getInt_0 : List UInt8 := dkwJ16_getInt_0 ++ dktJ16_getInt_1
theorem dksJ16_getInt_0 : cJ16_getInt.data.toList.drop 0 = dktJ16_getInt_0 := by decide +kernel
theorem dksJ16_getInt_1 : cJ16_getInt.data.toList.drop 24 = dktJ16_getInt_1 := dk_seg dksJ16_getInt_0 24 rfl rfl
theorem dksJ16_getInt_2 : cJ16_getInt.data.toList.drop 48 = dktJ16_getInt_2 := dk_seg dksJ16_getInt_1 24 rfl rfl
theorem dJ16_getInt_0 : decode cJ16_getInt 0 = .ok (.iload_n 1, 1) := dk_27 (dk_at dksJ16_getInt_0 0 rfl rfl)
theorem dJ16_getInt_1 : decode cJ16_getInt 1 = .ok (.ifCond .ge 5, 3) := dk_156 0 5 (dk_at dksJ16_getInt_0 1 rfl rfl)
theorem dJ16_getInt_4 : decode cJ16_getInt 4 = .ok (.iconst 0, 1) := dk_3 (dk_at dksJ16_getInt_0 4 rfl rfl)
theorem dJ16_getInt_5 : decode cJ16_getInt 5 = .ok (.ireturn, 1) := dk_172 (dk_at dksJ16_getInt_0 5 rfl rfl)
theorem dJ16_getInt_6 : decode cJ16_getInt 6 = .ok (.iload_n 1, 1) := dk_27 (dk_at dksJ16_getInt_0 6 rfl rfl)
theorem dJ16_getInt_7 : decode cJ16_getInt 7 = .ok (.aload_n 0, 1) := dk_42 (dk_at dksJ16_getInt_0 7 rfl rfl)
theorem dJ16_getInt_8 : decode cJ16_getInt 8 = .ok (.getfield 28, 3) := dk_180 0 28 (dk_at dksJ16_getInt_0 8 rfl rfl)
theorem dJ16_getInt_11 : decode cJ16_getInt 11 = .ok (.arraylength, 1) := dk_190 (dk_at dksJ16_getInt_0 11 rfl rfl)
theorem dJ16_getInt_12 : decode cJ16_getInt 12 = .ok (.if_icmp .lt 8, 3) := dk_161 0 8 (dk_at dksJ16_getInt_0 12 rfl rfl)
theorem dJ16_getInt_15 : decode cJ16_getInt 15 = .ok (.aload_n 0, 1) := dk_42 (dk_at dksJ16_getInt_0 15 rfl rfl)
theorem dJ16_getInt_16 : decode cJ16_getInt 16 = .ok (.invokevirtual 860, 3) := dk_182 3 92 (dk_at dksJ16_getInt_0 16 rfl rfl)
theorem dJ16_getInt_19 : decode cJ16_getInt 19 = .ok (.ireturn, 1) := dk_172 (dk_at dksJ16_getInt_0 19 rfl rfl)
theorem dJ16_getInt_20 : decode cJ16_getInt 20 = .ok (.aload_n 0, 1) := dk_42 (dk_at dksJ16_getInt_0 20 rfl rfl)
theorem dJ16_getInt_21 : decode cJ16_getInt 21 = .ok (.getfield 28, 3) := dk_180 0 28 (dk_at dksJ16_getInt_0 21 rfl rfl)
theorem dJ16_getInt_24 : decode cJ16_getInt 24 = .ok (.aload_n 0, 1) := dk_42 (dk_at dksJ16_getInt_1 0 rfl rfl)
theorem dJ16_getInt_25 : decode cJ16_getInt 25 = .ok (.getfield 28, 3) := dk_180 0 28 (dk_at dksJ16_getInt_1 1 rfl rfl)
theorem dJ16_getInt_28 : decode cJ16_getInt 28 = .ok (.arraylength, 1) := dk_190 (dk_at dksJ16_getInt_1 4 rfl rfl)
theorem dJ16_getInt_29 : decode cJ16_getInt 29 = .ok (.iload_n 1, 1) := dk_27 (dk_at dksJ16_getInt_1 5 rfl rfl)
theorem dJ16_getInt_30 : decode cJ16_getInt 30 = .ok (.isub, 1) := dk_100 (dk_at dksJ16_getInt_1 6 rfl rfl)
theorem dJ16_getInt_31 : decode cJ16_getInt 31 = .ok (.iconst 1, 1) := dk_4 (dk_at dksJ16_getInt_1 7 rfl rfl)
theorem dJ16_getInt_32 : decode cJ16_getInt 32 = .ok (.isub, 1) := dk_100 (dk_at dksJ16_getInt_1 8 rfl rfl)
theorem dJ16_getInt_33 : decode cJ16_getInt 33 = .ok (.iaload, 1) := dk_46 (dk_at dksJ16_getInt_1 9 rfl rfl)
theorem dJ16_getInt_34 : decode cJ16_getInt 34 = .ok (.istore_n 2, 1) := dk_61 (dk_at dksJ16_getInt_1 10 rfl rfl)
theorem dJ16_getInt_35 : decode cJ16_getInt 35 = .ok (.aload_n 0, 1) := dk_42 (dk_at dksJ16_getInt_1 11 rfl rfl)
theorem dJ16_getInt_36 : decode cJ16_getInt 36 = .ok (.getfield 32, 3) := dk_180 0 32 (dk_at dksJ16_getInt_1 12 rfl rfl)
theorem dJ16_getInt_39 : decode cJ16_getInt 39 = .ok (.ifCond .lt 7, 3) := dk_155 0 7 (dk_at dksJ16_getInt_1 15 rfl rfl)
theorem dJ16_getInt_42 : decode cJ16_getInt 42 = .ok (.iload_n 2, 1) := dk_28 (dk_at dksJ16_getInt_1 18 rfl rfl)
theorem dJ16_getInt_43 : decode cJ16_getInt 43 = .ok (.goto 19, 3) := dk_167 0 19 (dk_at dksJ16_getInt_1 19 rfl rfl)
theorem dJ16_getInt_46 : decode cJ16_getInt 46 = .ok (.iload_n 1, 1) := dk_27 (dk_at dksJ16_getInt_1 22 rfl rfl)
theorem dJ16_getInt_47 : decode cJ16_getInt 47 = .ok (.aload_n 0, 1) := dk_42 (dk_at dksJ16_getInt_1 23 rfl rfl)
theorem dJ16_getInt_48 : decode cJ16_getInt 48 = .ok (.invokevirtual 863, 3) := dk_182 3 95 (dk_at dksJ16_getInt_2 0 rfl rfl)
theorem dJ16_getInt_51 : decode cJ16_getInt 51 = .ok (.if_icmp .gt 8, 3) := dk_163 0 8 (dk_at dksJ16_getInt_2 3 rfl rfl)
theorem dJ16_getInt_54 : decode cJ16_getInt 54 = .ok (.iload_n 2, 1) := dk_28 (dk_at dksJ16_getInt_2 6 rfl rfl)
theorem dJ16_getInt_55 : decode cJ16_getInt 55 = .ok (.ineg, 1) := dk_116 (dk_at dksJ16_getInt_2 7 rfl rfl)
theorem dJ16_getInt_56 : decode cJ16_getInt 56 = .ok (.goto 6, 3) := dk_167 0 6 (dk_at dksJ16_getInt_2 8 rfl rfl)
theorem dJ16_getInt_59 : decode cJ16_getInt 59 = .ok (.iload_n 2, 1) := dk_28 (dk_at dksJ16_getInt_2 11 rfl rfl)
theorem dJ16_getInt_60 : decode cJ16_getInt 60 = .ok (.iconst (-1), 1) := dk_2 (dk_at dksJ16_getInt_2 12 rfl rfl)
theorem dJ16_getInt_61 : decode cJ16_getInt 61 = .ok (.ixor, 1) := dk_130 (dk_at dksJ16_getInt_2 13 rfl rfl)
theorem dJ16_getInt_62 : decode cJ16_getInt 62 = .ok (.ireturn, 1) := dk_172 (dk_at dksJ16_getInt_2 14 rfl rfl)
abbrev cJ16_signInt : ByteArray := prog_32_method_147_code
def yJ16_signInt : MethodName := ⟨RJ16, "signInt", "()I"⟩
def dkwJ16_signInt_0 : List UInt8 := [42, 180, 0, 32, 156, 0, 7, 2, 167, 0, 4, 3, 172]
abbrev dktJ16_signInt_0 : List UInt8 := dkwJ16_signInt_0 ++ []
theorem dksJ16_signInt_0 : cJ16_signInt.data.toList.drop 0 = dktJ16_signInt_0 := by decide +kernel
theorem dJ16_signInt_0 : decode cJ16_signInt 0 = .ok (.aload_n 0, 1) := dk_42 (dk_at dksJ16_signInt_0 0 rfl rfl)
theorem dJ16_signInt_1 : decode cJ16_signInt 1 = .ok (.getfield 32, 3) := dk_180 0 32 (dk_at dksJ16_signInt_0 1 rfl rfl)
theorem dJ16_signInt_4 : decode cJ16_signInt 4 = .ok (.ifCond .ge 7, 3) := dk_156 0 7 (dk_at dksJ16_signInt_0 4 rfl rfl)
theorem dJ16_signInt_7 : decode cJ16_signInt 7 = .ok (.iconst (-1), 1) := dk_2 (dk_at dksJ16_signInt_0 7 rfl rfl)
theorem dJ16_signInt_8 : decode cJ16_signInt 8 = .ok (.goto 4, 3) := dk_167 0 4 (dk_at dksJ16_signInt_0 8 rfl rfl)
theorem dJ16_signInt_11 : decode cJ16_signInt 11 = .ok (.iconst 0, 1) := dk_3 (dk_at dksJ16_signInt_0 11 rfl rfl)
theorem dJ16_signInt_12 : decode cJ16_signInt 12 = .ok (.ireturn, 1) := dk_172 (dk_at dksJ16_signInt_0 12 rfl rfl)
abbrev cJ16_firstNonzeroIntNum : ByteArray := prog_32_method_149_code
def yJ16_firstNonzeroIntNum : MethodName := ⟨RJ16, "firstNonzeroIntNum", "()I"⟩
def dkwJ16_firstNonzeroIntNum_2 : List UInt8 := [42, 27, 5, 96, 181, 3, 98, 27, 172]
abbrev dktJ16_firstNonzeroIntNum_2 : List UInt8 := dkwJ16_firstNonzeroIntNum_2 ++ []
def dkwJ16_firstNonzeroIntNum_1 : List UInt8 := [155, 0, 18, 42, 180, 0, 28, 28, 46, 154, 0, 9, 132, 2, 255, 167, 255, 240, 29, 28, 100, 4, 100, 60]
abbrev dktJ16_firstNonzeroIntNum_1 : List UInt8 := dkwJ16_firstNonzeroIntNum_1 ++ dktJ16_firstNonzeroIntNum_2
def dkwJ16_firstNonzeroIntNum_0 : List UInt8 := [42, 180, 3, 98, 5, 100, 60, 27, 16, 254, 160, 0, 45, 42, 180, 0, 28, 190, 62, 29, 4, 100, 61, 28]
abbrev dktJ16_firstNonzeroIntNum_0 : List UInt8 := dkwJ16_firstNonzeroIntNum_0 ++ dktJ16_firstNonzeroIntNum_1
theorem dksJ16_firstNonzeroIntNum_0 : cJ16_firstNonzeroIntNum.data.toList.drop 0 = dktJ16_firstNonzeroIntNum_0 := by decide +kernel
theorem dksJ16_firstNonzeroIntNum_1 : cJ16_firstNonzeroIntNum.data.toList.drop 24 = dktJ16_firstNonzeroIntNum_1 := dk_seg dksJ16_firstNonzeroIntNum_0 24 rfl rfl
theorem dksJ16_firstNonzeroIntNum_2 : cJ16_firstNonzeroIntNum.data.toList.drop 48 = dktJ16_firstNonzeroIntNum_2 := dk_seg dksJ16_firstNonzeroIntNum_1 24 rfl rfl
theorem dJ16_firstNonzeroIntNum_0 : decode cJ16_firstNonzeroIntNum 0 = .ok (.aload_n 0, 1) := dk_42 (dk_at dksJ16_firstNonzeroIntNum_0 0 rfl rfl)
theorem dJ16_firstNonzeroIntNum_1 : decode cJ16_firstNonzeroIntNum 1 = .ok (.getfield 866, 3) := dk_180 3 98 (dk_at dksJ16_firstNonzeroIntNum_0 1 rfl rfl)
theorem dJ16_firstNonzeroIntNum_4 : decode cJ16_firstNonzeroIntNum 4 = .ok (.iconst 2, 1) := dk_5 (dk_at dksJ16_firstNonzeroIntNum_0 4 rfl rfl)
theorem dJ16_firstNonzeroIntNum_5 : decode cJ16_firstNonzeroIntNum 5 = .ok (.isub, 1) := dk_100 (dk_at dksJ16_firstNonzeroIntNum_0 5 rfl rfl)
theorem dJ16_firstNonzeroIntNum_6 : decode cJ16_firstNonzeroIntNum 6 = .ok (.istore_n 1, 1) := dk_60 (dk_at dksJ16_firstNonzeroIntNum_0 6 rfl rfl)
theorem dJ16_firstNonzeroIntNum_7 : decode cJ16_firstNonzeroIntNum 7 = .ok (.iload_n 1, 1) := dk_27 (dk_at dksJ16_firstNonzeroIntNum_0 7 rfl rfl)
theorem dJ16_firstNonzeroIntNum_8 : decode cJ16_firstNonzeroIntNum 8 = .ok (.bipush (-2), 2) := dk_16 254 (dk_at dksJ16_firstNonzeroIntNum_0 8 rfl rfl)
theorem dJ16_firstNonzeroIntNum_10 : decode cJ16_firstNonzeroIntNum 10 = .ok (.if_icmp .ne 45, 3) := dk_160 0 45 (dk_at dksJ16_firstNonzeroIntNum_0 10 rfl rfl)
theorem dJ16_firstNonzeroIntNum_13 : decode cJ16_firstNonzeroIntNum 13 = .ok (.aload_n 0, 1) := dk_42 (dk_at dksJ16_firstNonzeroIntNum_0 13 rfl rfl)
theorem dJ16_firstNonzeroIntNum_14 : decode cJ16_firstNonzeroIntNum 14 = .ok (.getfield 28, 3) := dk_180 0 28 (dk_at dksJ16_firstNonzeroIntNum_0 14 rfl rfl)
theorem dJ16_firstNonzeroIntNum_17 : decode cJ16_firstNonzeroIntNum 17 = .ok (.arraylength, 1) := dk_190 (dk_at dksJ16_firstNonzeroIntNum_0 17 rfl rfl)
theorem dJ16_firstNonzeroIntNum_18 : decode cJ16_firstNonzeroIntNum 18 = .ok (.istore_n 3, 1) := dk_62 (dk_at dksJ16_firstNonzeroIntNum_0 18 rfl rfl)
theorem dJ16_firstNonzeroIntNum_19 : decode cJ16_firstNonzeroIntNum 19 = .ok (.iload_n 3, 1) := dk_29 (dk_at dksJ16_firstNonzeroIntNum_0 19 rfl rfl)
theorem dJ16_firstNonzeroIntNum_20 : decode cJ16_firstNonzeroIntNum 20 = .ok (.iconst 1, 1) := dk_4 (dk_at dksJ16_firstNonzeroIntNum_0 20 rfl rfl)
theorem dJ16_firstNonzeroIntNum_21 : decode cJ16_firstNonzeroIntNum 21 = .ok (.isub, 1) := dk_100 (dk_at dksJ16_firstNonzeroIntNum_0 21 rfl rfl)
theorem dJ16_firstNonzeroIntNum_22 : decode cJ16_firstNonzeroIntNum 22 = .ok (.istore_n 2, 1) := dk_61 (dk_at dksJ16_firstNonzeroIntNum_0 22 rfl rfl)
theorem dJ16_firstNonzeroIntNum_23 : decode cJ16_firstNonzeroIntNum 23 = .ok (.iload_n 2, 1) := dk_28 (dk_at dksJ16_firstNonzeroIntNum_0 23 rfl rfl)
theorem dJ16_firstNonzeroIntNum_24 : decode cJ16_firstNonzeroIntNum 24 = .ok (.ifCond .lt 18, 3) := dk_155 0 18 (dk_at dksJ16_firstNonzeroIntNum_1 0 rfl rfl)
theorem dJ16_firstNonzeroIntNum_27 : decode cJ16_firstNonzeroIntNum 27 = .ok (.aload_n 0, 1) := dk_42 (dk_at dksJ16_firstNonzeroIntNum_1 3 rfl rfl)
theorem dJ16_firstNonzeroIntNum_28 : decode cJ16_firstNonzeroIntNum 28 = .ok (.getfield 28, 3) := dk_180 0 28 (dk_at dksJ16_firstNonzeroIntNum_1 4 rfl rfl)
theorem dJ16_firstNonzeroIntNum_31 : decode cJ16_firstNonzeroIntNum 31 = .ok (.iload_n 2, 1) := dk_28 (dk_at dksJ16_firstNonzeroIntNum_1 7 rfl rfl)
theorem dJ16_firstNonzeroIntNum_32 : decode cJ16_firstNonzeroIntNum 32 = .ok (.iaload, 1) := dk_46 (dk_at dksJ16_firstNonzeroIntNum_1 8 rfl rfl)
theorem dJ16_firstNonzeroIntNum_33 : decode cJ16_firstNonzeroIntNum 33 = .ok (.ifCond .ne 9, 3) := dk_154 0 9 (dk_at dksJ16_firstNonzeroIntNum_1 9 rfl rfl)
theorem dJ16_firstNonzeroIntNum_36 : decode cJ16_firstNonzeroIntNum 36 = .ok (.iinc 2 (-1), 3) := dk_132 2 255 (dk_at dksJ16_firstNonzeroIntNum_1 12 rfl rfl)
theorem dJ16_firstNonzeroIntNum_39 : decode cJ16_firstNonzeroIntNum 39 = .ok (.goto (-16), 3) := dk_167 255 240 (dk_at dksJ16_firstNonzeroIntNum_1 15 rfl rfl)
theorem dJ16_firstNonzeroIntNum_42 : decode cJ16_firstNonzeroIntNum 42 = .ok (.iload_n 3, 1) := dk_29 (dk_at dksJ16_firstNonzeroIntNum_1 18 rfl rfl)
theorem dJ16_firstNonzeroIntNum_43 : decode cJ16_firstNonzeroIntNum 43 = .ok (.iload_n 2, 1) := dk_28 (dk_at dksJ16_firstNonzeroIntNum_1 19 rfl rfl)
theorem dJ16_firstNonzeroIntNum_44 : decode cJ16_firstNonzeroIntNum 44 = .ok (.isub, 1) := dk_100 (dk_at dksJ16_firstNonzeroIntNum_1 20 rfl rfl)
theorem dJ16_firstNonzeroIntNum_45 : decode cJ16_firstNonzeroIntNum 45 = .ok (.iconst 1, 1) := dk_4 (dk_at dksJ16_firstNonzeroIntNum_1 21 rfl rfl)
theorem dJ16_firstNonzeroIntNum_46 : decode cJ16_firstNonzeroIntNum 46 = .ok (.isub, 1) := dk_100 (dk_at dksJ16_firstNonzeroIntNum_1 22 rfl rfl)
theorem dJ16_firstNonzeroIntNum_47 : decode cJ16_firstNonzeroIntNum 47 = .ok (.istore_n 1, 1) := dk_60 (dk_at dksJ16_firstNonzeroIntNum_1 23 rfl rfl)
theorem dJ16_firstNonzeroIntNum_48 : decode cJ16_firstNonzeroIntNum 48 = .ok (.aload_n 0, 1) := dk_42 (dk_at dksJ16_firstNonzeroIntNum_2 0 rfl rfl)
theorem dJ16_firstNonzeroIntNum_49 : decode cJ16_firstNonzeroIntNum 49 = .ok (.iload_n 1, 1) := dk_27 (dk_at dksJ16_firstNonzeroIntNum_2 1 rfl rfl)
theorem dJ16_firstNonzeroIntNum_50 : decode cJ16_firstNonzeroIntNum 50 = .ok (.iconst 2, 1) := dk_5 (dk_at dksJ16_firstNonzeroIntNum_2 2 rfl rfl)
theorem dJ16_firstNonzeroIntNum_51 : decode cJ16_firstNonzeroIntNum 51 = .ok (.iadd, 1) := dk_96 (dk_at dksJ16_firstNonzeroIntNum_2 3 rfl rfl)
theorem dJ16_firstNonzeroIntNum_52 : decode cJ16_firstNonzeroIntNum 52 = .ok (.putfield 866, 3) := dk_181 3 98 (dk_at dksJ16_firstNonzeroIntNum_2 4 rfl rfl)
theorem dJ16_firstNonzeroIntNum_55 : decode cJ16_firstNonzeroIntNum 55 = .ok (.iload_n 1, 1) := dk_27 (dk_at dksJ16_firstNonzeroIntNum_2 7 rfl rfl)
theorem dJ16_firstNonzeroIntNum_56 : decode cJ16_firstNonzeroIntNum 56 = .ok (.ireturn, 1) := dk_172 (dk_at dksJ16_firstNonzeroIntNum_2 8 rfl rfl)
abbrev cJ16_abs : ByteArray := prog_32_method_79_code
def yJ16_abs : MethodName := ⟨RJ16, "abs", "()Ljava/math/BigInteger;"⟩
def dkwJ16_abs_0 : List UInt8 := [42, 180, 0, 32, 155, 0, 7, 42, 167, 0, 7, 42, 182, 1, 138, 176]
abbrev dktJ16_abs_0 : List UInt8 := dkwJ16_abs_0 ++ []
theorem dksJ16_abs_0 : cJ16_abs.data.toList.drop 0 = dktJ16_abs_0 := by decide +kernel
theorem dJ16_abs_0 : decode cJ16_abs 0 = .ok (.aload_n 0, 1) := dk_42 (dk_at dksJ16_abs_0 0 rfl rfl)
theorem dJ16_abs_1 : decode cJ16_abs 1 = .ok (.getfield 32, 3) := dk_180 0 32 (dk_at dksJ16_abs_0 1 rfl rfl)
theorem dJ16_abs_4 : decode cJ16_abs 4 = .ok (.ifCond .lt 7, 3) := dk_155 0 7 (dk_at dksJ16_abs_0 4 rfl rfl)
theorem dJ16_abs_7 : decode cJ16_abs 7 = .ok (.aload_n 0, 1) := dk_42 (dk_at dksJ16_abs_0 7 rfl rfl)
theorem dJ16_abs_8 : decode cJ16_abs 8 = .ok (.goto 7, 3) := dk_167 0 7 (dk_at dksJ16_abs_0 8 rfl rfl)
theorem dJ16_abs_11 : decode cJ16_abs 11 = .ok (.aload_n 0, 1) := dk_42 (dk_at dksJ16_abs_0 11 rfl rfl)
theorem dJ16_abs_12 : decode cJ16_abs 12 = .ok (.invokevirtual 394, 3) := dk_182 1 138 (dk_at dksJ16_abs_0 12 rfl rfl)
theorem dJ16_abs_15 : decode cJ16_abs 15 = .ok (.areturn, 1) := dk_176 (dk_at dksJ16_abs_0 15 rfl rfl)
abbrev cJ16_negate : ByteArray := prog_32_method_80_code
def yJ16_negate : MethodName := ⟨RJ16, "negate", "()Ljava/math/BigInteger;"⟩
def dkwJ16_negate_0 : List UInt8 := [187, 0, 23, 89, 42, 180, 0, 28, 42, 180, 0, 32, 116, 183, 0, 175, 176]
abbrev dktJ16_negate_0 : List UInt8 := dkwJ16_negate_0 ++ []
theorem dksJ16_negate_0 : cJ16_negate.data.toList.drop 0 = dktJ16_negate_0 := by decide +kernel
theorem dJ16_negate_0 : decode cJ16_negate 0 = .ok (.new 23, 3) := dk_187 0 23 (dk_at dksJ16_negate_0 0 rfl rfl)
theorem dJ16_negate_3 : decode cJ16_negate 3 = .ok (.dup, 1) := dk_89 (dk_at dksJ16_negate_0 3 rfl rfl)
theorem dJ16_negate_4 : decode cJ16_negate 4 = .ok (.aload_n 0, 1) := dk_42 (dk_at dksJ16_negate_0 4 rfl rfl)
theorem dJ16_negate_5 : decode cJ16_negate 5 = .ok (.getfield 28, 3) := dk_180 0 28 (dk_at dksJ16_negate_0 5 rfl rfl)
theorem dJ16_negate_8 : decode cJ16_negate 8 = .ok (.aload_n 0, 1) := dk_42 (dk_at dksJ16_negate_0 8 rfl rfl)
theorem dJ16_negate_9 : decode cJ16_negate 9 = .ok (.getfield 32, 3) := dk_180 0 32 (dk_at dksJ16_negate_0 9 rfl rfl)
theorem dJ16_negate_12 : decode cJ16_negate 12 = .ok (.ineg, 1) := dk_116 (dk_at dksJ16_negate_0 12 rfl rfl)
theorem dJ16_negate_13 : decode cJ16_negate 13 = .ok (.invokespecial 175, 3) := dk_183 0 175 (dk_at dksJ16_negate_0 13 rfl rfl)
theorem dJ16_negate_16 : decode cJ16_negate 16 = .ok (.areturn, 1) := dk_176 (dk_at dksJ16_negate_0 16 rfl rfl)
abbrev cJ16_init_2 : ByteArray := prog_32_method_25_code
def yJ16_init_2 : MethodName := ⟨RJ16, "<init>", "([II)V"⟩
def dkwJ16_init_2_1 : List UInt8 := [180, 0, 28, 190, 18, 43, 161, 0, 7, 42, 182, 0, 44, 177]
abbrev dktJ16_init_2_1 : List UInt8 := dkwJ16_init_2_1 ++ []
def dkwJ16_init_2_0 : List UInt8 := [42, 183, 0, 3, 42, 43, 190, 154, 0, 7, 3, 167, 0, 4, 28, 181, 0, 32, 42, 43, 181, 0, 28, 42]
abbrev dktJ16_init_2_0 : List UInt8 := dkwJ16_init_2_0 ++ dktJ16_init_2_1
theorem dksJ16_init_2_0 : cJ16_init_2.data.toList.drop 0 = dktJ16_init_2_0 := by decide +kernel
theorem dksJ16_init_2_1 : cJ16_init_2.data.toList.drop 24 = dktJ16_init_2_1 := dk_seg dksJ16_init_2_0 24 rfl rfl
theorem dJ16_init_2_0 : decode cJ16_init_2 0 = .ok (.aload_n 0, 1) := dk_42 (dk_at dksJ16_init_2_0 0 rfl rfl)
theorem dJ16_init_2_1 : decode cJ16_init_2 1 = .ok (.invokespecial 3, 3) := dk_183 0 3 (dk_at dksJ16_init_2_0 1 rfl rfl)
theorem dJ16_init_2_4 : decode cJ16_init_2 4 = .ok (.aload_n 0, 1) := dk_42 (dk_at dksJ16_init_2_0 4 rfl rfl)
theorem dJ16_init_2_5 : decode cJ16_init_2 5 = .ok (.aload_n 1, 1) := dk_43 (dk_at dksJ16_init_2_0 5 rfl rfl)
theorem dJ16_init_2_6 : decode cJ16_init_2 6 = .ok (.arraylength, 1) := dk_190 (dk_at dksJ16_init_2_0 6 rfl rfl)
theorem dJ16_init_2_7 : decode cJ16_init_2 7 = .ok (.ifCond .ne 7, 3) := dk_154 0 7 (dk_at dksJ16_init_2_0 7 rfl rfl)
theorem dJ16_init_2_10 : decode cJ16_init_2 10 = .ok (.iconst 0, 1) := dk_3 (dk_at dksJ16_init_2_0 10 rfl rfl)
theorem dJ16_init_2_11 : decode cJ16_init_2 11 = .ok (.goto 4, 3) := dk_167 0 4 (dk_at dksJ16_init_2_0 11 rfl rfl)
theorem dJ16_init_2_14 : decode cJ16_init_2 14 = .ok (.iload_n 2, 1) := dk_28 (dk_at dksJ16_init_2_0 14 rfl rfl)
theorem dJ16_init_2_15 : decode cJ16_init_2 15 = .ok (.putfield 32, 3) := dk_181 0 32 (dk_at dksJ16_init_2_0 15 rfl rfl)
theorem dJ16_init_2_18 : decode cJ16_init_2 18 = .ok (.aload_n 0, 1) := dk_42 (dk_at dksJ16_init_2_0 18 rfl rfl)
theorem dJ16_init_2_19 : decode cJ16_init_2 19 = .ok (.aload_n 1, 1) := dk_43 (dk_at dksJ16_init_2_0 19 rfl rfl)
theorem dJ16_init_2_20 : decode cJ16_init_2 20 = .ok (.putfield 28, 3) := dk_181 0 28 (dk_at dksJ16_init_2_0 20 rfl rfl)
theorem dJ16_init_2_23 : decode cJ16_init_2 23 = .ok (.aload_n 0, 1) := dk_42 (dk_at dksJ16_init_2_0 23 rfl rfl)
theorem dJ16_init_2_24 : decode cJ16_init_2 24 = .ok (.getfield 28, 3) := dk_180 0 28 (dk_at dksJ16_init_2_1 0 rfl rfl)
theorem dJ16_init_2_27 : decode cJ16_init_2 27 = .ok (.arraylength, 1) := dk_190 (dk_at dksJ16_init_2_1 3 rfl rfl)
theorem dJ16_init_2_28 : decode cJ16_init_2 28 = .ok (.ldc 43, 2) := dk_18 43 (dk_at dksJ16_init_2_1 4 rfl rfl)
theorem dJ16_init_2_30 : decode cJ16_init_2 30 = .ok (.if_icmp .lt 7, 3) := dk_161 0 7 (dk_at dksJ16_init_2_1 6 rfl rfl)
theorem dJ16_init_2_33 : decode cJ16_init_2 33 = .ok (.aload_n 0, 1) := dk_42 (dk_at dksJ16_init_2_1 9 rfl rfl)
theorem dJ16_init_2_34 : decode cJ16_init_2 34 = .ok (.invokevirtual 44, 3) := dk_182 0 44 (dk_at dksJ16_init_2_1 10 rfl rfl)
theorem dJ16_init_2_37 : decode cJ16_init_2 37 = .ok (.return_, 1) := dk_177 (dk_at dksJ16_init_2_1 13 rfl rfl)
abbrev cJ16_checkRange : ByteArray := prog_32_method_27_code
def yJ16_checkRange : MethodName := ⟨RJ16, "checkRange", "()V"⟩
def dkwJ16_checkRange_1 : List UInt8 := [3, 46, 156, 0, 6, 184, 0, 101, 177]
abbrev dktJ16_checkRange_1 : List UInt8 := dkwJ16_checkRange_1 ++ []
def dkwJ16_checkRange_0 : List UInt8 := [42, 180, 0, 28, 190, 18, 43, 163, 0, 22, 42, 180, 0, 28, 190, 18, 43, 160, 0, 15, 42, 180, 0, 28]
abbrev dktJ16_checkRange_0 : List UInt8 := dkwJ16_checkRange_0 ++ dktJ16_checkRange_1
theorem dksJ16_checkRange_0 : cJ16_checkRange.data.toList.drop 0 = dktJ16_checkRange_0 := by decide +kernel
theorem dksJ16_checkRange_1 : cJ16_checkRange.data.toList.drop 24 = dktJ16_checkRange_1 := dk_seg dksJ16_checkRange_0 24 rfl rfl
theorem dJ16_checkRange_0 : decode cJ16_checkRange 0 = .ok (.aload_n 0, 1) := dk_42 (dk_at dksJ16_checkRange_0 0 rfl rfl)
theorem dJ16_checkRange_1 : decode cJ16_checkRange 1 = .ok (.getfield 28, 3) := dk_180 0 28 (dk_at dksJ16_checkRange_0 1 rfl rfl)
theorem dJ16_checkRange_4 : decode cJ16_checkRange 4 = .ok (.arraylength, 1) := dk_190 (dk_at dksJ16_checkRange_0 4 rfl rfl)
theorem dJ16_checkRange_5 : decode cJ16_checkRange 5 = .ok (.ldc 43, 2) := dk_18 43 (dk_at dksJ16_checkRange_0 5 rfl rfl)
theorem dJ16_checkRange_7 : decode cJ16_checkRange 7 = .ok (.if_icmp .gt 22, 3) := dk_163 0 22 (dk_at dksJ16_checkRange_0 7 rfl rfl)
theorem dJ16_checkRange_10 : decode cJ16_checkRange 10 = .ok (.aload_n 0, 1) := dk_42 (dk_at dksJ16_checkRange_0 10 rfl rfl)
theorem dJ16_checkRange_11 : decode cJ16_checkRange 11 = .ok (.getfield 28, 3) := dk_180 0 28 (dk_at dksJ16_checkRange_0 11 rfl rfl)
theorem dJ16_checkRange_14 : decode cJ16_checkRange 14 = .ok (.arraylength, 1) := dk_190 (dk_at dksJ16_checkRange_0 14 rfl rfl)
theorem dJ16_checkRange_15 : decode cJ16_checkRange 15 = .ok (.ldc 43, 2) := dk_18 43 (dk_at dksJ16_checkRange_0 15 rfl rfl)
theorem dJ16_checkRange_17 : decode cJ16_checkRange 17 = .ok (.if_icmp .ne 15, 3) := dk_160 0 15 (dk_at dksJ16_checkRange_0 17 rfl rfl)
theorem dJ16_checkRange_20 : decode cJ16_checkRange 20 = .ok (.aload_n 0, 1) := dk_42 (dk_at dksJ16_checkRange_0 20 rfl rfl)
theorem dJ16_checkRange_21 : decode cJ16_checkRange 21 = .ok (.getfield 28, 3) := dk_180 0 28 (dk_at dksJ16_checkRange_0 21 rfl rfl)
theorem dJ16_checkRange_24 : decode cJ16_checkRange 24 = .ok (.iconst 0, 1) := dk_3 (dk_at dksJ16_checkRange_1 0 rfl rfl)
theorem dJ16_checkRange_25 : decode cJ16_checkRange 25 = .ok (.iaload, 1) := dk_46 (dk_at dksJ16_checkRange_1 1 rfl rfl)
theorem dJ16_checkRange_26 : decode cJ16_checkRange 26 = .ok (.ifCond .ge 6, 3) := dk_156 0 6 (dk_at dksJ16_checkRange_1 2 rfl rfl)
theorem dJ16_checkRange_29 : decode cJ16_checkRange 29 = .ok (.invokestatic 101, 3) := dk_184 0 101 (dk_at dksJ16_checkRange_1 5 rfl rfl)
theorem dJ16_checkRange_32 : decode cJ16_checkRange 32 = .ok (.return_, 1) := dk_177 (dk_at dksJ16_checkRange_1 8 rfl rfl)
abbrev cJ16_compareTo : ByteArray := prog_32_method_121_code
def yJ16_compareTo : MethodName := ⟨RJ16, "compareTo", "(Ljava/math/BigInteger;)I"⟩
def dkwJ16_compareTo_3 : List UInt8 := [180, 0, 32, 164, 0, 7, 4, 167, 0, 4, 2, 172]
abbrev dktJ16_compareTo_3 : List UInt8 := dkwJ16_compareTo_3 ++ []
def dkwJ16_compareTo_2 : List UInt8 := [42, 43, 182, 1, 109, 167, 0, 12, 43, 42, 182, 1, 109, 167, 0, 4, 3, 172, 42, 180, 0, 32, 43]
abbrev dktJ16_compareTo_2 : List UInt8 := dkwJ16_compareTo_2 ++ dktJ16_compareTo_3
def dkwJ16_compareTo_1 : List UInt8 := [171, 0, 0, 0, 41, 0, 0, 0, 2, 255, 255, 255, 255, 0, 0, 0, 33, 0, 0, 0, 1, 0, 0, 0, 25]
abbrev dktJ16_compareTo_1 : List UInt8 := dkwJ16_compareTo_1 ++ dktJ16_compareTo_2
def dkwJ16_compareTo_0 : List UInt8 := [42, 180, 0, 32, 43, 180, 0, 32, 160, 0, 50, 42, 180, 0, 32]
abbrev dktJ16_compareTo_0 : List UInt8 := dkwJ16_compareTo_0 ++ dktJ16_compareTo_1
theorem dksJ16_compareTo_0 : cJ16_compareTo.data.toList.drop 0 = dktJ16_compareTo_0 := by decide +kernel
theorem dksJ16_compareTo_1 : cJ16_compareTo.data.toList.drop 15 = dktJ16_compareTo_1 := dk_seg dksJ16_compareTo_0 15 rfl rfl
theorem dksJ16_compareTo_2 : cJ16_compareTo.data.toList.drop 40 = dktJ16_compareTo_2 := dk_seg dksJ16_compareTo_1 25 rfl rfl
theorem dksJ16_compareTo_3 : cJ16_compareTo.data.toList.drop 63 = dktJ16_compareTo_3 := dk_seg dksJ16_compareTo_2 23 rfl rfl
theorem dJ16_compareTo_0 : decode cJ16_compareTo 0 = .ok (.aload_n 0, 1) := dk_42 (dk_at dksJ16_compareTo_0 0 rfl rfl)
theorem dJ16_compareTo_1 : decode cJ16_compareTo 1 = .ok (.getfield 32, 3) := dk_180 0 32 (dk_at dksJ16_compareTo_0 1 rfl rfl)
theorem dJ16_compareTo_4 : decode cJ16_compareTo 4 = .ok (.aload_n 1, 1) := dk_43 (dk_at dksJ16_compareTo_0 4 rfl rfl)
theorem dJ16_compareTo_5 : decode cJ16_compareTo 5 = .ok (.getfield 32, 3) := dk_180 0 32 (dk_at dksJ16_compareTo_0 5 rfl rfl)
theorem dJ16_compareTo_8 : decode cJ16_compareTo 8 = .ok (.if_icmp .ne 50, 3) := dk_160 0 50 (dk_at dksJ16_compareTo_0 8 rfl rfl)
theorem dJ16_compareTo_11 : decode cJ16_compareTo 11 = .ok (.aload_n 0, 1) := dk_42 (dk_at dksJ16_compareTo_0 11 rfl rfl)
theorem dJ16_compareTo_12 : decode cJ16_compareTo 12 = .ok (.getfield 32, 3) := dk_180 0 32 (dk_at dksJ16_compareTo_0 12 rfl rfl)
theorem dJ16_compareTo_15 : decode cJ16_compareTo 15 = .ok (.lookupswitch 41 #[(-1, 33), (1, 25)], 25) := by decide +kernel
theorem dJ16_compareTo_40 : decode cJ16_compareTo 40 = .ok (.aload_n 0, 1) := dk_42 (dk_at dksJ16_compareTo_2 0 rfl rfl)
theorem dJ16_compareTo_41 : decode cJ16_compareTo 41 = .ok (.aload_n 1, 1) := dk_43 (dk_at dksJ16_compareTo_2 1 rfl rfl)
theorem dJ16_compareTo_42 : decode cJ16_compareTo 42 = .ok (.invokevirtual 365, 3) := dk_182 1 109 (dk_at dksJ16_compareTo_2 2 rfl rfl)
theorem dJ16_compareTo_45 : decode cJ16_compareTo 45 = .ok (.goto 12, 3) := dk_167 0 12 (dk_at dksJ16_compareTo_2 5 rfl rfl)
theorem dJ16_compareTo_48 : decode cJ16_compareTo 48 = .ok (.aload_n 1, 1) := dk_43 (dk_at dksJ16_compareTo_2 8 rfl rfl)
theorem dJ16_compareTo_49 : decode cJ16_compareTo 49 = .ok (.aload_n 0, 1) := dk_42 (dk_at dksJ16_compareTo_2 9 rfl rfl)
theorem dJ16_compareTo_50 : decode cJ16_compareTo 50 = .ok (.invokevirtual 365, 3) := dk_182 1 109 (dk_at dksJ16_compareTo_2 10 rfl rfl)
theorem dJ16_compareTo_53 : decode cJ16_compareTo 53 = .ok (.goto 4, 3) := dk_167 0 4 (dk_at dksJ16_compareTo_2 13 rfl rfl)
theorem dJ16_compareTo_56 : decode cJ16_compareTo 56 = .ok (.iconst 0, 1) := dk_3 (dk_at dksJ16_compareTo_2 16 rfl rfl)
theorem dJ16_compareTo_57 : decode cJ16_compareTo 57 = .ok (.ireturn, 1) := dk_172 (dk_at dksJ16_compareTo_2 17 rfl rfl)
theorem dJ16_compareTo_58 : decode cJ16_compareTo 58 = .ok (.aload_n 0, 1) := dk_42 (dk_at dksJ16_compareTo_2 18 rfl rfl)
theorem dJ16_compareTo_59 : decode cJ16_compareTo 59 = .ok (.getfield 32, 3) := dk_180 0 32 (dk_at dksJ16_compareTo_2 19 rfl rfl)
theorem dJ16_compareTo_62 : decode cJ16_compareTo 62 = .ok (.aload_n 1, 1) := dk_43 (dk_at dksJ16_compareTo_2 22 rfl rfl)
theorem dJ16_compareTo_63 : decode cJ16_compareTo 63 = .ok (.getfield 32, 3) := dk_180 0 32 (dk_at dksJ16_compareTo_3 0 rfl rfl)
theorem dJ16_compareTo_66 : decode cJ16_compareTo 66 = .ok (.if_icmp .le 7, 3) := dk_164 0 7 (dk_at dksJ16_compareTo_3 3 rfl rfl)
theorem dJ16_compareTo_69 : decode cJ16_compareTo 69 = .ok (.iconst 1, 1) := dk_4 (dk_at dksJ16_compareTo_3 6 rfl rfl)
theorem dJ16_compareTo_70 : decode cJ16_compareTo 70 = .ok (.goto 4, 3) := dk_167 0 4 (dk_at dksJ16_compareTo_3 7 rfl rfl)
theorem dJ16_compareTo_73 : decode cJ16_compareTo 73 = .ok (.iconst (-1), 1) := dk_2 (dk_at dksJ16_compareTo_3 10 rfl rfl)
theorem dJ16_compareTo_74 : decode cJ16_compareTo 74 = .ok (.ireturn, 1) := dk_172 (dk_at dksJ16_compareTo_3 11 rfl rfl)
abbrev cJ16_compareMagnitude : ByteArray := prog_32_method_122_code
def yJ16_compareMagnitude : MethodName := ⟨RJ16, "compareMagnitude", "(Ljava/math/BigInteger;)I"⟩
def dkwJ16_compareMagnitude_4 : List UInt8 := [167, 255, 203, 3, 172]
abbrev dktJ16_compareMagnitude_4 : List UInt8 := dkwJ16_compareMagnitude_4 ++ []
def dkwJ16_compareMagnitude_3 : List UInt8 := [20, 0, 130, 127, 21, 8, 133, 20, 0, 130, 127, 148, 156, 0, 7, 2, 167, 0, 4, 4, 172, 132, 6, 1]
abbrev dktJ16_compareMagnitude_3 : List UInt8 := dkwJ16_compareMagnitude_3 ++ dktJ16_compareMagnitude_4
def dkwJ16_compareMagnitude_2 : List UInt8 := [21, 6, 46, 54, 7, 25, 4, 21, 6, 46, 54, 8, 21, 7, 21, 8, 159, 0, 27, 21, 7, 133]
abbrev dktJ16_compareMagnitude_2 : List UInt8 := dkwJ16_compareMagnitude_2 ++ dktJ16_compareMagnitude_3
def dkwJ16_compareMagnitude_1 : List UInt8 := [162, 0, 5, 2, 172, 29, 21, 5, 164, 0, 5, 4, 172, 3, 54, 6, 21, 6, 29, 162, 0, 53, 44]
abbrev dktJ16_compareMagnitude_1 : List UInt8 := dkwJ16_compareMagnitude_1 ++ dktJ16_compareMagnitude_2
def dkwJ16_compareMagnitude_0 : List UInt8 := [42, 180, 0, 28, 77, 44, 190, 62, 43, 180, 0, 28, 58, 4, 25, 4, 190, 54, 5, 29, 21, 5]
abbrev dktJ16_compareMagnitude_0 : List UInt8 := dkwJ16_compareMagnitude_0 ++ dktJ16_compareMagnitude_1
theorem dksJ16_compareMagnitude_0 : cJ16_compareMagnitude.data.toList.drop 0 = dktJ16_compareMagnitude_0 := by decide +kernel
theorem dksJ16_compareMagnitude_1 : cJ16_compareMagnitude.data.toList.drop 22 = dktJ16_compareMagnitude_1 := dk_seg dksJ16_compareMagnitude_0 22 rfl rfl
theorem dksJ16_compareMagnitude_2 : cJ16_compareMagnitude.data.toList.drop 45 = dktJ16_compareMagnitude_2 := dk_seg dksJ16_compareMagnitude_1 23 rfl rfl
theorem dksJ16_compareMagnitude_3 : cJ16_compareMagnitude.data.toList.drop 67 = dktJ16_compareMagnitude_3 := dk_seg dksJ16_compareMagnitude_2 22 rfl rfl
theorem dksJ16_compareMagnitude_4 : cJ16_compareMagnitude.data.toList.drop 91 = dktJ16_compareMagnitude_4 := dk_seg dksJ16_compareMagnitude_3 24 rfl rfl
theorem dJ16_compareMagnitude_0 : decode cJ16_compareMagnitude 0 = .ok (.aload_n 0, 1) := dk_42 (dk_at dksJ16_compareMagnitude_0 0 rfl rfl)
theorem dJ16_compareMagnitude_1 : decode cJ16_compareMagnitude 1 = .ok (.getfield 28, 3) := dk_180 0 28 (dk_at dksJ16_compareMagnitude_0 1 rfl rfl)
theorem dJ16_compareMagnitude_4 : decode cJ16_compareMagnitude 4 = .ok (.astore_n 2, 1) := dk_77 (dk_at dksJ16_compareMagnitude_0 4 rfl rfl)
theorem dJ16_compareMagnitude_5 : decode cJ16_compareMagnitude 5 = .ok (.aload_n 2, 1) := dk_44 (dk_at dksJ16_compareMagnitude_0 5 rfl rfl)
theorem dJ16_compareMagnitude_6 : decode cJ16_compareMagnitude 6 = .ok (.arraylength, 1) := dk_190 (dk_at dksJ16_compareMagnitude_0 6 rfl rfl)
theorem dJ16_compareMagnitude_7 : decode cJ16_compareMagnitude 7 = .ok (.istore_n 3, 1) := dk_62 (dk_at dksJ16_compareMagnitude_0 7 rfl rfl)
theorem dJ16_compareMagnitude_8 : decode cJ16_compareMagnitude 8 = .ok (.aload_n 1, 1) := dk_43 (dk_at dksJ16_compareMagnitude_0 8 rfl rfl)
theorem dJ16_compareMagnitude_9 : decode cJ16_compareMagnitude 9 = .ok (.getfield 28, 3) := dk_180 0 28 (dk_at dksJ16_compareMagnitude_0 9 rfl rfl)
theorem dJ16_compareMagnitude_12 : decode cJ16_compareMagnitude 12 = .ok (.astore 4, 2) := dk_58 4 (dk_at dksJ16_compareMagnitude_0 12 rfl rfl)
theorem dJ16_compareMagnitude_14 : decode cJ16_compareMagnitude 14 = .ok (.aload 4, 2) := dk_25 4 (dk_at dksJ16_compareMagnitude_0 14 rfl rfl)
theorem dJ16_compareMagnitude_16 : decode cJ16_compareMagnitude 16 = .ok (.arraylength, 1) := dk_190 (dk_at dksJ16_compareMagnitude_0 16 rfl rfl)
theorem dJ16_compareMagnitude_17 : decode cJ16_compareMagnitude 17 = .ok (.istore 5, 2) := dk_54 5 (dk_at dksJ16_compareMagnitude_0 17 rfl rfl)
theorem dJ16_compareMagnitude_19 : decode cJ16_compareMagnitude 19 = .ok (.iload_n 3, 1) := dk_29 (dk_at dksJ16_compareMagnitude_0 19 rfl rfl)
theorem dJ16_compareMagnitude_20 : decode cJ16_compareMagnitude 20 = .ok (.iload 5, 2) := dk_21 5 (dk_at dksJ16_compareMagnitude_0 20 rfl rfl)
theorem dJ16_compareMagnitude_22 : decode cJ16_compareMagnitude 22 = .ok (.if_icmp .ge 5, 3) := dk_162 0 5 (dk_at dksJ16_compareMagnitude_1 0 rfl rfl)
theorem dJ16_compareMagnitude_25 : decode cJ16_compareMagnitude 25 = .ok (.iconst (-1), 1) := dk_2 (dk_at dksJ16_compareMagnitude_1 3 rfl rfl)
theorem dJ16_compareMagnitude_26 : decode cJ16_compareMagnitude 26 = .ok (.ireturn, 1) := dk_172 (dk_at dksJ16_compareMagnitude_1 4 rfl rfl)
theorem dJ16_compareMagnitude_27 : decode cJ16_compareMagnitude 27 = .ok (.iload_n 3, 1) := dk_29 (dk_at dksJ16_compareMagnitude_1 5 rfl rfl)
theorem dJ16_compareMagnitude_28 : decode cJ16_compareMagnitude 28 = .ok (.iload 5, 2) := dk_21 5 (dk_at dksJ16_compareMagnitude_1 6 rfl rfl)
theorem dJ16_compareMagnitude_30 : decode cJ16_compareMagnitude 30 = .ok (.if_icmp .le 5, 3) := dk_164 0 5 (dk_at dksJ16_compareMagnitude_1 8 rfl rfl)
theorem dJ16_compareMagnitude_33 : decode cJ16_compareMagnitude 33 = .ok (.iconst 1, 1) := dk_4 (dk_at dksJ16_compareMagnitude_1 11 rfl rfl)
theorem dJ16_compareMagnitude_34 : decode cJ16_compareMagnitude 34 = .ok (.ireturn, 1) := dk_172 (dk_at dksJ16_compareMagnitude_1 12 rfl rfl)
theorem dJ16_compareMagnitude_35 : decode cJ16_compareMagnitude 35 = .ok (.iconst 0, 1) := dk_3 (dk_at dksJ16_compareMagnitude_1 13 rfl rfl)
theorem dJ16_compareMagnitude_36 : decode cJ16_compareMagnitude 36 = .ok (.istore 6, 2) := dk_54 6 (dk_at dksJ16_compareMagnitude_1 14 rfl rfl)
theorem dJ16_compareMagnitude_38 : decode cJ16_compareMagnitude 38 = .ok (.iload 6, 2) := dk_21 6 (dk_at dksJ16_compareMagnitude_1 16 rfl rfl)
theorem dJ16_compareMagnitude_40 : decode cJ16_compareMagnitude 40 = .ok (.iload_n 3, 1) := dk_29 (dk_at dksJ16_compareMagnitude_1 18 rfl rfl)
theorem dJ16_compareMagnitude_41 : decode cJ16_compareMagnitude 41 = .ok (.if_icmp .ge 53, 3) := dk_162 0 53 (dk_at dksJ16_compareMagnitude_1 19 rfl rfl)
theorem dJ16_compareMagnitude_44 : decode cJ16_compareMagnitude 44 = .ok (.aload_n 2, 1) := dk_44 (dk_at dksJ16_compareMagnitude_1 22 rfl rfl)
theorem dJ16_compareMagnitude_45 : decode cJ16_compareMagnitude 45 = .ok (.iload 6, 2) := dk_21 6 (dk_at dksJ16_compareMagnitude_2 0 rfl rfl)
theorem dJ16_compareMagnitude_47 : decode cJ16_compareMagnitude 47 = .ok (.iaload, 1) := dk_46 (dk_at dksJ16_compareMagnitude_2 2 rfl rfl)
theorem dJ16_compareMagnitude_48 : decode cJ16_compareMagnitude 48 = .ok (.istore 7, 2) := dk_54 7 (dk_at dksJ16_compareMagnitude_2 3 rfl rfl)
theorem dJ16_compareMagnitude_50 : decode cJ16_compareMagnitude 50 = .ok (.aload 4, 2) := dk_25 4 (dk_at dksJ16_compareMagnitude_2 5 rfl rfl)
theorem dJ16_compareMagnitude_52 : decode cJ16_compareMagnitude 52 = .ok (.iload 6, 2) := dk_21 6 (dk_at dksJ16_compareMagnitude_2 7 rfl rfl)
theorem dJ16_compareMagnitude_54 : decode cJ16_compareMagnitude 54 = .ok (.iaload, 1) := dk_46 (dk_at dksJ16_compareMagnitude_2 9 rfl rfl)
theorem dJ16_compareMagnitude_55 : decode cJ16_compareMagnitude 55 = .ok (.istore 8, 2) := dk_54 8 (dk_at dksJ16_compareMagnitude_2 10 rfl rfl)
theorem dJ16_compareMagnitude_57 : decode cJ16_compareMagnitude 57 = .ok (.iload 7, 2) := dk_21 7 (dk_at dksJ16_compareMagnitude_2 12 rfl rfl)
theorem dJ16_compareMagnitude_59 : decode cJ16_compareMagnitude 59 = .ok (.iload 8, 2) := dk_21 8 (dk_at dksJ16_compareMagnitude_2 14 rfl rfl)
theorem dJ16_compareMagnitude_61 : decode cJ16_compareMagnitude 61 = .ok (.if_icmp .eq 27, 3) := dk_159 0 27 (dk_at dksJ16_compareMagnitude_2 16 rfl rfl)
theorem dJ16_compareMagnitude_64 : decode cJ16_compareMagnitude 64 = .ok (.iload 7, 2) := dk_21 7 (dk_at dksJ16_compareMagnitude_2 19 rfl rfl)
theorem dJ16_compareMagnitude_66 : decode cJ16_compareMagnitude 66 = .ok (.i2l, 1) := dk_133 (dk_at dksJ16_compareMagnitude_2 21 rfl rfl)
theorem dJ16_compareMagnitude_67 : decode cJ16_compareMagnitude 67 = .ok (.ldc2_w 130, 3) := dk_20 0 130 (dk_at dksJ16_compareMagnitude_3 0 rfl rfl)
theorem dJ16_compareMagnitude_70 : decode cJ16_compareMagnitude 70 = .ok (.land, 1) := dk_127 (dk_at dksJ16_compareMagnitude_3 3 rfl rfl)
theorem dJ16_compareMagnitude_71 : decode cJ16_compareMagnitude 71 = .ok (.iload 8, 2) := dk_21 8 (dk_at dksJ16_compareMagnitude_3 4 rfl rfl)
theorem dJ16_compareMagnitude_73 : decode cJ16_compareMagnitude 73 = .ok (.i2l, 1) := dk_133 (dk_at dksJ16_compareMagnitude_3 6 rfl rfl)
theorem dJ16_compareMagnitude_74 : decode cJ16_compareMagnitude 74 = .ok (.ldc2_w 130, 3) := dk_20 0 130 (dk_at dksJ16_compareMagnitude_3 7 rfl rfl)
theorem dJ16_compareMagnitude_77 : decode cJ16_compareMagnitude 77 = .ok (.land, 1) := dk_127 (dk_at dksJ16_compareMagnitude_3 10 rfl rfl)
theorem dJ16_compareMagnitude_78 : decode cJ16_compareMagnitude 78 = .ok (.lcmp, 1) := dk_148 (dk_at dksJ16_compareMagnitude_3 11 rfl rfl)
theorem dJ16_compareMagnitude_79 : decode cJ16_compareMagnitude 79 = .ok (.ifCond .ge 7, 3) := dk_156 0 7 (dk_at dksJ16_compareMagnitude_3 12 rfl rfl)
theorem dJ16_compareMagnitude_82 : decode cJ16_compareMagnitude 82 = .ok (.iconst (-1), 1) := dk_2 (dk_at dksJ16_compareMagnitude_3 15 rfl rfl)
theorem dJ16_compareMagnitude_83 : decode cJ16_compareMagnitude 83 = .ok (.goto 4, 3) := dk_167 0 4 (dk_at dksJ16_compareMagnitude_3 16 rfl rfl)
theorem dJ16_compareMagnitude_86 : decode cJ16_compareMagnitude 86 = .ok (.iconst 1, 1) := dk_4 (dk_at dksJ16_compareMagnitude_3 19 rfl rfl)
theorem dJ16_compareMagnitude_87 : decode cJ16_compareMagnitude 87 = .ok (.ireturn, 1) := dk_172 (dk_at dksJ16_compareMagnitude_3 20 rfl rfl)
theorem dJ16_compareMagnitude_88 : decode cJ16_compareMagnitude 88 = .ok (.iinc 6 1, 3) := dk_132 6 1 (dk_at dksJ16_compareMagnitude_3 21 rfl rfl)
theorem dJ16_compareMagnitude_91 : decode cJ16_compareMagnitude 91 = .ok (.goto (-53), 3) := dk_167 255 203 (dk_at dksJ16_compareMagnitude_4 0 rfl rfl)
theorem dJ16_compareMagnitude_94 : decode cJ16_compareMagnitude 94 = .ok (.iconst 0, 1) := dk_3 (dk_at dksJ16_compareMagnitude_4 3 rfl rfl)
theorem dJ16_compareMagnitude_95 : decode cJ16_compareMagnitude 95 = .ok (.ireturn, 1) := dk_172 (dk_at dksJ16_compareMagnitude_4 4 rfl rfl)
abbrev cJ16_intValue : ByteArray := prog_32_method_135_code
def yJ16_intValue : MethodName := ⟨RJ16, "intValue", "()I"⟩
def dkwJ16_intValue_0 : List UInt8 := [3, 60, 42, 3, 182, 2, 224, 60, 27, 172]
abbrev dktJ16_intValue_0 : List UInt8 := dkwJ16_intValue_0 ++ []
theorem dksJ16_intValue_0 : cJ16_intValue.data.toList.drop 0 = dktJ16_intValue_0 := by decide +kernel
theorem dJ16_intValue_0 : decode cJ16_intValue 0 = .ok (.iconst 0, 1) := dk_3 (dk_at dksJ16_intValue_0 0 rfl rfl)
theorem dJ16_intValue_1 : decode cJ16_intValue 1 = .ok (.istore_n 1, 1) := dk_60 (dk_at dksJ16_intValue_0 1 rfl rfl)
theorem dJ16_intValue_2 : decode cJ16_intValue 2 = .ok (.aload_n 0, 1) := dk_42 (dk_at dksJ16_intValue_0 2 rfl rfl)
theorem dJ16_intValue_3 : decode cJ16_intValue 3 = .ok (.iconst 0, 1) := dk_3 (dk_at dksJ16_intValue_0 3 rfl rfl)
theorem dJ16_intValue_4 : decode cJ16_intValue 4 = .ok (.invokevirtual 736, 3) := dk_182 2 224 (dk_at dksJ16_intValue_0 4 rfl rfl)
theorem dJ16_intValue_7 : decode cJ16_intValue 7 = .ok (.istore_n 1, 1) := dk_60 (dk_at dksJ16_intValue_0 7 rfl rfl)
theorem dJ16_intValue_8 : decode cJ16_intValue 8 = .ok (.iload_n 1, 1) := dk_27 (dk_at dksJ16_intValue_0 8 rfl rfl)
theorem dJ16_intValue_9 : decode cJ16_intValue 9 = .ok (.ireturn, 1) := dk_172 (dk_at dksJ16_intValue_0 9 rfl rfl)
abbrev cJ16_add : ByteArray := prog_32_method_32_code
def yJ16_add : MethodName := ⟨RJ16, "add", "(Ljava/math/BigInteger;)Ljava/math/BigInteger;"⟩
def dkwJ16_add_5 : List UInt8 := [160, 0, 7, 4, 167, 0, 4, 2, 183, 0, 175, 176]
abbrev dktJ16_add_5 : List UInt8 := dkwJ16_add_5 ++ []
def dkwJ16_add_4 : List UInt8 := [180, 0, 28, 184, 1, 112, 78, 45, 184, 0, 53, 78, 187, 0, 23, 89, 45, 28, 42, 180, 0, 32]
abbrev dktJ16_add_4 : List UInt8 := dkwJ16_add_4 ++ dktJ16_add_5
def dkwJ16_add_3 : List UInt8 := [158, 0, 17, 42, 180, 0, 28, 43, 180, 0, 28, 184, 1, 112, 167, 0, 14, 43, 180, 0, 28, 42]
abbrev dktJ16_add_3 : List UInt8 := dkwJ16_add_3 ++ dktJ16_add_4
def dkwJ16_add_2 : List UInt8 := [180, 0, 32, 183, 0, 175, 176, 42, 43, 182, 1, 109, 61, 28, 154, 0, 7, 178, 0, 22, 176, 28]
abbrev dktJ16_add_2 : List UInt8 := dkwJ16_add_2 ++ dktJ16_add_3
def dkwJ16_add_1 : List UInt8 := [180, 0, 32, 160, 0, 26, 187, 0, 23, 89, 42, 180, 0, 28, 43, 180, 0, 28, 184, 1, 106, 42]
abbrev dktJ16_add_1 : List UInt8 := dkwJ16_add_1 ++ dktJ16_add_2
def dkwJ16_add_0 : List UInt8 := [43, 180, 0, 32, 154, 0, 5, 42, 176, 42, 180, 0, 32, 154, 0, 5, 43, 176, 43, 180, 0, 32, 42]
abbrev dktJ16_add_0 : List UInt8 := dkwJ16_add_0 ++ dktJ16_add_1
theorem dksJ16_add_0 : cJ16_add.data.toList.drop 0 = dktJ16_add_0 := by decide +kernel
theorem dksJ16_add_1 : cJ16_add.data.toList.drop 23 = dktJ16_add_1 := dk_seg dksJ16_add_0 23 rfl rfl
theorem dksJ16_add_2 : cJ16_add.data.toList.drop 45 = dktJ16_add_2 := dk_seg dksJ16_add_1 22 rfl rfl
theorem dksJ16_add_3 : cJ16_add.data.toList.drop 67 = dktJ16_add_3 := dk_seg dksJ16_add_2 22 rfl rfl
theorem dksJ16_add_4 : cJ16_add.data.toList.drop 89 = dktJ16_add_4 := dk_seg dksJ16_add_3 22 rfl rfl
theorem dksJ16_add_5 : cJ16_add.data.toList.drop 111 = dktJ16_add_5 := dk_seg dksJ16_add_4 22 rfl rfl
theorem dJ16_add_0 : decode cJ16_add 0 = .ok (.aload_n 1, 1) := dk_43 (dk_at dksJ16_add_0 0 rfl rfl)
theorem dJ16_add_1 : decode cJ16_add 1 = .ok (.getfield 32, 3) := dk_180 0 32 (dk_at dksJ16_add_0 1 rfl rfl)
theorem dJ16_add_4 : decode cJ16_add 4 = .ok (.ifCond .ne 5, 3) := dk_154 0 5 (dk_at dksJ16_add_0 4 rfl rfl)
theorem dJ16_add_7 : decode cJ16_add 7 = .ok (.aload_n 0, 1) := dk_42 (dk_at dksJ16_add_0 7 rfl rfl)
theorem dJ16_add_8 : decode cJ16_add 8 = .ok (.areturn, 1) := dk_176 (dk_at dksJ16_add_0 8 rfl rfl)
theorem dJ16_add_9 : decode cJ16_add 9 = .ok (.aload_n 0, 1) := dk_42 (dk_at dksJ16_add_0 9 rfl rfl)
theorem dJ16_add_10 : decode cJ16_add 10 = .ok (.getfield 32, 3) := dk_180 0 32 (dk_at dksJ16_add_0 10 rfl rfl)
theorem dJ16_add_13 : decode cJ16_add 13 = .ok (.ifCond .ne 5, 3) := dk_154 0 5 (dk_at dksJ16_add_0 13 rfl rfl)
theorem dJ16_add_16 : decode cJ16_add 16 = .ok (.aload_n 1, 1) := dk_43 (dk_at dksJ16_add_0 16 rfl rfl)
theorem dJ16_add_17 : decode cJ16_add 17 = .ok (.areturn, 1) := dk_176 (dk_at dksJ16_add_0 17 rfl rfl)
theorem dJ16_add_18 : decode cJ16_add 18 = .ok (.aload_n 1, 1) := dk_43 (dk_at dksJ16_add_0 18 rfl rfl)
theorem dJ16_add_19 : decode cJ16_add 19 = .ok (.getfield 32, 3) := dk_180 0 32 (dk_at dksJ16_add_0 19 rfl rfl)
theorem dJ16_add_22 : decode cJ16_add 22 = .ok (.aload_n 0, 1) := dk_42 (dk_at dksJ16_add_0 22 rfl rfl)
theorem dJ16_add_23 : decode cJ16_add 23 = .ok (.getfield 32, 3) := dk_180 0 32 (dk_at dksJ16_add_1 0 rfl rfl)
theorem dJ16_add_26 : decode cJ16_add 26 = .ok (.if_icmp .ne 26, 3) := dk_160 0 26 (dk_at dksJ16_add_1 3 rfl rfl)
theorem dJ16_add_29 : decode cJ16_add 29 = .ok (.new 23, 3) := dk_187 0 23 (dk_at dksJ16_add_1 6 rfl rfl)
theorem dJ16_add_32 : decode cJ16_add 32 = .ok (.dup, 1) := dk_89 (dk_at dksJ16_add_1 9 rfl rfl)
theorem dJ16_add_33 : decode cJ16_add 33 = .ok (.aload_n 0, 1) := dk_42 (dk_at dksJ16_add_1 10 rfl rfl)
theorem dJ16_add_34 : decode cJ16_add 34 = .ok (.getfield 28, 3) := dk_180 0 28 (dk_at dksJ16_add_1 11 rfl rfl)
theorem dJ16_add_37 : decode cJ16_add 37 = .ok (.aload_n 1, 1) := dk_43 (dk_at dksJ16_add_1 14 rfl rfl)
theorem dJ16_add_38 : decode cJ16_add 38 = .ok (.getfield 28, 3) := dk_180 0 28 (dk_at dksJ16_add_1 15 rfl rfl)
theorem dJ16_add_41 : decode cJ16_add 41 = .ok (.invokestatic 362, 3) := dk_184 1 106 (dk_at dksJ16_add_1 18 rfl rfl)
theorem dJ16_add_44 : decode cJ16_add 44 = .ok (.aload_n 0, 1) := dk_42 (dk_at dksJ16_add_1 21 rfl rfl)
theorem dJ16_add_45 : decode cJ16_add 45 = .ok (.getfield 32, 3) := dk_180 0 32 (dk_at dksJ16_add_2 0 rfl rfl)
theorem dJ16_add_48 : decode cJ16_add 48 = .ok (.invokespecial 175, 3) := dk_183 0 175 (dk_at dksJ16_add_2 3 rfl rfl)
theorem dJ16_add_51 : decode cJ16_add 51 = .ok (.areturn, 1) := dk_176 (dk_at dksJ16_add_2 6 rfl rfl)
theorem dJ16_add_52 : decode cJ16_add 52 = .ok (.aload_n 0, 1) := dk_42 (dk_at dksJ16_add_2 7 rfl rfl)
theorem dJ16_add_53 : decode cJ16_add 53 = .ok (.aload_n 1, 1) := dk_43 (dk_at dksJ16_add_2 8 rfl rfl)
theorem dJ16_add_54 : decode cJ16_add 54 = .ok (.invokevirtual 365, 3) := dk_182 1 109 (dk_at dksJ16_add_2 9 rfl rfl)
theorem dJ16_add_57 : decode cJ16_add 57 = .ok (.istore_n 2, 1) := dk_61 (dk_at dksJ16_add_2 12 rfl rfl)
theorem dJ16_add_58 : decode cJ16_add 58 = .ok (.iload_n 2, 1) := dk_28 (dk_at dksJ16_add_2 13 rfl rfl)
theorem dJ16_add_59 : decode cJ16_add 59 = .ok (.ifCond .ne 7, 3) := dk_154 0 7 (dk_at dksJ16_add_2 14 rfl rfl)
theorem dJ16_add_62 : decode cJ16_add 62 = .ok (.getstatic 22, 3) := dk_178 0 22 (dk_at dksJ16_add_2 17 rfl rfl)
theorem dJ16_add_65 : decode cJ16_add 65 = .ok (.areturn, 1) := dk_176 (dk_at dksJ16_add_2 20 rfl rfl)
theorem dJ16_add_66 : decode cJ16_add 66 = .ok (.iload_n 2, 1) := dk_28 (dk_at dksJ16_add_2 21 rfl rfl)
theorem dJ16_add_67 : decode cJ16_add 67 = .ok (.ifCond .le 17, 3) := dk_158 0 17 (dk_at dksJ16_add_3 0 rfl rfl)
theorem dJ16_add_70 : decode cJ16_add 70 = .ok (.aload_n 0, 1) := dk_42 (dk_at dksJ16_add_3 3 rfl rfl)
theorem dJ16_add_71 : decode cJ16_add 71 = .ok (.getfield 28, 3) := dk_180 0 28 (dk_at dksJ16_add_3 4 rfl rfl)
theorem dJ16_add_74 : decode cJ16_add 74 = .ok (.aload_n 1, 1) := dk_43 (dk_at dksJ16_add_3 7 rfl rfl)
theorem dJ16_add_75 : decode cJ16_add 75 = .ok (.getfield 28, 3) := dk_180 0 28 (dk_at dksJ16_add_3 8 rfl rfl)
theorem dJ16_add_78 : decode cJ16_add 78 = .ok (.invokestatic 368, 3) := dk_184 1 112 (dk_at dksJ16_add_3 11 rfl rfl)
theorem dJ16_add_81 : decode cJ16_add 81 = .ok (.goto 14, 3) := dk_167 0 14 (dk_at dksJ16_add_3 14 rfl rfl)
theorem dJ16_add_84 : decode cJ16_add 84 = .ok (.aload_n 1, 1) := dk_43 (dk_at dksJ16_add_3 17 rfl rfl)
theorem dJ16_add_85 : decode cJ16_add 85 = .ok (.getfield 28, 3) := dk_180 0 28 (dk_at dksJ16_add_3 18 rfl rfl)
theorem dJ16_add_88 : decode cJ16_add 88 = .ok (.aload_n 0, 1) := dk_42 (dk_at dksJ16_add_3 21 rfl rfl)
theorem dJ16_add_89 : decode cJ16_add 89 = .ok (.getfield 28, 3) := dk_180 0 28 (dk_at dksJ16_add_4 0 rfl rfl)
theorem dJ16_add_92 : decode cJ16_add 92 = .ok (.invokestatic 368, 3) := dk_184 1 112 (dk_at dksJ16_add_4 3 rfl rfl)
theorem dJ16_add_95 : decode cJ16_add 95 = .ok (.astore_n 3, 1) := dk_78 (dk_at dksJ16_add_4 6 rfl rfl)
theorem dJ16_add_96 : decode cJ16_add 96 = .ok (.aload_n 3, 1) := dk_45 (dk_at dksJ16_add_4 7 rfl rfl)
theorem dJ16_add_97 : decode cJ16_add 97 = .ok (.invokestatic 53, 3) := dk_184 0 53 (dk_at dksJ16_add_4 8 rfl rfl)
theorem dJ16_add_100 : decode cJ16_add 100 = .ok (.astore_n 3, 1) := dk_78 (dk_at dksJ16_add_4 11 rfl rfl)
theorem dJ16_add_101 : decode cJ16_add 101 = .ok (.new 23, 3) := dk_187 0 23 (dk_at dksJ16_add_4 12 rfl rfl)
theorem dJ16_add_104 : decode cJ16_add 104 = .ok (.dup, 1) := dk_89 (dk_at dksJ16_add_4 15 rfl rfl)
theorem dJ16_add_105 : decode cJ16_add 105 = .ok (.aload_n 3, 1) := dk_45 (dk_at dksJ16_add_4 16 rfl rfl)
theorem dJ16_add_106 : decode cJ16_add 106 = .ok (.iload_n 2, 1) := dk_28 (dk_at dksJ16_add_4 17 rfl rfl)
theorem dJ16_add_107 : decode cJ16_add 107 = .ok (.aload_n 0, 1) := dk_42 (dk_at dksJ16_add_4 18 rfl rfl)
theorem dJ16_add_108 : decode cJ16_add 108 = .ok (.getfield 32, 3) := dk_180 0 32 (dk_at dksJ16_add_4 19 rfl rfl)
theorem dJ16_add_111 : decode cJ16_add 111 = .ok (.if_icmp .ne 7, 3) := dk_160 0 7 (dk_at dksJ16_add_5 0 rfl rfl)
theorem dJ16_add_114 : decode cJ16_add 114 = .ok (.iconst 1, 1) := dk_4 (dk_at dksJ16_add_5 3 rfl rfl)
theorem dJ16_add_115 : decode cJ16_add 115 = .ok (.goto 4, 3) := dk_167 0 4 (dk_at dksJ16_add_5 4 rfl rfl)
theorem dJ16_add_118 : decode cJ16_add 118 = .ok (.iconst (-1), 1) := dk_2 (dk_at dksJ16_add_5 7 rfl rfl)
theorem dJ16_add_119 : decode cJ16_add 119 = .ok (.invokespecial 175, 3) := dk_183 0 175 (dk_at dksJ16_add_5 8 rfl rfl)
theorem dJ16_add_122 : decode cJ16_add 122 = .ok (.areturn, 1) := dk_176 (dk_at dksJ16_add_5 11 rfl rfl)
abbrev cJ16_add_2 : ByteArray := prog_32_method_35_code
def yJ16_add_2 : MethodName := ⟨RJ16, "add", "([I[I)[I"⟩
def dkwJ16_add_2_9 : List UInt8 := [25, 8, 176, 25, 4, 176]
abbrev dktJ16_add_2_9 : List UInt8 := dkwJ16_add_2_9 ++ []
def dkwJ16_add_2_8 : List UInt8 := [4, 96, 188, 10, 58, 8, 25, 4, 3, 25, 8, 4, 25, 4, 190, 184, 1, 132, 25, 8, 3, 4, 79]
abbrev dktJ16_add_2_8 : List UInt8 := dkwJ16_add_2_8 ++ dktJ16_add_2_9
def dkwJ16_add_2_7 : List UInt8 := [158, 0, 16, 25, 4, 132, 2, 255, 28, 42, 28, 46, 79, 167, 255, 242, 21, 7, 153, 0, 32, 25, 4, 190]
abbrev dktJ16_add_2_7 : List UInt8 := dkwJ16_add_2_7 ++ dktJ16_add_2_8
def dkwJ16_add_2_6 : List UInt8 := [28, 42, 28, 46, 4, 96, 91, 79, 154, 0, 7, 4, 167, 0, 4, 3, 54, 7, 167, 255, 224, 28]
abbrev dktJ16_add_2_6 : List UInt8 := dkwJ16_add_2_6 ++ dktJ16_add_2_7
def dkwJ16_add_2_5 : List UInt8 := [153, 0, 7, 4, 167, 0, 4, 3, 54, 7, 28, 158, 0, 34, 21, 7, 153, 0, 29, 25, 4, 132, 2, 255]
abbrev dktJ16_add_2_5 : List UInt8 := dkwJ16_add_2_5 ++ dktJ16_add_2_6
def dkwJ16_add_2_4 : List UInt8 := [16, 32, 125, 97, 55, 5, 25, 4, 28, 22, 5, 136, 79, 167, 255, 214, 22, 5, 16, 32, 125, 9, 148]
abbrev dktJ16_add_2_4 : List UInt8 := dkwJ16_add_2_4 ++ dktJ16_add_2_5
def dkwJ16_add_2_3 : List UInt8 := [132, 2, 255, 28, 46, 133, 20, 0, 130, 127, 43, 132, 3, 255, 29, 46, 133, 20, 0, 130, 127, 97, 22, 5]
abbrev dktJ16_add_2_3 : List UInt8 := dkwJ16_add_2_3 ++ dktJ16_add_2_4
def dkwJ16_add_2_2 : List UInt8 := [20, 0, 130, 127, 97, 55, 5, 25, 4, 28, 22, 5, 136, 79, 167, 0, 48, 29, 158, 0, 44, 42]
abbrev dktJ16_add_2_2 : List UInt8 := dkwJ16_add_2_2 ++ dktJ16_add_2_3
def dkwJ16_add_2_1 : List UInt8 := [9, 55, 5, 29, 4, 160, 0, 35, 42, 132, 2, 255, 28, 46, 133, 20, 0, 130, 127, 43, 3, 46, 133]
abbrev dktJ16_add_2_1 : List UInt8 := dkwJ16_add_2_1 ++ dktJ16_add_2_2
def dkwJ16_add_2_0 : List UInt8 := [42, 190, 43, 190, 162, 0, 9, 42, 77, 43, 75, 44, 76, 42, 190, 61, 43, 190, 62, 28, 188, 10, 58, 4]
abbrev dktJ16_add_2_0 : List UInt8 := dkwJ16_add_2_0 ++ dktJ16_add_2_1
theorem dksJ16_add_2_0 : cJ16_add_2.data.toList.drop 0 = dktJ16_add_2_0 := by decide +kernel
theorem dksJ16_add_2_1 : cJ16_add_2.data.toList.drop 24 = dktJ16_add_2_1 := dk_seg dksJ16_add_2_0 24 rfl rfl
theorem dksJ16_add_2_2 : cJ16_add_2.data.toList.drop 47 = dktJ16_add_2_2 := dk_seg dksJ16_add_2_1 23 rfl rfl
theorem dksJ16_add_2_3 : cJ16_add_2.data.toList.drop 69 = dktJ16_add_2_3 := dk_seg dksJ16_add_2_2 22 rfl rfl
theorem dksJ16_add_2_4 : cJ16_add_2.data.toList.drop 93 = dktJ16_add_2_4 := dk_seg dksJ16_add_2_3 24 rfl rfl
theorem dksJ16_add_2_5 : cJ16_add_2.data.toList.drop 116 = dktJ16_add_2_5 := dk_seg dksJ16_add_2_4 23 rfl rfl
theorem dksJ16_add_2_6 : cJ16_add_2.data.toList.drop 140 = dktJ16_add_2_6 := dk_seg dksJ16_add_2_5 24 rfl rfl
theorem dksJ16_add_2_7 : cJ16_add_2.data.toList.drop 162 = dktJ16_add_2_7 := dk_seg dksJ16_add_2_6 22 rfl rfl
theorem dksJ16_add_2_8 : cJ16_add_2.data.toList.drop 186 = dktJ16_add_2_8 := dk_seg dksJ16_add_2_7 24 rfl rfl
theorem dksJ16_add_2_9 : cJ16_add_2.data.toList.drop 209 = dktJ16_add_2_9 := dk_seg dksJ16_add_2_8 23 rfl rfl
theorem dJ16_add_2_0 : decode cJ16_add_2 0 = .ok (.aload_n 0, 1) := dk_42 (dk_at dksJ16_add_2_0 0 rfl rfl)
theorem dJ16_add_2_1 : decode cJ16_add_2 1 = .ok (.arraylength, 1) := dk_190 (dk_at dksJ16_add_2_0 1 rfl rfl)
theorem dJ16_add_2_2 : decode cJ16_add_2 2 = .ok (.aload_n 1, 1) := dk_43 (dk_at dksJ16_add_2_0 2 rfl rfl)
theorem dJ16_add_2_3 : decode cJ16_add_2 3 = .ok (.arraylength, 1) := dk_190 (dk_at dksJ16_add_2_0 3 rfl rfl)
theorem dJ16_add_2_4 : decode cJ16_add_2 4 = .ok (.if_icmp .ge 9, 3) := dk_162 0 9 (dk_at dksJ16_add_2_0 4 rfl rfl)
theorem dJ16_add_2_7 : decode cJ16_add_2 7 = .ok (.aload_n 0, 1) := dk_42 (dk_at dksJ16_add_2_0 7 rfl rfl)
theorem dJ16_add_2_8 : decode cJ16_add_2 8 = .ok (.astore_n 2, 1) := dk_77 (dk_at dksJ16_add_2_0 8 rfl rfl)
theorem dJ16_add_2_9 : decode cJ16_add_2 9 = .ok (.aload_n 1, 1) := dk_43 (dk_at dksJ16_add_2_0 9 rfl rfl)
theorem dJ16_add_2_10 : decode cJ16_add_2 10 = .ok (.astore_n 0, 1) := dk_75 (dk_at dksJ16_add_2_0 10 rfl rfl)
theorem dJ16_add_2_11 : decode cJ16_add_2 11 = .ok (.aload_n 2, 1) := dk_44 (dk_at dksJ16_add_2_0 11 rfl rfl)
theorem dJ16_add_2_12 : decode cJ16_add_2 12 = .ok (.astore_n 1, 1) := dk_76 (dk_at dksJ16_add_2_0 12 rfl rfl)
theorem dJ16_add_2_13 : decode cJ16_add_2 13 = .ok (.aload_n 0, 1) := dk_42 (dk_at dksJ16_add_2_0 13 rfl rfl)
theorem dJ16_add_2_14 : decode cJ16_add_2 14 = .ok (.arraylength, 1) := dk_190 (dk_at dksJ16_add_2_0 14 rfl rfl)
theorem dJ16_add_2_15 : decode cJ16_add_2 15 = .ok (.istore_n 2, 1) := dk_61 (dk_at dksJ16_add_2_0 15 rfl rfl)
theorem dJ16_add_2_16 : decode cJ16_add_2 16 = .ok (.aload_n 1, 1) := dk_43 (dk_at dksJ16_add_2_0 16 rfl rfl)
theorem dJ16_add_2_17 : decode cJ16_add_2 17 = .ok (.arraylength, 1) := dk_190 (dk_at dksJ16_add_2_0 17 rfl rfl)
theorem dJ16_add_2_18 : decode cJ16_add_2 18 = .ok (.istore_n 3, 1) := dk_62 (dk_at dksJ16_add_2_0 18 rfl rfl)
theorem dJ16_add_2_19 : decode cJ16_add_2 19 = .ok (.iload_n 2, 1) := dk_28 (dk_at dksJ16_add_2_0 19 rfl rfl)
theorem dJ16_add_2_20 : decode cJ16_add_2 20 = .ok (.newarray .int, 2) := dk_188_10 (dk_at dksJ16_add_2_0 20 rfl rfl)
theorem dJ16_add_2_22 : decode cJ16_add_2 22 = .ok (.astore 4, 2) := dk_58 4 (dk_at dksJ16_add_2_0 22 rfl rfl)
theorem dJ16_add_2_24 : decode cJ16_add_2 24 = .ok (.lconst 0, 1) := dk_9 (dk_at dksJ16_add_2_1 0 rfl rfl)
theorem dJ16_add_2_25 : decode cJ16_add_2 25 = .ok (.lstore 5, 2) := dk_55 5 (dk_at dksJ16_add_2_1 1 rfl rfl)
theorem dJ16_add_2_27 : decode cJ16_add_2 27 = .ok (.iload_n 3, 1) := dk_29 (dk_at dksJ16_add_2_1 3 rfl rfl)
theorem dJ16_add_2_28 : decode cJ16_add_2 28 = .ok (.iconst 1, 1) := dk_4 (dk_at dksJ16_add_2_1 4 rfl rfl)
theorem dJ16_add_2_29 : decode cJ16_add_2 29 = .ok (.if_icmp .ne 35, 3) := dk_160 0 35 (dk_at dksJ16_add_2_1 5 rfl rfl)
theorem dJ16_add_2_32 : decode cJ16_add_2 32 = .ok (.aload_n 0, 1) := dk_42 (dk_at dksJ16_add_2_1 8 rfl rfl)
theorem dJ16_add_2_33 : decode cJ16_add_2 33 = .ok (.iinc 2 (-1), 3) := dk_132 2 255 (dk_at dksJ16_add_2_1 9 rfl rfl)
theorem dJ16_add_2_36 : decode cJ16_add_2 36 = .ok (.iload_n 2, 1) := dk_28 (dk_at dksJ16_add_2_1 12 rfl rfl)
theorem dJ16_add_2_37 : decode cJ16_add_2 37 = .ok (.iaload, 1) := dk_46 (dk_at dksJ16_add_2_1 13 rfl rfl)
theorem dJ16_add_2_38 : decode cJ16_add_2 38 = .ok (.i2l, 1) := dk_133 (dk_at dksJ16_add_2_1 14 rfl rfl)
theorem dJ16_add_2_39 : decode cJ16_add_2 39 = .ok (.ldc2_w 130, 3) := dk_20 0 130 (dk_at dksJ16_add_2_1 15 rfl rfl)
theorem dJ16_add_2_42 : decode cJ16_add_2 42 = .ok (.land, 1) := dk_127 (dk_at dksJ16_add_2_1 18 rfl rfl)
theorem dJ16_add_2_43 : decode cJ16_add_2 43 = .ok (.aload_n 1, 1) := dk_43 (dk_at dksJ16_add_2_1 19 rfl rfl)
theorem dJ16_add_2_44 : decode cJ16_add_2 44 = .ok (.iconst 0, 1) := dk_3 (dk_at dksJ16_add_2_1 20 rfl rfl)
theorem dJ16_add_2_45 : decode cJ16_add_2 45 = .ok (.iaload, 1) := dk_46 (dk_at dksJ16_add_2_1 21 rfl rfl)
theorem dJ16_add_2_46 : decode cJ16_add_2 46 = .ok (.i2l, 1) := dk_133 (dk_at dksJ16_add_2_1 22 rfl rfl)
theorem dJ16_add_2_47 : decode cJ16_add_2 47 = .ok (.ldc2_w 130, 3) := dk_20 0 130 (dk_at dksJ16_add_2_2 0 rfl rfl)
theorem dJ16_add_2_50 : decode cJ16_add_2 50 = .ok (.land, 1) := dk_127 (dk_at dksJ16_add_2_2 3 rfl rfl)
theorem dJ16_add_2_51 : decode cJ16_add_2 51 = .ok (.ladd, 1) := dk_97 (dk_at dksJ16_add_2_2 4 rfl rfl)
theorem dJ16_add_2_52 : decode cJ16_add_2 52 = .ok (.lstore 5, 2) := dk_55 5 (dk_at dksJ16_add_2_2 5 rfl rfl)
theorem dJ16_add_2_54 : decode cJ16_add_2 54 = .ok (.aload 4, 2) := dk_25 4 (dk_at dksJ16_add_2_2 7 rfl rfl)
theorem dJ16_add_2_56 : decode cJ16_add_2 56 = .ok (.iload_n 2, 1) := dk_28 (dk_at dksJ16_add_2_2 9 rfl rfl)
theorem dJ16_add_2_57 : decode cJ16_add_2 57 = .ok (.lload 5, 2) := dk_22 5 (dk_at dksJ16_add_2_2 10 rfl rfl)
theorem dJ16_add_2_59 : decode cJ16_add_2 59 = .ok (.l2i, 1) := dk_136 (dk_at dksJ16_add_2_2 12 rfl rfl)
theorem dJ16_add_2_60 : decode cJ16_add_2 60 = .ok (.iastore, 1) := dk_79 (dk_at dksJ16_add_2_2 13 rfl rfl)
theorem dJ16_add_2_61 : decode cJ16_add_2 61 = .ok (.goto 48, 3) := dk_167 0 48 (dk_at dksJ16_add_2_2 14 rfl rfl)
theorem dJ16_add_2_64 : decode cJ16_add_2 64 = .ok (.iload_n 3, 1) := dk_29 (dk_at dksJ16_add_2_2 17 rfl rfl)
theorem dJ16_add_2_65 : decode cJ16_add_2 65 = .ok (.ifCond .le 44, 3) := dk_158 0 44 (dk_at dksJ16_add_2_2 18 rfl rfl)
theorem dJ16_add_2_68 : decode cJ16_add_2 68 = .ok (.aload_n 0, 1) := dk_42 (dk_at dksJ16_add_2_2 21 rfl rfl)
theorem dJ16_add_2_69 : decode cJ16_add_2 69 = .ok (.iinc 2 (-1), 3) := dk_132 2 255 (dk_at dksJ16_add_2_3 0 rfl rfl)
theorem dJ16_add_2_72 : decode cJ16_add_2 72 = .ok (.iload_n 2, 1) := dk_28 (dk_at dksJ16_add_2_3 3 rfl rfl)
theorem dJ16_add_2_73 : decode cJ16_add_2 73 = .ok (.iaload, 1) := dk_46 (dk_at dksJ16_add_2_3 4 rfl rfl)
theorem dJ16_add_2_74 : decode cJ16_add_2 74 = .ok (.i2l, 1) := dk_133 (dk_at dksJ16_add_2_3 5 rfl rfl)
theorem dJ16_add_2_75 : decode cJ16_add_2 75 = .ok (.ldc2_w 130, 3) := dk_20 0 130 (dk_at dksJ16_add_2_3 6 rfl rfl)
theorem dJ16_add_2_78 : decode cJ16_add_2 78 = .ok (.land, 1) := dk_127 (dk_at dksJ16_add_2_3 9 rfl rfl)
theorem dJ16_add_2_79 : decode cJ16_add_2 79 = .ok (.aload_n 1, 1) := dk_43 (dk_at dksJ16_add_2_3 10 rfl rfl)
theorem dJ16_add_2_80 : decode cJ16_add_2 80 = .ok (.iinc 3 (-1), 3) := dk_132 3 255 (dk_at dksJ16_add_2_3 11 rfl rfl)
theorem dJ16_add_2_83 : decode cJ16_add_2 83 = .ok (.iload_n 3, 1) := dk_29 (dk_at dksJ16_add_2_3 14 rfl rfl)
theorem dJ16_add_2_84 : decode cJ16_add_2 84 = .ok (.iaload, 1) := dk_46 (dk_at dksJ16_add_2_3 15 rfl rfl)
theorem dJ16_add_2_85 : decode cJ16_add_2 85 = .ok (.i2l, 1) := dk_133 (dk_at dksJ16_add_2_3 16 rfl rfl)
theorem dJ16_add_2_86 : decode cJ16_add_2 86 = .ok (.ldc2_w 130, 3) := dk_20 0 130 (dk_at dksJ16_add_2_3 17 rfl rfl)
theorem dJ16_add_2_89 : decode cJ16_add_2 89 = .ok (.land, 1) := dk_127 (dk_at dksJ16_add_2_3 20 rfl rfl)
theorem dJ16_add_2_90 : decode cJ16_add_2 90 = .ok (.ladd, 1) := dk_97 (dk_at dksJ16_add_2_3 21 rfl rfl)
theorem dJ16_add_2_91 : decode cJ16_add_2 91 = .ok (.lload 5, 2) := dk_22 5 (dk_at dksJ16_add_2_3 22 rfl rfl)
theorem dJ16_add_2_93 : decode cJ16_add_2 93 = .ok (.bipush 32, 2) := dk_16 32 (dk_at dksJ16_add_2_4 0 rfl rfl)
theorem dJ16_add_2_95 : decode cJ16_add_2 95 = .ok (.lushr, 1) := dk_125 (dk_at dksJ16_add_2_4 2 rfl rfl)
theorem dJ16_add_2_96 : decode cJ16_add_2 96 = .ok (.ladd, 1) := dk_97 (dk_at dksJ16_add_2_4 3 rfl rfl)
theorem dJ16_add_2_97 : decode cJ16_add_2 97 = .ok (.lstore 5, 2) := dk_55 5 (dk_at dksJ16_add_2_4 4 rfl rfl)
theorem dJ16_add_2_99 : decode cJ16_add_2 99 = .ok (.aload 4, 2) := dk_25 4 (dk_at dksJ16_add_2_4 6 rfl rfl)
theorem dJ16_add_2_101 : decode cJ16_add_2 101 = .ok (.iload_n 2, 1) := dk_28 (dk_at dksJ16_add_2_4 8 rfl rfl)
theorem dJ16_add_2_102 : decode cJ16_add_2 102 = .ok (.lload 5, 2) := dk_22 5 (dk_at dksJ16_add_2_4 9 rfl rfl)
theorem dJ16_add_2_104 : decode cJ16_add_2 104 = .ok (.l2i, 1) := dk_136 (dk_at dksJ16_add_2_4 11 rfl rfl)
theorem dJ16_add_2_105 : decode cJ16_add_2 105 = .ok (.iastore, 1) := dk_79 (dk_at dksJ16_add_2_4 12 rfl rfl)
theorem dJ16_add_2_106 : decode cJ16_add_2 106 = .ok (.goto (-42), 3) := dk_167 255 214 (dk_at dksJ16_add_2_4 13 rfl rfl)
theorem dJ16_add_2_109 : decode cJ16_add_2 109 = .ok (.lload 5, 2) := dk_22 5 (dk_at dksJ16_add_2_4 16 rfl rfl)
theorem dJ16_add_2_111 : decode cJ16_add_2 111 = .ok (.bipush 32, 2) := dk_16 32 (dk_at dksJ16_add_2_4 18 rfl rfl)
theorem dJ16_add_2_113 : decode cJ16_add_2 113 = .ok (.lushr, 1) := dk_125 (dk_at dksJ16_add_2_4 20 rfl rfl)
theorem dJ16_add_2_114 : decode cJ16_add_2 114 = .ok (.lconst 0, 1) := dk_9 (dk_at dksJ16_add_2_4 21 rfl rfl)
theorem dJ16_add_2_115 : decode cJ16_add_2 115 = .ok (.lcmp, 1) := dk_148 (dk_at dksJ16_add_2_4 22 rfl rfl)
theorem dJ16_add_2_116 : decode cJ16_add_2 116 = .ok (.ifCond .eq 7, 3) := dk_153 0 7 (dk_at dksJ16_add_2_5 0 rfl rfl)
theorem dJ16_add_2_119 : decode cJ16_add_2 119 = .ok (.iconst 1, 1) := dk_4 (dk_at dksJ16_add_2_5 3 rfl rfl)
theorem dJ16_add_2_120 : decode cJ16_add_2 120 = .ok (.goto 4, 3) := dk_167 0 4 (dk_at dksJ16_add_2_5 4 rfl rfl)
theorem dJ16_add_2_123 : decode cJ16_add_2 123 = .ok (.iconst 0, 1) := dk_3 (dk_at dksJ16_add_2_5 7 rfl rfl)
theorem dJ16_add_2_124 : decode cJ16_add_2 124 = .ok (.istore 7, 2) := dk_54 7 (dk_at dksJ16_add_2_5 8 rfl rfl)
theorem dJ16_add_2_126 : decode cJ16_add_2 126 = .ok (.iload_n 2, 1) := dk_28 (dk_at dksJ16_add_2_5 10 rfl rfl)
theorem dJ16_add_2_127 : decode cJ16_add_2 127 = .ok (.ifCond .le 34, 3) := dk_158 0 34 (dk_at dksJ16_add_2_5 11 rfl rfl)
theorem dJ16_add_2_130 : decode cJ16_add_2 130 = .ok (.iload 7, 2) := dk_21 7 (dk_at dksJ16_add_2_5 14 rfl rfl)
theorem dJ16_add_2_132 : decode cJ16_add_2 132 = .ok (.ifCond .eq 29, 3) := dk_153 0 29 (dk_at dksJ16_add_2_5 16 rfl rfl)
theorem dJ16_add_2_135 : decode cJ16_add_2 135 = .ok (.aload 4, 2) := dk_25 4 (dk_at dksJ16_add_2_5 19 rfl rfl)
theorem dJ16_add_2_137 : decode cJ16_add_2 137 = .ok (.iinc 2 (-1), 3) := dk_132 2 255 (dk_at dksJ16_add_2_5 21 rfl rfl)
theorem dJ16_add_2_140 : decode cJ16_add_2 140 = .ok (.iload_n 2, 1) := dk_28 (dk_at dksJ16_add_2_6 0 rfl rfl)
theorem dJ16_add_2_141 : decode cJ16_add_2 141 = .ok (.aload_n 0, 1) := dk_42 (dk_at dksJ16_add_2_6 1 rfl rfl)
theorem dJ16_add_2_142 : decode cJ16_add_2 142 = .ok (.iload_n 2, 1) := dk_28 (dk_at dksJ16_add_2_6 2 rfl rfl)
theorem dJ16_add_2_143 : decode cJ16_add_2 143 = .ok (.iaload, 1) := dk_46 (dk_at dksJ16_add_2_6 3 rfl rfl)
theorem dJ16_add_2_144 : decode cJ16_add_2 144 = .ok (.iconst 1, 1) := dk_4 (dk_at dksJ16_add_2_6 4 rfl rfl)
theorem dJ16_add_2_145 : decode cJ16_add_2 145 = .ok (.iadd, 1) := dk_96 (dk_at dksJ16_add_2_6 5 rfl rfl)
theorem dJ16_add_2_146 : decode cJ16_add_2 146 = .ok (.dup_x2, 1) := dk_91 (dk_at dksJ16_add_2_6 6 rfl rfl)
theorem dJ16_add_2_147 : decode cJ16_add_2 147 = .ok (.iastore, 1) := dk_79 (dk_at dksJ16_add_2_6 7 rfl rfl)
theorem dJ16_add_2_148 : decode cJ16_add_2 148 = .ok (.ifCond .ne 7, 3) := dk_154 0 7 (dk_at dksJ16_add_2_6 8 rfl rfl)
theorem dJ16_add_2_151 : decode cJ16_add_2 151 = .ok (.iconst 1, 1) := dk_4 (dk_at dksJ16_add_2_6 11 rfl rfl)
theorem dJ16_add_2_152 : decode cJ16_add_2 152 = .ok (.goto 4, 3) := dk_167 0 4 (dk_at dksJ16_add_2_6 12 rfl rfl)
theorem dJ16_add_2_155 : decode cJ16_add_2 155 = .ok (.iconst 0, 1) := dk_3 (dk_at dksJ16_add_2_6 15 rfl rfl)
theorem dJ16_add_2_156 : decode cJ16_add_2 156 = .ok (.istore 7, 2) := dk_54 7 (dk_at dksJ16_add_2_6 16 rfl rfl)
theorem dJ16_add_2_158 : decode cJ16_add_2 158 = .ok (.goto (-32), 3) := dk_167 255 224 (dk_at dksJ16_add_2_6 18 rfl rfl)
theorem dJ16_add_2_161 : decode cJ16_add_2 161 = .ok (.iload_n 2, 1) := dk_28 (dk_at dksJ16_add_2_6 21 rfl rfl)
theorem dJ16_add_2_162 : decode cJ16_add_2 162 = .ok (.ifCond .le 16, 3) := dk_158 0 16 (dk_at dksJ16_add_2_7 0 rfl rfl)
theorem dJ16_add_2_165 : decode cJ16_add_2 165 = .ok (.aload 4, 2) := dk_25 4 (dk_at dksJ16_add_2_7 3 rfl rfl)
theorem dJ16_add_2_167 : decode cJ16_add_2 167 = .ok (.iinc 2 (-1), 3) := dk_132 2 255 (dk_at dksJ16_add_2_7 5 rfl rfl)
theorem dJ16_add_2_170 : decode cJ16_add_2 170 = .ok (.iload_n 2, 1) := dk_28 (dk_at dksJ16_add_2_7 8 rfl rfl)
theorem dJ16_add_2_171 : decode cJ16_add_2 171 = .ok (.aload_n 0, 1) := dk_42 (dk_at dksJ16_add_2_7 9 rfl rfl)
theorem dJ16_add_2_172 : decode cJ16_add_2 172 = .ok (.iload_n 2, 1) := dk_28 (dk_at dksJ16_add_2_7 10 rfl rfl)
theorem dJ16_add_2_173 : decode cJ16_add_2 173 = .ok (.iaload, 1) := dk_46 (dk_at dksJ16_add_2_7 11 rfl rfl)
theorem dJ16_add_2_174 : decode cJ16_add_2 174 = .ok (.iastore, 1) := dk_79 (dk_at dksJ16_add_2_7 12 rfl rfl)
theorem dJ16_add_2_175 : decode cJ16_add_2 175 = .ok (.goto (-14), 3) := dk_167 255 242 (dk_at dksJ16_add_2_7 13 rfl rfl)
theorem dJ16_add_2_178 : decode cJ16_add_2 178 = .ok (.iload 7, 2) := dk_21 7 (dk_at dksJ16_add_2_7 16 rfl rfl)
theorem dJ16_add_2_180 : decode cJ16_add_2 180 = .ok (.ifCond .eq 32, 3) := dk_153 0 32 (dk_at dksJ16_add_2_7 18 rfl rfl)
theorem dJ16_add_2_183 : decode cJ16_add_2 183 = .ok (.aload 4, 2) := dk_25 4 (dk_at dksJ16_add_2_7 21 rfl rfl)
theorem dJ16_add_2_185 : decode cJ16_add_2 185 = .ok (.arraylength, 1) := dk_190 (dk_at dksJ16_add_2_7 23 rfl rfl)
theorem dJ16_add_2_186 : decode cJ16_add_2 186 = .ok (.iconst 1, 1) := dk_4 (dk_at dksJ16_add_2_8 0 rfl rfl)
theorem dJ16_add_2_187 : decode cJ16_add_2 187 = .ok (.iadd, 1) := dk_96 (dk_at dksJ16_add_2_8 1 rfl rfl)
theorem dJ16_add_2_188 : decode cJ16_add_2 188 = .ok (.newarray .int, 2) := dk_188_10 (dk_at dksJ16_add_2_8 2 rfl rfl)
theorem dJ16_add_2_190 : decode cJ16_add_2 190 = .ok (.astore 8, 2) := dk_58 8 (dk_at dksJ16_add_2_8 4 rfl rfl)
theorem dJ16_add_2_192 : decode cJ16_add_2 192 = .ok (.aload 4, 2) := dk_25 4 (dk_at dksJ16_add_2_8 6 rfl rfl)
theorem dJ16_add_2_194 : decode cJ16_add_2 194 = .ok (.iconst 0, 1) := dk_3 (dk_at dksJ16_add_2_8 8 rfl rfl)
theorem dJ16_add_2_195 : decode cJ16_add_2 195 = .ok (.aload 8, 2) := dk_25 8 (dk_at dksJ16_add_2_8 9 rfl rfl)
theorem dJ16_add_2_197 : decode cJ16_add_2 197 = .ok (.iconst 1, 1) := dk_4 (dk_at dksJ16_add_2_8 11 rfl rfl)
theorem dJ16_add_2_198 : decode cJ16_add_2 198 = .ok (.aload 4, 2) := dk_25 4 (dk_at dksJ16_add_2_8 12 rfl rfl)
theorem dJ16_add_2_200 : decode cJ16_add_2 200 = .ok (.arraylength, 1) := dk_190 (dk_at dksJ16_add_2_8 14 rfl rfl)
theorem dJ16_add_2_201 : decode cJ16_add_2 201 = .ok (.invokestatic 388, 3) := dk_184 1 132 (dk_at dksJ16_add_2_8 15 rfl rfl)
theorem dJ16_add_2_204 : decode cJ16_add_2 204 = .ok (.aload 8, 2) := dk_25 8 (dk_at dksJ16_add_2_8 18 rfl rfl)
theorem dJ16_add_2_206 : decode cJ16_add_2 206 = .ok (.iconst 0, 1) := dk_3 (dk_at dksJ16_add_2_8 20 rfl rfl)
theorem dJ16_add_2_207 : decode cJ16_add_2 207 = .ok (.iconst 1, 1) := dk_4 (dk_at dksJ16_add_2_8 21 rfl rfl)
theorem dJ16_add_2_208 : decode cJ16_add_2 208 = .ok (.iastore, 1) := dk_79 (dk_at dksJ16_add_2_8 22 rfl rfl)
theorem dJ16_add_2_209 : decode cJ16_add_2 209 = .ok (.aload 8, 2) := dk_25 8 (dk_at dksJ16_add_2_9 0 rfl rfl)
theorem dJ16_add_2_211 : decode cJ16_add_2 211 = .ok (.areturn, 1) := dk_176 (dk_at dksJ16_add_2_9 2 rfl rfl)
theorem dJ16_add_2_212 : decode cJ16_add_2 212 = .ok (.aload 4, 2) := dk_25 4 (dk_at dksJ16_add_2_9 3 rfl rfl)
theorem dJ16_add_2_214 : decode cJ16_add_2 214 = .ok (.areturn, 1) := dk_176 (dk_at dksJ16_add_2_9 5 rfl rfl)
abbrev cJ16_subtract : ByteArray := prog_32_method_39_code
def yJ16_subtract : MethodName := ⟨RJ16, "subtract", "([I[I)[I"⟩
def dkwJ16_subtract_5 : List UInt8 := [132, 2, 255, 28, 42, 28, 46, 79, 167, 255, 243, 45, 176]
abbrev dktJ16_subtract_5 : List UInt8 := dkwJ16_subtract_5 ++ []
def dkwJ16_subtract_4 : List UInt8 := [100, 91, 79, 2, 160, 0, 7, 4, 167, 0, 4, 3, 54, 7, 167, 255, 224, 28, 158, 0, 15, 45]
abbrev dktJ16_subtract_4 : List UInt8 := dkwJ16_subtract_4 ++ dktJ16_subtract_5
def dkwJ16_subtract_3 : List UInt8 := [167, 0, 4, 3, 54, 7, 28, 158, 0, 34, 21, 7, 153, 0, 29, 45, 132, 2, 255, 28, 42, 28, 46, 4]
abbrev dktJ16_subtract_3 : List UInt8 := dkwJ16_subtract_3 ++ dktJ16_subtract_4
def dkwJ16_subtract_2 : List UInt8 := [97, 55, 5, 45, 28, 22, 5, 136, 79, 167, 255, 213, 22, 5, 16, 32, 123, 9, 148, 153, 0, 7, 4]
abbrev dktJ16_subtract_2 : List UInt8 := dkwJ16_subtract_2 ++ dktJ16_subtract_3
def dkwJ16_subtract_1 : List UInt8 := [46, 133, 20, 0, 130, 127, 43, 132, 4, 255, 21, 4, 46, 133, 20, 0, 130, 127, 101, 22, 5, 16, 32, 123]
abbrev dktJ16_subtract_1 : List UInt8 := dkwJ16_subtract_1 ++ dktJ16_subtract_2
def dkwJ16_subtract_0 : List UInt8 := [42, 190, 61, 28, 188, 10, 78, 43, 190, 54, 4, 9, 55, 5, 21, 4, 158, 0, 44, 42, 132, 2, 255, 28]
abbrev dktJ16_subtract_0 : List UInt8 := dkwJ16_subtract_0 ++ dktJ16_subtract_1
theorem dksJ16_subtract_0 : cJ16_subtract.data.toList.drop 0 = dktJ16_subtract_0 := by decide +kernel
theorem dksJ16_subtract_1 : cJ16_subtract.data.toList.drop 24 = dktJ16_subtract_1 := dk_seg dksJ16_subtract_0 24 rfl rfl
theorem dksJ16_subtract_2 : cJ16_subtract.data.toList.drop 48 = dktJ16_subtract_2 := dk_seg dksJ16_subtract_1 24 rfl rfl
theorem dksJ16_subtract_3 : cJ16_subtract.data.toList.drop 71 = dktJ16_subtract_3 := dk_seg dksJ16_subtract_2 23 rfl rfl
theorem dksJ16_subtract_4 : cJ16_subtract.data.toList.drop 95 = dktJ16_subtract_4 := dk_seg dksJ16_subtract_3 24 rfl rfl
theorem dksJ16_subtract_5 : cJ16_subtract.data.toList.drop 117 = dktJ16_subtract_5 := dk_seg dksJ16_subtract_4 22 rfl rfl
theorem dJ16_subtract_0 : decode cJ16_subtract 0 = .ok (.aload_n 0, 1) := dk_42 (dk_at dksJ16_subtract_0 0 rfl rfl)
theorem dJ16_subtract_1 : decode cJ16_subtract 1 = .ok (.arraylength, 1) := dk_190 (dk_at dksJ16_subtract_0 1 rfl rfl)
theorem dJ16_subtract_2 : decode cJ16_subtract 2 = .ok (.istore_n 2, 1) := dk_61 (dk_at dksJ16_subtract_0 2 rfl rfl)
theorem dJ16_subtract_3 : decode cJ16_subtract 3 = .ok (.iload_n 2, 1) := dk_28 (dk_at dksJ16_subtract_0 3 rfl rfl)
theorem dJ16_subtract_4 : decode cJ16_subtract 4 = .ok (.newarray .int, 2) := dk_188_10 (dk_at dksJ16_subtract_0 4 rfl rfl)
theorem dJ16_subtract_6 : decode cJ16_subtract 6 = .ok (.astore_n 3, 1) := dk_78 (dk_at dksJ16_subtract_0 6 rfl rfl)
theorem dJ16_subtract_7 : decode cJ16_subtract 7 = .ok (.aload_n 1, 1) := dk_43 (dk_at dksJ16_subtract_0 7 rfl rfl)
theorem dJ16_subtract_8 : decode cJ16_subtract 8 = .ok (.arraylength, 1) := dk_190 (dk_at dksJ16_subtract_0 8 rfl rfl)
theorem dJ16_subtract_9 : decode cJ16_subtract 9 = .ok (.istore 4, 2) := dk_54 4 (dk_at dksJ16_subtract_0 9 rfl rfl)
theorem dJ16_subtract_11 : decode cJ16_subtract 11 = .ok (.lconst 0, 1) := dk_9 (dk_at dksJ16_subtract_0 11 rfl rfl)
theorem dJ16_subtract_12 : decode cJ16_subtract 12 = .ok (.lstore 5, 2) := dk_55 5 (dk_at dksJ16_subtract_0 12 rfl rfl)
theorem dJ16_subtract_14 : decode cJ16_subtract 14 = .ok (.iload 4, 2) := dk_21 4 (dk_at dksJ16_subtract_0 14 rfl rfl)
theorem dJ16_subtract_16 : decode cJ16_subtract 16 = .ok (.ifCond .le 44, 3) := dk_158 0 44 (dk_at dksJ16_subtract_0 16 rfl rfl)
theorem dJ16_subtract_19 : decode cJ16_subtract 19 = .ok (.aload_n 0, 1) := dk_42 (dk_at dksJ16_subtract_0 19 rfl rfl)
theorem dJ16_subtract_20 : decode cJ16_subtract 20 = .ok (.iinc 2 (-1), 3) := dk_132 2 255 (dk_at dksJ16_subtract_0 20 rfl rfl)
theorem dJ16_subtract_23 : decode cJ16_subtract 23 = .ok (.iload_n 2, 1) := dk_28 (dk_at dksJ16_subtract_0 23 rfl rfl)
theorem dJ16_subtract_24 : decode cJ16_subtract 24 = .ok (.iaload, 1) := dk_46 (dk_at dksJ16_subtract_1 0 rfl rfl)
theorem dJ16_subtract_25 : decode cJ16_subtract 25 = .ok (.i2l, 1) := dk_133 (dk_at dksJ16_subtract_1 1 rfl rfl)
theorem dJ16_subtract_26 : decode cJ16_subtract 26 = .ok (.ldc2_w 130, 3) := dk_20 0 130 (dk_at dksJ16_subtract_1 2 rfl rfl)
theorem dJ16_subtract_29 : decode cJ16_subtract 29 = .ok (.land, 1) := dk_127 (dk_at dksJ16_subtract_1 5 rfl rfl)
theorem dJ16_subtract_30 : decode cJ16_subtract 30 = .ok (.aload_n 1, 1) := dk_43 (dk_at dksJ16_subtract_1 6 rfl rfl)
theorem dJ16_subtract_31 : decode cJ16_subtract 31 = .ok (.iinc 4 (-1), 3) := dk_132 4 255 (dk_at dksJ16_subtract_1 7 rfl rfl)
theorem dJ16_subtract_34 : decode cJ16_subtract 34 = .ok (.iload 4, 2) := dk_21 4 (dk_at dksJ16_subtract_1 10 rfl rfl)
theorem dJ16_subtract_36 : decode cJ16_subtract 36 = .ok (.iaload, 1) := dk_46 (dk_at dksJ16_subtract_1 12 rfl rfl)
theorem dJ16_subtract_37 : decode cJ16_subtract 37 = .ok (.i2l, 1) := dk_133 (dk_at dksJ16_subtract_1 13 rfl rfl)
theorem dJ16_subtract_38 : decode cJ16_subtract 38 = .ok (.ldc2_w 130, 3) := dk_20 0 130 (dk_at dksJ16_subtract_1 14 rfl rfl)
theorem dJ16_subtract_41 : decode cJ16_subtract 41 = .ok (.land, 1) := dk_127 (dk_at dksJ16_subtract_1 17 rfl rfl)
theorem dJ16_subtract_42 : decode cJ16_subtract 42 = .ok (.lsub, 1) := dk_101 (dk_at dksJ16_subtract_1 18 rfl rfl)
theorem dJ16_subtract_43 : decode cJ16_subtract 43 = .ok (.lload 5, 2) := dk_22 5 (dk_at dksJ16_subtract_1 19 rfl rfl)
theorem dJ16_subtract_45 : decode cJ16_subtract 45 = .ok (.bipush 32, 2) := dk_16 32 (dk_at dksJ16_subtract_1 21 rfl rfl)
theorem dJ16_subtract_47 : decode cJ16_subtract 47 = .ok (.lshr, 1) := dk_123 (dk_at dksJ16_subtract_1 23 rfl rfl)
theorem dJ16_subtract_48 : decode cJ16_subtract 48 = .ok (.ladd, 1) := dk_97 (dk_at dksJ16_subtract_2 0 rfl rfl)
theorem dJ16_subtract_49 : decode cJ16_subtract 49 = .ok (.lstore 5, 2) := dk_55 5 (dk_at dksJ16_subtract_2 1 rfl rfl)
theorem dJ16_subtract_51 : decode cJ16_subtract 51 = .ok (.aload_n 3, 1) := dk_45 (dk_at dksJ16_subtract_2 3 rfl rfl)
theorem dJ16_subtract_52 : decode cJ16_subtract 52 = .ok (.iload_n 2, 1) := dk_28 (dk_at dksJ16_subtract_2 4 rfl rfl)
theorem dJ16_subtract_53 : decode cJ16_subtract 53 = .ok (.lload 5, 2) := dk_22 5 (dk_at dksJ16_subtract_2 5 rfl rfl)
theorem dJ16_subtract_55 : decode cJ16_subtract 55 = .ok (.l2i, 1) := dk_136 (dk_at dksJ16_subtract_2 7 rfl rfl)
theorem dJ16_subtract_56 : decode cJ16_subtract 56 = .ok (.iastore, 1) := dk_79 (dk_at dksJ16_subtract_2 8 rfl rfl)
theorem dJ16_subtract_57 : decode cJ16_subtract 57 = .ok (.goto (-43), 3) := dk_167 255 213 (dk_at dksJ16_subtract_2 9 rfl rfl)
theorem dJ16_subtract_60 : decode cJ16_subtract 60 = .ok (.lload 5, 2) := dk_22 5 (dk_at dksJ16_subtract_2 12 rfl rfl)
theorem dJ16_subtract_62 : decode cJ16_subtract 62 = .ok (.bipush 32, 2) := dk_16 32 (dk_at dksJ16_subtract_2 14 rfl rfl)
theorem dJ16_subtract_64 : decode cJ16_subtract 64 = .ok (.lshr, 1) := dk_123 (dk_at dksJ16_subtract_2 16 rfl rfl)
theorem dJ16_subtract_65 : decode cJ16_subtract 65 = .ok (.lconst 0, 1) := dk_9 (dk_at dksJ16_subtract_2 17 rfl rfl)
theorem dJ16_subtract_66 : decode cJ16_subtract 66 = .ok (.lcmp, 1) := dk_148 (dk_at dksJ16_subtract_2 18 rfl rfl)
theorem dJ16_subtract_67 : decode cJ16_subtract 67 = .ok (.ifCond .eq 7, 3) := dk_153 0 7 (dk_at dksJ16_subtract_2 19 rfl rfl)
theorem dJ16_subtract_70 : decode cJ16_subtract 70 = .ok (.iconst 1, 1) := dk_4 (dk_at dksJ16_subtract_2 22 rfl rfl)
theorem dJ16_subtract_71 : decode cJ16_subtract 71 = .ok (.goto 4, 3) := dk_167 0 4 (dk_at dksJ16_subtract_3 0 rfl rfl)
theorem dJ16_subtract_74 : decode cJ16_subtract 74 = .ok (.iconst 0, 1) := dk_3 (dk_at dksJ16_subtract_3 3 rfl rfl)
theorem dJ16_subtract_75 : decode cJ16_subtract 75 = .ok (.istore 7, 2) := dk_54 7 (dk_at dksJ16_subtract_3 4 rfl rfl)
theorem dJ16_subtract_77 : decode cJ16_subtract 77 = .ok (.iload_n 2, 1) := dk_28 (dk_at dksJ16_subtract_3 6 rfl rfl)
theorem dJ16_subtract_78 : decode cJ16_subtract 78 = .ok (.ifCond .le 34, 3) := dk_158 0 34 (dk_at dksJ16_subtract_3 7 rfl rfl)
theorem dJ16_subtract_81 : decode cJ16_subtract 81 = .ok (.iload 7, 2) := dk_21 7 (dk_at dksJ16_subtract_3 10 rfl rfl)
theorem dJ16_subtract_83 : decode cJ16_subtract 83 = .ok (.ifCond .eq 29, 3) := dk_153 0 29 (dk_at dksJ16_subtract_3 12 rfl rfl)
theorem dJ16_subtract_86 : decode cJ16_subtract 86 = .ok (.aload_n 3, 1) := dk_45 (dk_at dksJ16_subtract_3 15 rfl rfl)
theorem dJ16_subtract_87 : decode cJ16_subtract 87 = .ok (.iinc 2 (-1), 3) := dk_132 2 255 (dk_at dksJ16_subtract_3 16 rfl rfl)
theorem dJ16_subtract_90 : decode cJ16_subtract 90 = .ok (.iload_n 2, 1) := dk_28 (dk_at dksJ16_subtract_3 19 rfl rfl)
theorem dJ16_subtract_91 : decode cJ16_subtract 91 = .ok (.aload_n 0, 1) := dk_42 (dk_at dksJ16_subtract_3 20 rfl rfl)
theorem dJ16_subtract_92 : decode cJ16_subtract 92 = .ok (.iload_n 2, 1) := dk_28 (dk_at dksJ16_subtract_3 21 rfl rfl)
theorem dJ16_subtract_93 : decode cJ16_subtract 93 = .ok (.iaload, 1) := dk_46 (dk_at dksJ16_subtract_3 22 rfl rfl)
theorem dJ16_subtract_94 : decode cJ16_subtract 94 = .ok (.iconst 1, 1) := dk_4 (dk_at dksJ16_subtract_3 23 rfl rfl)
theorem dJ16_subtract_95 : decode cJ16_subtract 95 = .ok (.isub, 1) := dk_100 (dk_at dksJ16_subtract_4 0 rfl rfl)
theorem dJ16_subtract_96 : decode cJ16_subtract 96 = .ok (.dup_x2, 1) := dk_91 (dk_at dksJ16_subtract_4 1 rfl rfl)
theorem dJ16_subtract_97 : decode cJ16_subtract 97 = .ok (.iastore, 1) := dk_79 (dk_at dksJ16_subtract_4 2 rfl rfl)
theorem dJ16_subtract_98 : decode cJ16_subtract 98 = .ok (.iconst (-1), 1) := dk_2 (dk_at dksJ16_subtract_4 3 rfl rfl)
theorem dJ16_subtract_99 : decode cJ16_subtract 99 = .ok (.if_icmp .ne 7, 3) := dk_160 0 7 (dk_at dksJ16_subtract_4 4 rfl rfl)
theorem dJ16_subtract_102 : decode cJ16_subtract 102 = .ok (.iconst 1, 1) := dk_4 (dk_at dksJ16_subtract_4 7 rfl rfl)
theorem dJ16_subtract_103 : decode cJ16_subtract 103 = .ok (.goto 4, 3) := dk_167 0 4 (dk_at dksJ16_subtract_4 8 rfl rfl)
theorem dJ16_subtract_106 : decode cJ16_subtract 106 = .ok (.iconst 0, 1) := dk_3 (dk_at dksJ16_subtract_4 11 rfl rfl)
theorem dJ16_subtract_107 : decode cJ16_subtract 107 = .ok (.istore 7, 2) := dk_54 7 (dk_at dksJ16_subtract_4 12 rfl rfl)
theorem dJ16_subtract_109 : decode cJ16_subtract 109 = .ok (.goto (-32), 3) := dk_167 255 224 (dk_at dksJ16_subtract_4 14 rfl rfl)
theorem dJ16_subtract_112 : decode cJ16_subtract 112 = .ok (.iload_n 2, 1) := dk_28 (dk_at dksJ16_subtract_4 17 rfl rfl)
theorem dJ16_subtract_113 : decode cJ16_subtract 113 = .ok (.ifCond .le 15, 3) := dk_158 0 15 (dk_at dksJ16_subtract_4 18 rfl rfl)
theorem dJ16_subtract_116 : decode cJ16_subtract 116 = .ok (.aload_n 3, 1) := dk_45 (dk_at dksJ16_subtract_4 21 rfl rfl)
theorem dJ16_subtract_117 : decode cJ16_subtract 117 = .ok (.iinc 2 (-1), 3) := dk_132 2 255 (dk_at dksJ16_subtract_5 0 rfl rfl)
theorem dJ16_subtract_120 : decode cJ16_subtract 120 = .ok (.iload_n 2, 1) := dk_28 (dk_at dksJ16_subtract_5 3 rfl rfl)
theorem dJ16_subtract_121 : decode cJ16_subtract 121 = .ok (.aload_n 0, 1) := dk_42 (dk_at dksJ16_subtract_5 4 rfl rfl)
theorem dJ16_subtract_122 : decode cJ16_subtract 122 = .ok (.iload_n 2, 1) := dk_28 (dk_at dksJ16_subtract_5 5 rfl rfl)
theorem dJ16_subtract_123 : decode cJ16_subtract 123 = .ok (.iaload, 1) := dk_46 (dk_at dksJ16_subtract_5 6 rfl rfl)
theorem dJ16_subtract_124 : decode cJ16_subtract 124 = .ok (.iastore, 1) := dk_79 (dk_at dksJ16_subtract_5 7 rfl rfl)
theorem dJ16_subtract_125 : decode cJ16_subtract 125 = .ok (.goto (-13), 3) := dk_167 255 243 (dk_at dksJ16_subtract_5 8 rfl rfl)
theorem dJ16_subtract_128 : decode cJ16_subtract 128 = .ok (.aload_n 3, 1) := dk_45 (dk_at dksJ16_subtract_5 11 rfl rfl)
theorem dJ16_subtract_129 : decode cJ16_subtract 129 = .ok (.areturn, 1) := dk_176 (dk_at dksJ16_subtract_5 12 rfl rfl)
abbrev cJ16_trustedStripLeadingZeroInts : ByteArray := prog_32_method_140_code
def yJ16_trustedStripLeadingZeroInts : MethodName := ⟨RJ16, "trustedStripLeadingZeroInts", "([I)[I"⟩
def dkwJ16_trustedStripLeadingZeroInts_1 : List UInt8 := [154, 0, 7, 42, 167, 0, 9, 42, 28, 27, 184, 1, 177, 176]
abbrev dktJ16_trustedStripLeadingZeroInts_1 : List UInt8 := dkwJ16_trustedStripLeadingZeroInts_1 ++ []
def dkwJ16_trustedStripLeadingZeroInts_0 : List UInt8 := [42, 190, 60, 3, 61, 28, 27, 162, 0, 15, 42, 28, 46, 154, 0, 9, 132, 2, 1, 167, 255, 242, 28]
abbrev dktJ16_trustedStripLeadingZeroInts_0 : List UInt8 := dkwJ16_trustedStripLeadingZeroInts_0 ++ dktJ16_trustedStripLeadingZeroInts_1
theorem dksJ16_trustedStripLeadingZeroInts_0 : cJ16_trustedStripLeadingZeroInts.data.toList.drop 0 = dktJ16_trustedStripLeadingZeroInts_0 := by decide +kernel
theorem dksJ16_trustedStripLeadingZeroInts_1 : cJ16_trustedStripLeadingZeroInts.data.toList.drop 23 = dktJ16_trustedStripLeadingZeroInts_1 := dk_seg dksJ16_trustedStripLeadingZeroInts_0 23 rfl rfl
theorem dJ16_trustedStripLeadingZeroInts_0 : decode cJ16_trustedStripLeadingZeroInts 0 = .ok (.aload_n 0, 1) := dk_42 (dk_at dksJ16_trustedStripLeadingZeroInts_0 0 rfl rfl)
theorem dJ16_trustedStripLeadingZeroInts_1 : decode cJ16_trustedStripLeadingZeroInts 1 = .ok (.arraylength, 1) := dk_190 (dk_at dksJ16_trustedStripLeadingZeroInts_0 1 rfl rfl)
theorem dJ16_trustedStripLeadingZeroInts_2 : decode cJ16_trustedStripLeadingZeroInts 2 = .ok (.istore_n 1, 1) := dk_60 (dk_at dksJ16_trustedStripLeadingZeroInts_0 2 rfl rfl)
theorem dJ16_trustedStripLeadingZeroInts_3 : decode cJ16_trustedStripLeadingZeroInts 3 = .ok (.iconst 0, 1) := dk_3 (dk_at dksJ16_trustedStripLeadingZeroInts_0 3 rfl rfl)
theorem dJ16_trustedStripLeadingZeroInts_4 : decode cJ16_trustedStripLeadingZeroInts 4 = .ok (.istore_n 2, 1) := dk_61 (dk_at dksJ16_trustedStripLeadingZeroInts_0 4 rfl rfl)
theorem dJ16_trustedStripLeadingZeroInts_5 : decode cJ16_trustedStripLeadingZeroInts 5 = .ok (.iload_n 2, 1) := dk_28 (dk_at dksJ16_trustedStripLeadingZeroInts_0 5 rfl rfl)
theorem dJ16_trustedStripLeadingZeroInts_6 : decode cJ16_trustedStripLeadingZeroInts 6 = .ok (.iload_n 1, 1) := dk_27 (dk_at dksJ16_trustedStripLeadingZeroInts_0 6 rfl rfl)
theorem dJ16_trustedStripLeadingZeroInts_7 : decode cJ16_trustedStripLeadingZeroInts 7 = .ok (.if_icmp .ge 15, 3) := dk_162 0 15 (dk_at dksJ16_trustedStripLeadingZeroInts_0 7 rfl rfl)
theorem dJ16_trustedStripLeadingZeroInts_10 : decode cJ16_trustedStripLeadingZeroInts 10 = .ok (.aload_n 0, 1) := dk_42 (dk_at dksJ16_trustedStripLeadingZeroInts_0 10 rfl rfl)
theorem dJ16_trustedStripLeadingZeroInts_11 : decode cJ16_trustedStripLeadingZeroInts 11 = .ok (.iload_n 2, 1) := dk_28 (dk_at dksJ16_trustedStripLeadingZeroInts_0 11 rfl rfl)
theorem dJ16_trustedStripLeadingZeroInts_12 : decode cJ16_trustedStripLeadingZeroInts 12 = .ok (.iaload, 1) := dk_46 (dk_at dksJ16_trustedStripLeadingZeroInts_0 12 rfl rfl)
theorem dJ16_trustedStripLeadingZeroInts_13 : decode cJ16_trustedStripLeadingZeroInts 13 = .ok (.ifCond .ne 9, 3) := dk_154 0 9 (dk_at dksJ16_trustedStripLeadingZeroInts_0 13 rfl rfl)
theorem dJ16_trustedStripLeadingZeroInts_16 : decode cJ16_trustedStripLeadingZeroInts 16 = .ok (.iinc 2 1, 3) := dk_132 2 1 (dk_at dksJ16_trustedStripLeadingZeroInts_0 16 rfl rfl)
theorem dJ16_trustedStripLeadingZeroInts_19 : decode cJ16_trustedStripLeadingZeroInts 19 = .ok (.goto (-14), 3) := dk_167 255 242 (dk_at dksJ16_trustedStripLeadingZeroInts_0 19 rfl rfl)
theorem dJ16_trustedStripLeadingZeroInts_22 : decode cJ16_trustedStripLeadingZeroInts 22 = .ok (.iload_n 2, 1) := dk_28 (dk_at dksJ16_trustedStripLeadingZeroInts_0 22 rfl rfl)
theorem dJ16_trustedStripLeadingZeroInts_23 : decode cJ16_trustedStripLeadingZeroInts 23 = .ok (.ifCond .ne 7, 3) := dk_154 0 7 (dk_at dksJ16_trustedStripLeadingZeroInts_1 0 rfl rfl)
theorem dJ16_trustedStripLeadingZeroInts_26 : decode cJ16_trustedStripLeadingZeroInts 26 = .ok (.aload_n 0, 1) := dk_42 (dk_at dksJ16_trustedStripLeadingZeroInts_1 3 rfl rfl)
theorem dJ16_trustedStripLeadingZeroInts_27 : decode cJ16_trustedStripLeadingZeroInts 27 = .ok (.goto 9, 3) := dk_167 0 9 (dk_at dksJ16_trustedStripLeadingZeroInts_1 4 rfl rfl)
theorem dJ16_trustedStripLeadingZeroInts_30 : decode cJ16_trustedStripLeadingZeroInts 30 = .ok (.aload_n 0, 1) := dk_42 (dk_at dksJ16_trustedStripLeadingZeroInts_1 7 rfl rfl)
theorem dJ16_trustedStripLeadingZeroInts_31 : decode cJ16_trustedStripLeadingZeroInts 31 = .ok (.iload_n 2, 1) := dk_28 (dk_at dksJ16_trustedStripLeadingZeroInts_1 8 rfl rfl)
theorem dJ16_trustedStripLeadingZeroInts_32 : decode cJ16_trustedStripLeadingZeroInts 32 = .ok (.iload_n 1, 1) := dk_27 (dk_at dksJ16_trustedStripLeadingZeroInts_1 9 rfl rfl)
theorem dJ16_trustedStripLeadingZeroInts_33 : decode cJ16_trustedStripLeadingZeroInts 33 = .ok (.invokestatic 433, 3) := dk_184 1 177 (dk_at dksJ16_trustedStripLeadingZeroInts_1 10 rfl rfl)
theorem dJ16_trustedStripLeadingZeroInts_36 : decode cJ16_trustedStripLeadingZeroInts 36 = .ok (.areturn, 1) := dk_176 (dk_at dksJ16_trustedStripLeadingZeroInts_1 13 rfl rfl)
abbrev cJ16_multiply : ByteArray := prog_32_method_40_code
def yJ16_multiply : MethodName := ⟨RJ16, "multiply", "(Ljava/math/BigInteger;)Ljava/math/BigInteger;"⟩
def dkwJ16_multiply_0 : List UInt8 := [42, 43, 3, 3, 3, 182, 1, 141, 176]
abbrev dktJ16_multiply_0 : List UInt8 := dkwJ16_multiply_0 ++ []
theorem dksJ16_multiply_0 : cJ16_multiply.data.toList.drop 0 = dktJ16_multiply_0 := by decide +kernel
theorem dJ16_multiply_0 : decode cJ16_multiply 0 = .ok (.aload_n 0, 1) := dk_42 (dk_at dksJ16_multiply_0 0 rfl rfl)
theorem dJ16_multiply_1 : decode cJ16_multiply 1 = .ok (.aload_n 1, 1) := dk_43 (dk_at dksJ16_multiply_0 1 rfl rfl)
theorem dJ16_multiply_2 : decode cJ16_multiply 2 = .ok (.iconst 0, 1) := dk_3 (dk_at dksJ16_multiply_0 2 rfl rfl)
theorem dJ16_multiply_3 : decode cJ16_multiply 3 = .ok (.iconst 0, 1) := dk_3 (dk_at dksJ16_multiply_0 3 rfl rfl)
theorem dJ16_multiply_4 : decode cJ16_multiply 4 = .ok (.iconst 0, 1) := dk_3 (dk_at dksJ16_multiply_0 4 rfl rfl)
theorem dJ16_multiply_5 : decode cJ16_multiply 5 = .ok (.invokevirtual 397, 3) := dk_182 1 141 (dk_at dksJ16_multiply_0 5 rfl rfl)
theorem dJ16_multiply_8 : decode cJ16_multiply 8 = .ok (.areturn, 1) := dk_176 (dk_at dksJ16_multiply_0 8 rfl rfl)
abbrev cJ16_multiply_2 : ByteArray := prog_32_method_42_code
def yJ16_multiply_2 : MethodName := ⟨RJ16, "multiply", "(Ljava/math/BigInteger;ZZI)Ljava/math/BigInteger;"⟩
def dkwJ16_multiply_2_10 : List UInt8 := [43, 29, 21, 4, 184, 1, 163, 176]
abbrev dktJ16_multiply_2_10 : List UInt8 := dkwJ16_multiply_2_10 ++ []
def dkwJ16_multiply_2_9 : List UInt8 := [180, 0, 28, 43, 180, 0, 28, 190, 184, 1, 158, 133, 97, 20, 1, 161, 148, 158, 0, 6, 184, 0, 101, 42]
abbrev dktJ16_multiply_2_9 : List UInt8 := dkwJ16_multiply_2_9 ++ dktJ16_multiply_2_10
def dkwJ16_multiply_2_8 : List UInt8 := [184, 1, 155, 176, 28, 154, 0, 40, 42, 180, 0, 28, 42, 180, 0, 28, 190, 184, 1, 158, 133, 43]
abbrev dktJ16_multiply_2_8 : List UInt8 := dkwJ16_multiply_2_8 ++ dktJ16_multiply_2_9
def dkwJ16_multiply_2_7 : List UInt8 := [21, 7, 183, 0, 175, 176, 21, 5, 17, 0, 240, 162, 0, 17, 21, 6, 17, 0, 240, 162, 0, 9, 42, 43]
abbrev dktJ16_multiply_2_7 : List UInt8 := dkwJ16_multiply_2_7 ++ dktJ16_multiply_2_8
def dkwJ16_multiply_2_6 : List UInt8 := [180, 0, 28, 21, 6, 1, 184, 1, 151, 58, 8, 25, 8, 184, 0, 53, 58, 8, 187, 0, 23, 89, 25, 8]
abbrev dktJ16_multiply_2_6 : List UInt8 := dkwJ16_multiply_2_6 ++ dktJ16_multiply_2_7
def dkwJ16_multiply_2_5 : List UInt8 := [43, 180, 0, 28, 42, 180, 0, 28, 3, 46, 21, 7, 184, 1, 147, 176, 42, 180, 0, 28, 21, 5, 43]
abbrev dktJ16_multiply_2_5 : List UInt8 := dkwJ16_multiply_2_5 ++ dktJ16_multiply_2_6
def dkwJ16_multiply_2_4 : List UInt8 := [180, 0, 28, 43, 180, 0, 28, 3, 46, 21, 7, 184, 1, 147, 176, 42, 180, 0, 28, 190, 4, 160, 0, 19]
abbrev dktJ16_multiply_2_4 : List UInt8 := dkwJ16_multiply_2_4 ++ dktJ16_multiply_2_5
def dkwJ16_multiply_2_3 : List UInt8 := [43, 180, 0, 32, 160, 0, 7, 4, 167, 0, 4, 2, 54, 7, 43, 180, 0, 28, 190, 4, 160, 0, 19, 42]
abbrev dktJ16_multiply_2_3 : List UInt8 := dkwJ16_multiply_2_3 ++ dktJ16_multiply_2_4
def dkwJ16_multiply_2_2 : List UInt8 := [180, 0, 28, 190, 54, 6, 21, 5, 16, 80, 161, 0, 10, 21, 6, 16, 80, 162, 0, 108, 42, 180, 0, 32]
abbrev dktJ16_multiply_2_2 : List UInt8 := dkwJ16_multiply_2_2 ++ dktJ16_multiply_2_3
def dkwJ16_multiply_2_1 : List UInt8 := [54, 5, 43, 42, 166, 0, 19, 21, 5, 16, 20, 164, 0, 12, 42, 4, 29, 21, 4, 182, 1, 144, 176, 43]
abbrev dktJ16_multiply_2_1 : List UInt8 := dkwJ16_multiply_2_1 ++ dktJ16_multiply_2_2
def dkwJ16_multiply_2_0 : List UInt8 := [43, 180, 0, 32, 153, 0, 10, 42, 180, 0, 32, 154, 0, 7, 178, 0, 22, 176, 42, 180, 0, 28, 190]
abbrev dktJ16_multiply_2_0 : List UInt8 := dkwJ16_multiply_2_0 ++ dktJ16_multiply_2_1
theorem dksJ16_multiply_2_0 : cJ16_multiply_2.data.toList.drop 0 = dktJ16_multiply_2_0 := by decide +kernel
theorem dksJ16_multiply_2_1 : cJ16_multiply_2.data.toList.drop 23 = dktJ16_multiply_2_1 := dk_seg dksJ16_multiply_2_0 23 rfl rfl
theorem dksJ16_multiply_2_2 : cJ16_multiply_2.data.toList.drop 47 = dktJ16_multiply_2_2 := dk_seg dksJ16_multiply_2_1 24 rfl rfl
theorem dksJ16_multiply_2_3 : cJ16_multiply_2.data.toList.drop 71 = dktJ16_multiply_2_3 := dk_seg dksJ16_multiply_2_2 24 rfl rfl
theorem dksJ16_multiply_2_4 : cJ16_multiply_2.data.toList.drop 95 = dktJ16_multiply_2_4 := dk_seg dksJ16_multiply_2_3 24 rfl rfl
theorem dksJ16_multiply_2_5 : cJ16_multiply_2.data.toList.drop 119 = dktJ16_multiply_2_5 := dk_seg dksJ16_multiply_2_4 24 rfl rfl
theorem dksJ16_multiply_2_6 : cJ16_multiply_2.data.toList.drop 142 = dktJ16_multiply_2_6 := dk_seg dksJ16_multiply_2_5 23 rfl rfl
theorem dksJ16_multiply_2_7 : cJ16_multiply_2.data.toList.drop 166 = dktJ16_multiply_2_7 := dk_seg dksJ16_multiply_2_6 24 rfl rfl
theorem dksJ16_multiply_2_8 : cJ16_multiply_2.data.toList.drop 190 = dktJ16_multiply_2_8 := dk_seg dksJ16_multiply_2_7 24 rfl rfl
theorem dksJ16_multiply_2_9 : cJ16_multiply_2.data.toList.drop 212 = dktJ16_multiply_2_9 := dk_seg dksJ16_multiply_2_8 22 rfl rfl
theorem dksJ16_multiply_2_10 : cJ16_multiply_2.data.toList.drop 236 = dktJ16_multiply_2_10 := dk_seg dksJ16_multiply_2_9 24 rfl rfl
theorem dJ16_multiply_2_0 : decode cJ16_multiply_2 0 = .ok (.aload_n 1, 1) := dk_43 (dk_at dksJ16_multiply_2_0 0 rfl rfl)
theorem dJ16_multiply_2_1 : decode cJ16_multiply_2 1 = .ok (.getfield 32, 3) := dk_180 0 32 (dk_at dksJ16_multiply_2_0 1 rfl rfl)
theorem dJ16_multiply_2_4 : decode cJ16_multiply_2 4 = .ok (.ifCond .eq 10, 3) := dk_153 0 10 (dk_at dksJ16_multiply_2_0 4 rfl rfl)
theorem dJ16_multiply_2_7 : decode cJ16_multiply_2 7 = .ok (.aload_n 0, 1) := dk_42 (dk_at dksJ16_multiply_2_0 7 rfl rfl)
theorem dJ16_multiply_2_8 : decode cJ16_multiply_2 8 = .ok (.getfield 32, 3) := dk_180 0 32 (dk_at dksJ16_multiply_2_0 8 rfl rfl)
theorem dJ16_multiply_2_11 : decode cJ16_multiply_2 11 = .ok (.ifCond .ne 7, 3) := dk_154 0 7 (dk_at dksJ16_multiply_2_0 11 rfl rfl)
theorem dJ16_multiply_2_14 : decode cJ16_multiply_2 14 = .ok (.getstatic 22, 3) := dk_178 0 22 (dk_at dksJ16_multiply_2_0 14 rfl rfl)
theorem dJ16_multiply_2_17 : decode cJ16_multiply_2 17 = .ok (.areturn, 1) := dk_176 (dk_at dksJ16_multiply_2_0 17 rfl rfl)
theorem dJ16_multiply_2_18 : decode cJ16_multiply_2 18 = .ok (.aload_n 0, 1) := dk_42 (dk_at dksJ16_multiply_2_0 18 rfl rfl)
theorem dJ16_multiply_2_19 : decode cJ16_multiply_2 19 = .ok (.getfield 28, 3) := dk_180 0 28 (dk_at dksJ16_multiply_2_0 19 rfl rfl)
theorem dJ16_multiply_2_22 : decode cJ16_multiply_2 22 = .ok (.arraylength, 1) := dk_190 (dk_at dksJ16_multiply_2_0 22 rfl rfl)
theorem dJ16_multiply_2_23 : decode cJ16_multiply_2 23 = .ok (.istore 5, 2) := dk_54 5 (dk_at dksJ16_multiply_2_1 0 rfl rfl)
theorem dJ16_multiply_2_25 : decode cJ16_multiply_2 25 = .ok (.aload_n 1, 1) := dk_43 (dk_at dksJ16_multiply_2_1 2 rfl rfl)
theorem dJ16_multiply_2_26 : decode cJ16_multiply_2 26 = .ok (.aload_n 0, 1) := dk_42 (dk_at dksJ16_multiply_2_1 3 rfl rfl)
theorem dJ16_multiply_2_27 : decode cJ16_multiply_2 27 = .ok (.if_acmp .ne 19, 3) := dk_166 0 19 (dk_at dksJ16_multiply_2_1 4 rfl rfl)
theorem dJ16_multiply_2_30 : decode cJ16_multiply_2 30 = .ok (.iload 5, 2) := dk_21 5 (dk_at dksJ16_multiply_2_1 7 rfl rfl)
theorem dJ16_multiply_2_32 : decode cJ16_multiply_2 32 = .ok (.bipush 20, 2) := dk_16 20 (dk_at dksJ16_multiply_2_1 9 rfl rfl)
theorem dJ16_multiply_2_34 : decode cJ16_multiply_2 34 = .ok (.if_icmp .le 12, 3) := dk_164 0 12 (dk_at dksJ16_multiply_2_1 11 rfl rfl)
theorem dJ16_multiply_2_37 : decode cJ16_multiply_2 37 = .ok (.aload_n 0, 1) := dk_42 (dk_at dksJ16_multiply_2_1 14 rfl rfl)
theorem dJ16_multiply_2_38 : decode cJ16_multiply_2 38 = .ok (.iconst 1, 1) := dk_4 (dk_at dksJ16_multiply_2_1 15 rfl rfl)
theorem dJ16_multiply_2_39 : decode cJ16_multiply_2 39 = .ok (.iload_n 3, 1) := dk_29 (dk_at dksJ16_multiply_2_1 16 rfl rfl)
theorem dJ16_multiply_2_40 : decode cJ16_multiply_2 40 = .ok (.iload 4, 2) := dk_21 4 (dk_at dksJ16_multiply_2_1 17 rfl rfl)
theorem dJ16_multiply_2_42 : decode cJ16_multiply_2 42 = .ok (.invokevirtual 400, 3) := dk_182 1 144 (dk_at dksJ16_multiply_2_1 19 rfl rfl)
theorem dJ16_multiply_2_45 : decode cJ16_multiply_2 45 = .ok (.areturn, 1) := dk_176 (dk_at dksJ16_multiply_2_1 22 rfl rfl)
theorem dJ16_multiply_2_46 : decode cJ16_multiply_2 46 = .ok (.aload_n 1, 1) := dk_43 (dk_at dksJ16_multiply_2_1 23 rfl rfl)
theorem dJ16_multiply_2_47 : decode cJ16_multiply_2 47 = .ok (.getfield 28, 3) := dk_180 0 28 (dk_at dksJ16_multiply_2_2 0 rfl rfl)
theorem dJ16_multiply_2_50 : decode cJ16_multiply_2 50 = .ok (.arraylength, 1) := dk_190 (dk_at dksJ16_multiply_2_2 3 rfl rfl)
theorem dJ16_multiply_2_51 : decode cJ16_multiply_2 51 = .ok (.istore 6, 2) := dk_54 6 (dk_at dksJ16_multiply_2_2 4 rfl rfl)
theorem dJ16_multiply_2_53 : decode cJ16_multiply_2 53 = .ok (.iload 5, 2) := dk_21 5 (dk_at dksJ16_multiply_2_2 6 rfl rfl)
theorem dJ16_multiply_2_55 : decode cJ16_multiply_2 55 = .ok (.bipush 80, 2) := dk_16 80 (dk_at dksJ16_multiply_2_2 8 rfl rfl)
theorem dJ16_multiply_2_57 : decode cJ16_multiply_2 57 = .ok (.if_icmp .lt 10, 3) := dk_161 0 10 (dk_at dksJ16_multiply_2_2 10 rfl rfl)
theorem dJ16_multiply_2_60 : decode cJ16_multiply_2 60 = .ok (.iload 6, 2) := dk_21 6 (dk_at dksJ16_multiply_2_2 13 rfl rfl)
theorem dJ16_multiply_2_62 : decode cJ16_multiply_2 62 = .ok (.bipush 80, 2) := dk_16 80 (dk_at dksJ16_multiply_2_2 15 rfl rfl)
theorem dJ16_multiply_2_64 : decode cJ16_multiply_2 64 = .ok (.if_icmp .ge 108, 3) := dk_162 0 108 (dk_at dksJ16_multiply_2_2 17 rfl rfl)
theorem dJ16_multiply_2_67 : decode cJ16_multiply_2 67 = .ok (.aload_n 0, 1) := dk_42 (dk_at dksJ16_multiply_2_2 20 rfl rfl)
theorem dJ16_multiply_2_68 : decode cJ16_multiply_2 68 = .ok (.getfield 32, 3) := dk_180 0 32 (dk_at dksJ16_multiply_2_2 21 rfl rfl)
theorem dJ16_multiply_2_71 : decode cJ16_multiply_2 71 = .ok (.aload_n 1, 1) := dk_43 (dk_at dksJ16_multiply_2_3 0 rfl rfl)
theorem dJ16_multiply_2_72 : decode cJ16_multiply_2 72 = .ok (.getfield 32, 3) := dk_180 0 32 (dk_at dksJ16_multiply_2_3 1 rfl rfl)
theorem dJ16_multiply_2_75 : decode cJ16_multiply_2 75 = .ok (.if_icmp .ne 7, 3) := dk_160 0 7 (dk_at dksJ16_multiply_2_3 4 rfl rfl)
theorem dJ16_multiply_2_78 : decode cJ16_multiply_2 78 = .ok (.iconst 1, 1) := dk_4 (dk_at dksJ16_multiply_2_3 7 rfl rfl)
theorem dJ16_multiply_2_79 : decode cJ16_multiply_2 79 = .ok (.goto 4, 3) := dk_167 0 4 (dk_at dksJ16_multiply_2_3 8 rfl rfl)
theorem dJ16_multiply_2_82 : decode cJ16_multiply_2 82 = .ok (.iconst (-1), 1) := dk_2 (dk_at dksJ16_multiply_2_3 11 rfl rfl)
theorem dJ16_multiply_2_83 : decode cJ16_multiply_2 83 = .ok (.istore 7, 2) := dk_54 7 (dk_at dksJ16_multiply_2_3 12 rfl rfl)
theorem dJ16_multiply_2_85 : decode cJ16_multiply_2 85 = .ok (.aload_n 1, 1) := dk_43 (dk_at dksJ16_multiply_2_3 14 rfl rfl)
theorem dJ16_multiply_2_86 : decode cJ16_multiply_2 86 = .ok (.getfield 28, 3) := dk_180 0 28 (dk_at dksJ16_multiply_2_3 15 rfl rfl)
theorem dJ16_multiply_2_89 : decode cJ16_multiply_2 89 = .ok (.arraylength, 1) := dk_190 (dk_at dksJ16_multiply_2_3 18 rfl rfl)
theorem dJ16_multiply_2_90 : decode cJ16_multiply_2 90 = .ok (.iconst 1, 1) := dk_4 (dk_at dksJ16_multiply_2_3 19 rfl rfl)
theorem dJ16_multiply_2_91 : decode cJ16_multiply_2 91 = .ok (.if_icmp .ne 19, 3) := dk_160 0 19 (dk_at dksJ16_multiply_2_3 20 rfl rfl)
theorem dJ16_multiply_2_94 : decode cJ16_multiply_2 94 = .ok (.aload_n 0, 1) := dk_42 (dk_at dksJ16_multiply_2_3 23 rfl rfl)
theorem dJ16_multiply_2_95 : decode cJ16_multiply_2 95 = .ok (.getfield 28, 3) := dk_180 0 28 (dk_at dksJ16_multiply_2_4 0 rfl rfl)
theorem dJ16_multiply_2_98 : decode cJ16_multiply_2 98 = .ok (.aload_n 1, 1) := dk_43 (dk_at dksJ16_multiply_2_4 3 rfl rfl)
theorem dJ16_multiply_2_99 : decode cJ16_multiply_2 99 = .ok (.getfield 28, 3) := dk_180 0 28 (dk_at dksJ16_multiply_2_4 4 rfl rfl)
theorem dJ16_multiply_2_102 : decode cJ16_multiply_2 102 = .ok (.iconst 0, 1) := dk_3 (dk_at dksJ16_multiply_2_4 7 rfl rfl)
theorem dJ16_multiply_2_103 : decode cJ16_multiply_2 103 = .ok (.iaload, 1) := dk_46 (dk_at dksJ16_multiply_2_4 8 rfl rfl)
theorem dJ16_multiply_2_104 : decode cJ16_multiply_2 104 = .ok (.iload 7, 2) := dk_21 7 (dk_at dksJ16_multiply_2_4 9 rfl rfl)
theorem dJ16_multiply_2_106 : decode cJ16_multiply_2 106 = .ok (.invokestatic 403, 3) := dk_184 1 147 (dk_at dksJ16_multiply_2_4 11 rfl rfl)
theorem dJ16_multiply_2_109 : decode cJ16_multiply_2 109 = .ok (.areturn, 1) := dk_176 (dk_at dksJ16_multiply_2_4 14 rfl rfl)
theorem dJ16_multiply_2_110 : decode cJ16_multiply_2 110 = .ok (.aload_n 0, 1) := dk_42 (dk_at dksJ16_multiply_2_4 15 rfl rfl)
theorem dJ16_multiply_2_111 : decode cJ16_multiply_2 111 = .ok (.getfield 28, 3) := dk_180 0 28 (dk_at dksJ16_multiply_2_4 16 rfl rfl)
theorem dJ16_multiply_2_114 : decode cJ16_multiply_2 114 = .ok (.arraylength, 1) := dk_190 (dk_at dksJ16_multiply_2_4 19 rfl rfl)
theorem dJ16_multiply_2_115 : decode cJ16_multiply_2 115 = .ok (.iconst 1, 1) := dk_4 (dk_at dksJ16_multiply_2_4 20 rfl rfl)
theorem dJ16_multiply_2_116 : decode cJ16_multiply_2 116 = .ok (.if_icmp .ne 19, 3) := dk_160 0 19 (dk_at dksJ16_multiply_2_4 21 rfl rfl)
theorem dJ16_multiply_2_119 : decode cJ16_multiply_2 119 = .ok (.aload_n 1, 1) := dk_43 (dk_at dksJ16_multiply_2_5 0 rfl rfl)
theorem dJ16_multiply_2_120 : decode cJ16_multiply_2 120 = .ok (.getfield 28, 3) := dk_180 0 28 (dk_at dksJ16_multiply_2_5 1 rfl rfl)
theorem dJ16_multiply_2_123 : decode cJ16_multiply_2 123 = .ok (.aload_n 0, 1) := dk_42 (dk_at dksJ16_multiply_2_5 4 rfl rfl)
theorem dJ16_multiply_2_124 : decode cJ16_multiply_2 124 = .ok (.getfield 28, 3) := dk_180 0 28 (dk_at dksJ16_multiply_2_5 5 rfl rfl)
theorem dJ16_multiply_2_127 : decode cJ16_multiply_2 127 = .ok (.iconst 0, 1) := dk_3 (dk_at dksJ16_multiply_2_5 8 rfl rfl)
theorem dJ16_multiply_2_128 : decode cJ16_multiply_2 128 = .ok (.iaload, 1) := dk_46 (dk_at dksJ16_multiply_2_5 9 rfl rfl)
theorem dJ16_multiply_2_129 : decode cJ16_multiply_2 129 = .ok (.iload 7, 2) := dk_21 7 (dk_at dksJ16_multiply_2_5 10 rfl rfl)
theorem dJ16_multiply_2_131 : decode cJ16_multiply_2 131 = .ok (.invokestatic 403, 3) := dk_184 1 147 (dk_at dksJ16_multiply_2_5 12 rfl rfl)
theorem dJ16_multiply_2_134 : decode cJ16_multiply_2 134 = .ok (.areturn, 1) := dk_176 (dk_at dksJ16_multiply_2_5 15 rfl rfl)
theorem dJ16_multiply_2_135 : decode cJ16_multiply_2 135 = .ok (.aload_n 0, 1) := dk_42 (dk_at dksJ16_multiply_2_5 16 rfl rfl)
theorem dJ16_multiply_2_136 : decode cJ16_multiply_2 136 = .ok (.getfield 28, 3) := dk_180 0 28 (dk_at dksJ16_multiply_2_5 17 rfl rfl)
theorem dJ16_multiply_2_139 : decode cJ16_multiply_2 139 = .ok (.iload 5, 2) := dk_21 5 (dk_at dksJ16_multiply_2_5 20 rfl rfl)
theorem dJ16_multiply_2_141 : decode cJ16_multiply_2 141 = .ok (.aload_n 1, 1) := dk_43 (dk_at dksJ16_multiply_2_5 22 rfl rfl)
theorem dJ16_multiply_2_142 : decode cJ16_multiply_2 142 = .ok (.getfield 28, 3) := dk_180 0 28 (dk_at dksJ16_multiply_2_6 0 rfl rfl)
theorem dJ16_multiply_2_145 : decode cJ16_multiply_2 145 = .ok (.iload 6, 2) := dk_21 6 (dk_at dksJ16_multiply_2_6 3 rfl rfl)
theorem dJ16_multiply_2_147 : decode cJ16_multiply_2 147 = .ok (.aconst_null, 1) := dk_1 (dk_at dksJ16_multiply_2_6 5 rfl rfl)
theorem dJ16_multiply_2_148 : decode cJ16_multiply_2 148 = .ok (.invokestatic 407, 3) := dk_184 1 151 (dk_at dksJ16_multiply_2_6 6 rfl rfl)
theorem dJ16_multiply_2_151 : decode cJ16_multiply_2 151 = .ok (.astore 8, 2) := dk_58 8 (dk_at dksJ16_multiply_2_6 9 rfl rfl)
theorem dJ16_multiply_2_153 : decode cJ16_multiply_2 153 = .ok (.aload 8, 2) := dk_25 8 (dk_at dksJ16_multiply_2_6 11 rfl rfl)
theorem dJ16_multiply_2_155 : decode cJ16_multiply_2 155 = .ok (.invokestatic 53, 3) := dk_184 0 53 (dk_at dksJ16_multiply_2_6 13 rfl rfl)
theorem dJ16_multiply_2_158 : decode cJ16_multiply_2 158 = .ok (.astore 8, 2) := dk_58 8 (dk_at dksJ16_multiply_2_6 16 rfl rfl)
theorem dJ16_multiply_2_160 : decode cJ16_multiply_2 160 = .ok (.new 23, 3) := dk_187 0 23 (dk_at dksJ16_multiply_2_6 18 rfl rfl)
theorem dJ16_multiply_2_163 : decode cJ16_multiply_2 163 = .ok (.dup, 1) := dk_89 (dk_at dksJ16_multiply_2_6 21 rfl rfl)
theorem dJ16_multiply_2_164 : decode cJ16_multiply_2 164 = .ok (.aload 8, 2) := dk_25 8 (dk_at dksJ16_multiply_2_6 22 rfl rfl)
theorem dJ16_multiply_2_166 : decode cJ16_multiply_2 166 = .ok (.iload 7, 2) := dk_21 7 (dk_at dksJ16_multiply_2_7 0 rfl rfl)
theorem dJ16_multiply_2_168 : decode cJ16_multiply_2 168 = .ok (.invokespecial 175, 3) := dk_183 0 175 (dk_at dksJ16_multiply_2_7 2 rfl rfl)
theorem dJ16_multiply_2_171 : decode cJ16_multiply_2 171 = .ok (.areturn, 1) := dk_176 (dk_at dksJ16_multiply_2_7 5 rfl rfl)
theorem dJ16_multiply_2_172 : decode cJ16_multiply_2 172 = .ok (.iload 5, 2) := dk_21 5 (dk_at dksJ16_multiply_2_7 6 rfl rfl)
theorem dJ16_multiply_2_174 : decode cJ16_multiply_2 174 = .ok (.sipush 240, 3) := dk_17 0 240 (dk_at dksJ16_multiply_2_7 8 rfl rfl)
theorem dJ16_multiply_2_177 : decode cJ16_multiply_2 177 = .ok (.if_icmp .ge 17, 3) := dk_162 0 17 (dk_at dksJ16_multiply_2_7 11 rfl rfl)
theorem dJ16_multiply_2_180 : decode cJ16_multiply_2 180 = .ok (.iload 6, 2) := dk_21 6 (dk_at dksJ16_multiply_2_7 14 rfl rfl)
theorem dJ16_multiply_2_182 : decode cJ16_multiply_2 182 = .ok (.sipush 240, 3) := dk_17 0 240 (dk_at dksJ16_multiply_2_7 16 rfl rfl)
theorem dJ16_multiply_2_185 : decode cJ16_multiply_2 185 = .ok (.if_icmp .ge 9, 3) := dk_162 0 9 (dk_at dksJ16_multiply_2_7 19 rfl rfl)
theorem dJ16_multiply_2_188 : decode cJ16_multiply_2 188 = .ok (.aload_n 0, 1) := dk_42 (dk_at dksJ16_multiply_2_7 22 rfl rfl)
theorem dJ16_multiply_2_189 : decode cJ16_multiply_2 189 = .ok (.aload_n 1, 1) := dk_43 (dk_at dksJ16_multiply_2_7 23 rfl rfl)
theorem dJ16_multiply_2_190 : decode cJ16_multiply_2 190 = .ok (.invokestatic 411, 3) := dk_184 1 155 (dk_at dksJ16_multiply_2_8 0 rfl rfl)
theorem dJ16_multiply_2_193 : decode cJ16_multiply_2 193 = .ok (.areturn, 1) := dk_176 (dk_at dksJ16_multiply_2_8 3 rfl rfl)
theorem dJ16_multiply_2_194 : decode cJ16_multiply_2 194 = .ok (.iload_n 2, 1) := dk_28 (dk_at dksJ16_multiply_2_8 4 rfl rfl)
theorem dJ16_multiply_2_195 : decode cJ16_multiply_2 195 = .ok (.ifCond .ne 40, 3) := dk_154 0 40 (dk_at dksJ16_multiply_2_8 5 rfl rfl)
theorem dJ16_multiply_2_198 : decode cJ16_multiply_2 198 = .ok (.aload_n 0, 1) := dk_42 (dk_at dksJ16_multiply_2_8 8 rfl rfl)
theorem dJ16_multiply_2_199 : decode cJ16_multiply_2 199 = .ok (.getfield 28, 3) := dk_180 0 28 (dk_at dksJ16_multiply_2_8 9 rfl rfl)
theorem dJ16_multiply_2_202 : decode cJ16_multiply_2 202 = .ok (.aload_n 0, 1) := dk_42 (dk_at dksJ16_multiply_2_8 12 rfl rfl)
theorem dJ16_multiply_2_203 : decode cJ16_multiply_2 203 = .ok (.getfield 28, 3) := dk_180 0 28 (dk_at dksJ16_multiply_2_8 13 rfl rfl)
theorem dJ16_multiply_2_206 : decode cJ16_multiply_2 206 = .ok (.arraylength, 1) := dk_190 (dk_at dksJ16_multiply_2_8 16 rfl rfl)
theorem dJ16_multiply_2_207 : decode cJ16_multiply_2 207 = .ok (.invokestatic 414, 3) := dk_184 1 158 (dk_at dksJ16_multiply_2_8 17 rfl rfl)
theorem dJ16_multiply_2_210 : decode cJ16_multiply_2 210 = .ok (.i2l, 1) := dk_133 (dk_at dksJ16_multiply_2_8 20 rfl rfl)
theorem dJ16_multiply_2_211 : decode cJ16_multiply_2 211 = .ok (.aload_n 1, 1) := dk_43 (dk_at dksJ16_multiply_2_8 21 rfl rfl)
theorem dJ16_multiply_2_212 : decode cJ16_multiply_2 212 = .ok (.getfield 28, 3) := dk_180 0 28 (dk_at dksJ16_multiply_2_9 0 rfl rfl)
theorem dJ16_multiply_2_215 : decode cJ16_multiply_2 215 = .ok (.aload_n 1, 1) := dk_43 (dk_at dksJ16_multiply_2_9 3 rfl rfl)
theorem dJ16_multiply_2_216 : decode cJ16_multiply_2 216 = .ok (.getfield 28, 3) := dk_180 0 28 (dk_at dksJ16_multiply_2_9 4 rfl rfl)
theorem dJ16_multiply_2_219 : decode cJ16_multiply_2 219 = .ok (.arraylength, 1) := dk_190 (dk_at dksJ16_multiply_2_9 7 rfl rfl)
theorem dJ16_multiply_2_220 : decode cJ16_multiply_2 220 = .ok (.invokestatic 414, 3) := dk_184 1 158 (dk_at dksJ16_multiply_2_9 8 rfl rfl)
theorem dJ16_multiply_2_223 : decode cJ16_multiply_2 223 = .ok (.i2l, 1) := dk_133 (dk_at dksJ16_multiply_2_9 11 rfl rfl)
theorem dJ16_multiply_2_224 : decode cJ16_multiply_2 224 = .ok (.ladd, 1) := dk_97 (dk_at dksJ16_multiply_2_9 12 rfl rfl)
theorem dJ16_multiply_2_225 : decode cJ16_multiply_2 225 = .ok (.ldc2_w 417, 3) := dk_20 1 161 (dk_at dksJ16_multiply_2_9 13 rfl rfl)
theorem dJ16_multiply_2_228 : decode cJ16_multiply_2 228 = .ok (.lcmp, 1) := dk_148 (dk_at dksJ16_multiply_2_9 16 rfl rfl)
theorem dJ16_multiply_2_229 : decode cJ16_multiply_2 229 = .ok (.ifCond .le 6, 3) := dk_158 0 6 (dk_at dksJ16_multiply_2_9 17 rfl rfl)
theorem dJ16_multiply_2_232 : decode cJ16_multiply_2 232 = .ok (.invokestatic 101, 3) := dk_184 0 101 (dk_at dksJ16_multiply_2_9 20 rfl rfl)
theorem dJ16_multiply_2_235 : decode cJ16_multiply_2 235 = .ok (.aload_n 0, 1) := dk_42 (dk_at dksJ16_multiply_2_9 23 rfl rfl)
theorem dJ16_multiply_2_236 : decode cJ16_multiply_2 236 = .ok (.aload_n 1, 1) := dk_43 (dk_at dksJ16_multiply_2_10 0 rfl rfl)
theorem dJ16_multiply_2_237 : decode cJ16_multiply_2 237 = .ok (.iload_n 3, 1) := dk_29 (dk_at dksJ16_multiply_2_10 1 rfl rfl)
theorem dJ16_multiply_2_238 : decode cJ16_multiply_2 238 = .ok (.iload 4, 2) := dk_21 4 (dk_at dksJ16_multiply_2_10 2 rfl rfl)
theorem dJ16_multiply_2_240 : decode cJ16_multiply_2 240 = .ok (.invokestatic 419, 3) := dk_184 1 163 (dk_at dksJ16_multiply_2_10 4 rfl rfl)
theorem dJ16_multiply_2_243 : decode cJ16_multiply_2 243 = .ok (.areturn, 1) := dk_176 (dk_at dksJ16_multiply_2_10 7 rfl rfl)
abbrev cJ16_shiftLeft : ByteArray := prog_32_method_101_code
def yJ16_shiftLeft : MethodName := ⟨RJ16, "shiftLeft", "(I)Ljava/math/BigInteger;"⟩
def dkwJ16_shiftLeft_1 : List UInt8 := [184, 1, 173, 42, 180, 0, 32, 183, 0, 175, 176, 27, 154, 0, 5, 42, 176, 42, 27, 116, 182, 2, 215, 176]
abbrev dktJ16_shiftLeft_1 : List UInt8 := dkwJ16_shiftLeft_1 ++ []
def dkwJ16_shiftLeft_0 : List UInt8 := [42, 180, 0, 32, 154, 0, 7, 178, 0, 22, 176, 27, 158, 0, 23, 187, 0, 23, 89, 42, 180, 0, 28, 27]
abbrev dktJ16_shiftLeft_0 : List UInt8 := dkwJ16_shiftLeft_0 ++ dktJ16_shiftLeft_1
theorem dksJ16_shiftLeft_0 : cJ16_shiftLeft.data.toList.drop 0 = dktJ16_shiftLeft_0 := by decide +kernel
theorem dksJ16_shiftLeft_1 : cJ16_shiftLeft.data.toList.drop 24 = dktJ16_shiftLeft_1 := dk_seg dksJ16_shiftLeft_0 24 rfl rfl
theorem dJ16_shiftLeft_0 : decode cJ16_shiftLeft 0 = .ok (.aload_n 0, 1) := dk_42 (dk_at dksJ16_shiftLeft_0 0 rfl rfl)
theorem dJ16_shiftLeft_1 : decode cJ16_shiftLeft 1 = .ok (.getfield 32, 3) := dk_180 0 32 (dk_at dksJ16_shiftLeft_0 1 rfl rfl)
theorem dJ16_shiftLeft_4 : decode cJ16_shiftLeft 4 = .ok (.ifCond .ne 7, 3) := dk_154 0 7 (dk_at dksJ16_shiftLeft_0 4 rfl rfl)
theorem dJ16_shiftLeft_7 : decode cJ16_shiftLeft 7 = .ok (.getstatic 22, 3) := dk_178 0 22 (dk_at dksJ16_shiftLeft_0 7 rfl rfl)
theorem dJ16_shiftLeft_10 : decode cJ16_shiftLeft 10 = .ok (.areturn, 1) := dk_176 (dk_at dksJ16_shiftLeft_0 10 rfl rfl)
theorem dJ16_shiftLeft_11 : decode cJ16_shiftLeft 11 = .ok (.iload_n 1, 1) := dk_27 (dk_at dksJ16_shiftLeft_0 11 rfl rfl)
theorem dJ16_shiftLeft_12 : decode cJ16_shiftLeft 12 = .ok (.ifCond .le 23, 3) := dk_158 0 23 (dk_at dksJ16_shiftLeft_0 12 rfl rfl)
theorem dJ16_shiftLeft_15 : decode cJ16_shiftLeft 15 = .ok (.new 23, 3) := dk_187 0 23 (dk_at dksJ16_shiftLeft_0 15 rfl rfl)
theorem dJ16_shiftLeft_18 : decode cJ16_shiftLeft 18 = .ok (.dup, 1) := dk_89 (dk_at dksJ16_shiftLeft_0 18 rfl rfl)
theorem dJ16_shiftLeft_19 : decode cJ16_shiftLeft 19 = .ok (.aload_n 0, 1) := dk_42 (dk_at dksJ16_shiftLeft_0 19 rfl rfl)
theorem dJ16_shiftLeft_20 : decode cJ16_shiftLeft 20 = .ok (.getfield 28, 3) := dk_180 0 28 (dk_at dksJ16_shiftLeft_0 20 rfl rfl)
theorem dJ16_shiftLeft_23 : decode cJ16_shiftLeft 23 = .ok (.iload_n 1, 1) := dk_27 (dk_at dksJ16_shiftLeft_0 23 rfl rfl)
theorem dJ16_shiftLeft_24 : decode cJ16_shiftLeft 24 = .ok (.invokestatic 429, 3) := dk_184 1 173 (dk_at dksJ16_shiftLeft_1 0 rfl rfl)
theorem dJ16_shiftLeft_27 : decode cJ16_shiftLeft 27 = .ok (.aload_n 0, 1) := dk_42 (dk_at dksJ16_shiftLeft_1 3 rfl rfl)
theorem dJ16_shiftLeft_28 : decode cJ16_shiftLeft 28 = .ok (.getfield 32, 3) := dk_180 0 32 (dk_at dksJ16_shiftLeft_1 4 rfl rfl)
theorem dJ16_shiftLeft_31 : decode cJ16_shiftLeft 31 = .ok (.invokespecial 175, 3) := dk_183 0 175 (dk_at dksJ16_shiftLeft_1 7 rfl rfl)
theorem dJ16_shiftLeft_34 : decode cJ16_shiftLeft 34 = .ok (.areturn, 1) := dk_176 (dk_at dksJ16_shiftLeft_1 10 rfl rfl)
theorem dJ16_shiftLeft_35 : decode cJ16_shiftLeft 35 = .ok (.iload_n 1, 1) := dk_27 (dk_at dksJ16_shiftLeft_1 11 rfl rfl)
theorem dJ16_shiftLeft_36 : decode cJ16_shiftLeft 36 = .ok (.ifCond .ne 5, 3) := dk_154 0 5 (dk_at dksJ16_shiftLeft_1 12 rfl rfl)
theorem dJ16_shiftLeft_39 : decode cJ16_shiftLeft 39 = .ok (.aload_n 0, 1) := dk_42 (dk_at dksJ16_shiftLeft_1 15 rfl rfl)
theorem dJ16_shiftLeft_40 : decode cJ16_shiftLeft 40 = .ok (.areturn, 1) := dk_176 (dk_at dksJ16_shiftLeft_1 16 rfl rfl)
theorem dJ16_shiftLeft_41 : decode cJ16_shiftLeft 41 = .ok (.aload_n 0, 1) := dk_42 (dk_at dksJ16_shiftLeft_1 17 rfl rfl)
theorem dJ16_shiftLeft_42 : decode cJ16_shiftLeft 42 = .ok (.iload_n 1, 1) := dk_27 (dk_at dksJ16_shiftLeft_1 18 rfl rfl)
theorem dJ16_shiftLeft_43 : decode cJ16_shiftLeft 43 = .ok (.ineg, 1) := dk_116 (dk_at dksJ16_shiftLeft_1 19 rfl rfl)
theorem dJ16_shiftLeft_44 : decode cJ16_shiftLeft 44 = .ok (.invokevirtual 727, 3) := dk_182 2 215 (dk_at dksJ16_shiftLeft_1 20 rfl rfl)
theorem dJ16_shiftLeft_47 : decode cJ16_shiftLeft 47 = .ok (.areturn, 1) := dk_176 (dk_at dksJ16_shiftLeft_1 23 rfl rfl)
abbrev cJ16_shiftLeft_2 : ByteArray := prog_32_method_102_code
def yJ16_shiftLeft_2 : MethodName := ⟨RJ16, "shiftLeft", "([II)[I"⟩
def dkwJ16_shiftLeft_2_6 : List UInt8 := [21, 6, 96, 42, 21, 9, 46, 29, 120, 79, 25, 5, 176]
abbrev dktJ16_shiftLeft_2_6 : List UInt8 := dkwJ16_shiftLeft_2_6 ++ []
def dkwJ16_shiftLeft_2_5 : List UInt8 := [4, 96, 25, 5, 190, 184, 2, 99, 87, 25, 5, 42, 21, 6, 29, 21, 9, 184, 2, 106, 25, 5, 21, 9]
abbrev dktJ16_shiftLeft_2_5 : List UInt8 := dkwJ16_shiftLeft_2_5 ++ dktJ16_shiftLeft_2_6
def dkwJ16_shiftLeft_2_4 : List UInt8 := [21, 4, 4, 100, 54, 9, 3, 21, 9, 4, 96, 42, 190, 184, 2, 99, 87, 21, 6, 21, 9, 21, 6, 96]
abbrev dktJ16_shiftLeft_2_4 : List UInt8 := dkwJ16_shiftLeft_2_4 ++ dktJ16_shiftLeft_2_5
def dkwJ16_shiftLeft_2_3 : List UInt8 := [58, 5, 25, 5, 21, 6, 132, 6, 1, 21, 8, 79, 167, 0, 11, 21, 4, 28, 96, 188, 10, 58, 5]
abbrev dktJ16_shiftLeft_2_3 : List UInt8 := dkwJ16_shiftLeft_2_3 ++ dktJ16_shiftLeft_2_4
def dkwJ16_shiftLeft_2_2 : List UInt8 := [54, 7, 42, 3, 46, 21, 7, 124, 54, 8, 21, 8, 153, 0, 26, 21, 4, 28, 96, 4, 96, 188, 10]
abbrev dktJ16_shiftLeft_2_2 : List UInt8 := dkwJ16_shiftLeft_2_2 ++ dktJ16_shiftLeft_2_3
def dkwJ16_shiftLeft_2_1 : List UInt8 := [188, 10, 58, 5, 42, 3, 25, 5, 3, 21, 4, 184, 1, 132, 167, 0, 114, 3, 54, 6, 16, 32, 29, 100]
abbrev dktJ16_shiftLeft_2_1 : List UInt8 := dkwJ16_shiftLeft_2_1 ++ dktJ16_shiftLeft_2_2
def dkwJ16_shiftLeft_2_0 : List UInt8 := [27, 8, 124, 61, 27, 16, 31, 126, 62, 42, 190, 54, 4, 1, 58, 5, 29, 154, 0, 24, 21, 4, 28, 96]
abbrev dktJ16_shiftLeft_2_0 : List UInt8 := dkwJ16_shiftLeft_2_0 ++ dktJ16_shiftLeft_2_1
theorem dksJ16_shiftLeft_2_0 : cJ16_shiftLeft_2.data.toList.drop 0 = dktJ16_shiftLeft_2_0 := by decide +kernel
theorem dksJ16_shiftLeft_2_1 : cJ16_shiftLeft_2.data.toList.drop 24 = dktJ16_shiftLeft_2_1 := dk_seg dksJ16_shiftLeft_2_0 24 rfl rfl
theorem dksJ16_shiftLeft_2_2 : cJ16_shiftLeft_2.data.toList.drop 48 = dktJ16_shiftLeft_2_2 := dk_seg dksJ16_shiftLeft_2_1 24 rfl rfl
theorem dksJ16_shiftLeft_2_3 : cJ16_shiftLeft_2.data.toList.drop 71 = dktJ16_shiftLeft_2_3 := dk_seg dksJ16_shiftLeft_2_2 23 rfl rfl
theorem dksJ16_shiftLeft_2_4 : cJ16_shiftLeft_2.data.toList.drop 94 = dktJ16_shiftLeft_2_4 := dk_seg dksJ16_shiftLeft_2_3 23 rfl rfl
theorem dksJ16_shiftLeft_2_5 : cJ16_shiftLeft_2.data.toList.drop 118 = dktJ16_shiftLeft_2_5 := dk_seg dksJ16_shiftLeft_2_4 24 rfl rfl
theorem dksJ16_shiftLeft_2_6 : cJ16_shiftLeft_2.data.toList.drop 142 = dktJ16_shiftLeft_2_6 := dk_seg dksJ16_shiftLeft_2_5 24 rfl rfl
theorem dJ16_shiftLeft_2_0 : decode cJ16_shiftLeft_2 0 = .ok (.iload_n 1, 1) := dk_27 (dk_at dksJ16_shiftLeft_2_0 0 rfl rfl)
theorem dJ16_shiftLeft_2_1 : decode cJ16_shiftLeft_2 1 = .ok (.iconst 5, 1) := dk_8 (dk_at dksJ16_shiftLeft_2_0 1 rfl rfl)
theorem dJ16_shiftLeft_2_2 : decode cJ16_shiftLeft_2 2 = .ok (.iushr, 1) := dk_124 (dk_at dksJ16_shiftLeft_2_0 2 rfl rfl)
theorem dJ16_shiftLeft_2_3 : decode cJ16_shiftLeft_2 3 = .ok (.istore_n 2, 1) := dk_61 (dk_at dksJ16_shiftLeft_2_0 3 rfl rfl)
theorem dJ16_shiftLeft_2_4 : decode cJ16_shiftLeft_2 4 = .ok (.iload_n 1, 1) := dk_27 (dk_at dksJ16_shiftLeft_2_0 4 rfl rfl)
theorem dJ16_shiftLeft_2_5 : decode cJ16_shiftLeft_2 5 = .ok (.bipush 31, 2) := dk_16 31 (dk_at dksJ16_shiftLeft_2_0 5 rfl rfl)
theorem dJ16_shiftLeft_2_7 : decode cJ16_shiftLeft_2 7 = .ok (.iand, 1) := dk_126 (dk_at dksJ16_shiftLeft_2_0 7 rfl rfl)
theorem dJ16_shiftLeft_2_8 : decode cJ16_shiftLeft_2 8 = .ok (.istore_n 3, 1) := dk_62 (dk_at dksJ16_shiftLeft_2_0 8 rfl rfl)
theorem dJ16_shiftLeft_2_9 : decode cJ16_shiftLeft_2 9 = .ok (.aload_n 0, 1) := dk_42 (dk_at dksJ16_shiftLeft_2_0 9 rfl rfl)
theorem dJ16_shiftLeft_2_10 : decode cJ16_shiftLeft_2 10 = .ok (.arraylength, 1) := dk_190 (dk_at dksJ16_shiftLeft_2_0 10 rfl rfl)
theorem dJ16_shiftLeft_2_11 : decode cJ16_shiftLeft_2 11 = .ok (.istore 4, 2) := dk_54 4 (dk_at dksJ16_shiftLeft_2_0 11 rfl rfl)
theorem dJ16_shiftLeft_2_13 : decode cJ16_shiftLeft_2 13 = .ok (.aconst_null, 1) := dk_1 (dk_at dksJ16_shiftLeft_2_0 13 rfl rfl)
theorem dJ16_shiftLeft_2_14 : decode cJ16_shiftLeft_2 14 = .ok (.astore 5, 2) := dk_58 5 (dk_at dksJ16_shiftLeft_2_0 14 rfl rfl)
theorem dJ16_shiftLeft_2_16 : decode cJ16_shiftLeft_2 16 = .ok (.iload_n 3, 1) := dk_29 (dk_at dksJ16_shiftLeft_2_0 16 rfl rfl)
theorem dJ16_shiftLeft_2_17 : decode cJ16_shiftLeft_2 17 = .ok (.ifCond .ne 24, 3) := dk_154 0 24 (dk_at dksJ16_shiftLeft_2_0 17 rfl rfl)
theorem dJ16_shiftLeft_2_20 : decode cJ16_shiftLeft_2 20 = .ok (.iload 4, 2) := dk_21 4 (dk_at dksJ16_shiftLeft_2_0 20 rfl rfl)
theorem dJ16_shiftLeft_2_22 : decode cJ16_shiftLeft_2 22 = .ok (.iload_n 2, 1) := dk_28 (dk_at dksJ16_shiftLeft_2_0 22 rfl rfl)
theorem dJ16_shiftLeft_2_23 : decode cJ16_shiftLeft_2 23 = .ok (.iadd, 1) := dk_96 (dk_at dksJ16_shiftLeft_2_0 23 rfl rfl)
theorem dJ16_shiftLeft_2_24 : decode cJ16_shiftLeft_2 24 = .ok (.newarray .int, 2) := dk_188_10 (dk_at dksJ16_shiftLeft_2_1 0 rfl rfl)
theorem dJ16_shiftLeft_2_26 : decode cJ16_shiftLeft_2 26 = .ok (.astore 5, 2) := dk_58 5 (dk_at dksJ16_shiftLeft_2_1 2 rfl rfl)
theorem dJ16_shiftLeft_2_28 : decode cJ16_shiftLeft_2 28 = .ok (.aload_n 0, 1) := dk_42 (dk_at dksJ16_shiftLeft_2_1 4 rfl rfl)
theorem dJ16_shiftLeft_2_29 : decode cJ16_shiftLeft_2 29 = .ok (.iconst 0, 1) := dk_3 (dk_at dksJ16_shiftLeft_2_1 5 rfl rfl)
theorem dJ16_shiftLeft_2_30 : decode cJ16_shiftLeft_2 30 = .ok (.aload 5, 2) := dk_25 5 (dk_at dksJ16_shiftLeft_2_1 6 rfl rfl)
theorem dJ16_shiftLeft_2_32 : decode cJ16_shiftLeft_2 32 = .ok (.iconst 0, 1) := dk_3 (dk_at dksJ16_shiftLeft_2_1 8 rfl rfl)
theorem dJ16_shiftLeft_2_33 : decode cJ16_shiftLeft_2 33 = .ok (.iload 4, 2) := dk_21 4 (dk_at dksJ16_shiftLeft_2_1 9 rfl rfl)
theorem dJ16_shiftLeft_2_35 : decode cJ16_shiftLeft_2 35 = .ok (.invokestatic 388, 3) := dk_184 1 132 (dk_at dksJ16_shiftLeft_2_1 11 rfl rfl)
theorem dJ16_shiftLeft_2_38 : decode cJ16_shiftLeft_2 38 = .ok (.goto 114, 3) := dk_167 0 114 (dk_at dksJ16_shiftLeft_2_1 14 rfl rfl)
theorem dJ16_shiftLeft_2_41 : decode cJ16_shiftLeft_2 41 = .ok (.iconst 0, 1) := dk_3 (dk_at dksJ16_shiftLeft_2_1 17 rfl rfl)
theorem dJ16_shiftLeft_2_42 : decode cJ16_shiftLeft_2 42 = .ok (.istore 6, 2) := dk_54 6 (dk_at dksJ16_shiftLeft_2_1 18 rfl rfl)
theorem dJ16_shiftLeft_2_44 : decode cJ16_shiftLeft_2 44 = .ok (.bipush 32, 2) := dk_16 32 (dk_at dksJ16_shiftLeft_2_1 20 rfl rfl)
theorem dJ16_shiftLeft_2_46 : decode cJ16_shiftLeft_2 46 = .ok (.iload_n 3, 1) := dk_29 (dk_at dksJ16_shiftLeft_2_1 22 rfl rfl)
theorem dJ16_shiftLeft_2_47 : decode cJ16_shiftLeft_2 47 = .ok (.isub, 1) := dk_100 (dk_at dksJ16_shiftLeft_2_1 23 rfl rfl)
theorem dJ16_shiftLeft_2_48 : decode cJ16_shiftLeft_2 48 = .ok (.istore 7, 2) := dk_54 7 (dk_at dksJ16_shiftLeft_2_2 0 rfl rfl)
theorem dJ16_shiftLeft_2_50 : decode cJ16_shiftLeft_2 50 = .ok (.aload_n 0, 1) := dk_42 (dk_at dksJ16_shiftLeft_2_2 2 rfl rfl)
theorem dJ16_shiftLeft_2_51 : decode cJ16_shiftLeft_2 51 = .ok (.iconst 0, 1) := dk_3 (dk_at dksJ16_shiftLeft_2_2 3 rfl rfl)
theorem dJ16_shiftLeft_2_52 : decode cJ16_shiftLeft_2 52 = .ok (.iaload, 1) := dk_46 (dk_at dksJ16_shiftLeft_2_2 4 rfl rfl)
theorem dJ16_shiftLeft_2_53 : decode cJ16_shiftLeft_2 53 = .ok (.iload 7, 2) := dk_21 7 (dk_at dksJ16_shiftLeft_2_2 5 rfl rfl)
theorem dJ16_shiftLeft_2_55 : decode cJ16_shiftLeft_2 55 = .ok (.iushr, 1) := dk_124 (dk_at dksJ16_shiftLeft_2_2 7 rfl rfl)
theorem dJ16_shiftLeft_2_56 : decode cJ16_shiftLeft_2 56 = .ok (.istore 8, 2) := dk_54 8 (dk_at dksJ16_shiftLeft_2_2 8 rfl rfl)
theorem dJ16_shiftLeft_2_58 : decode cJ16_shiftLeft_2 58 = .ok (.iload 8, 2) := dk_21 8 (dk_at dksJ16_shiftLeft_2_2 10 rfl rfl)
theorem dJ16_shiftLeft_2_60 : decode cJ16_shiftLeft_2 60 = .ok (.ifCond .eq 26, 3) := dk_153 0 26 (dk_at dksJ16_shiftLeft_2_2 12 rfl rfl)
theorem dJ16_shiftLeft_2_63 : decode cJ16_shiftLeft_2 63 = .ok (.iload 4, 2) := dk_21 4 (dk_at dksJ16_shiftLeft_2_2 15 rfl rfl)
theorem dJ16_shiftLeft_2_65 : decode cJ16_shiftLeft_2 65 = .ok (.iload_n 2, 1) := dk_28 (dk_at dksJ16_shiftLeft_2_2 17 rfl rfl)
theorem dJ16_shiftLeft_2_66 : decode cJ16_shiftLeft_2 66 = .ok (.iadd, 1) := dk_96 (dk_at dksJ16_shiftLeft_2_2 18 rfl rfl)
theorem dJ16_shiftLeft_2_67 : decode cJ16_shiftLeft_2 67 = .ok (.iconst 1, 1) := dk_4 (dk_at dksJ16_shiftLeft_2_2 19 rfl rfl)
theorem dJ16_shiftLeft_2_68 : decode cJ16_shiftLeft_2 68 = .ok (.iadd, 1) := dk_96 (dk_at dksJ16_shiftLeft_2_2 20 rfl rfl)
theorem dJ16_shiftLeft_2_69 : decode cJ16_shiftLeft_2 69 = .ok (.newarray .int, 2) := dk_188_10 (dk_at dksJ16_shiftLeft_2_2 21 rfl rfl)
theorem dJ16_shiftLeft_2_71 : decode cJ16_shiftLeft_2 71 = .ok (.astore 5, 2) := dk_58 5 (dk_at dksJ16_shiftLeft_2_3 0 rfl rfl)
theorem dJ16_shiftLeft_2_73 : decode cJ16_shiftLeft_2 73 = .ok (.aload 5, 2) := dk_25 5 (dk_at dksJ16_shiftLeft_2_3 2 rfl rfl)
theorem dJ16_shiftLeft_2_75 : decode cJ16_shiftLeft_2 75 = .ok (.iload 6, 2) := dk_21 6 (dk_at dksJ16_shiftLeft_2_3 4 rfl rfl)
theorem dJ16_shiftLeft_2_77 : decode cJ16_shiftLeft_2 77 = .ok (.iinc 6 1, 3) := dk_132 6 1 (dk_at dksJ16_shiftLeft_2_3 6 rfl rfl)
theorem dJ16_shiftLeft_2_80 : decode cJ16_shiftLeft_2 80 = .ok (.iload 8, 2) := dk_21 8 (dk_at dksJ16_shiftLeft_2_3 9 rfl rfl)
theorem dJ16_shiftLeft_2_82 : decode cJ16_shiftLeft_2 82 = .ok (.iastore, 1) := dk_79 (dk_at dksJ16_shiftLeft_2_3 11 rfl rfl)
theorem dJ16_shiftLeft_2_83 : decode cJ16_shiftLeft_2 83 = .ok (.goto 11, 3) := dk_167 0 11 (dk_at dksJ16_shiftLeft_2_3 12 rfl rfl)
theorem dJ16_shiftLeft_2_86 : decode cJ16_shiftLeft_2 86 = .ok (.iload 4, 2) := dk_21 4 (dk_at dksJ16_shiftLeft_2_3 15 rfl rfl)
theorem dJ16_shiftLeft_2_88 : decode cJ16_shiftLeft_2 88 = .ok (.iload_n 2, 1) := dk_28 (dk_at dksJ16_shiftLeft_2_3 17 rfl rfl)
theorem dJ16_shiftLeft_2_89 : decode cJ16_shiftLeft_2 89 = .ok (.iadd, 1) := dk_96 (dk_at dksJ16_shiftLeft_2_3 18 rfl rfl)
theorem dJ16_shiftLeft_2_90 : decode cJ16_shiftLeft_2 90 = .ok (.newarray .int, 2) := dk_188_10 (dk_at dksJ16_shiftLeft_2_3 19 rfl rfl)
theorem dJ16_shiftLeft_2_92 : decode cJ16_shiftLeft_2 92 = .ok (.astore 5, 2) := dk_58 5 (dk_at dksJ16_shiftLeft_2_3 21 rfl rfl)
theorem dJ16_shiftLeft_2_94 : decode cJ16_shiftLeft_2 94 = .ok (.iload 4, 2) := dk_21 4 (dk_at dksJ16_shiftLeft_2_4 0 rfl rfl)
theorem dJ16_shiftLeft_2_96 : decode cJ16_shiftLeft_2 96 = .ok (.iconst 1, 1) := dk_4 (dk_at dksJ16_shiftLeft_2_4 2 rfl rfl)
theorem dJ16_shiftLeft_2_97 : decode cJ16_shiftLeft_2 97 = .ok (.isub, 1) := dk_100 (dk_at dksJ16_shiftLeft_2_4 3 rfl rfl)
theorem dJ16_shiftLeft_2_98 : decode cJ16_shiftLeft_2 98 = .ok (.istore 9, 2) := dk_54 9 (dk_at dksJ16_shiftLeft_2_4 4 rfl rfl)
theorem dJ16_shiftLeft_2_100 : decode cJ16_shiftLeft_2 100 = .ok (.iconst 0, 1) := dk_3 (dk_at dksJ16_shiftLeft_2_4 6 rfl rfl)
theorem dJ16_shiftLeft_2_101 : decode cJ16_shiftLeft_2 101 = .ok (.iload 9, 2) := dk_21 9 (dk_at dksJ16_shiftLeft_2_4 7 rfl rfl)
theorem dJ16_shiftLeft_2_103 : decode cJ16_shiftLeft_2 103 = .ok (.iconst 1, 1) := dk_4 (dk_at dksJ16_shiftLeft_2_4 9 rfl rfl)
theorem dJ16_shiftLeft_2_104 : decode cJ16_shiftLeft_2 104 = .ok (.iadd, 1) := dk_96 (dk_at dksJ16_shiftLeft_2_4 10 rfl rfl)
theorem dJ16_shiftLeft_2_105 : decode cJ16_shiftLeft_2 105 = .ok (.aload_n 0, 1) := dk_42 (dk_at dksJ16_shiftLeft_2_4 11 rfl rfl)
theorem dJ16_shiftLeft_2_106 : decode cJ16_shiftLeft_2 106 = .ok (.arraylength, 1) := dk_190 (dk_at dksJ16_shiftLeft_2_4 12 rfl rfl)
theorem dJ16_shiftLeft_2_107 : decode cJ16_shiftLeft_2 107 = .ok (.invokestatic 611, 3) := dk_184 2 99 (dk_at dksJ16_shiftLeft_2_4 13 rfl rfl)
theorem dJ16_shiftLeft_2_110 : decode cJ16_shiftLeft_2 110 = .ok (.pop, 1) := dk_87 (dk_at dksJ16_shiftLeft_2_4 16 rfl rfl)
theorem dJ16_shiftLeft_2_111 : decode cJ16_shiftLeft_2 111 = .ok (.iload 6, 2) := dk_21 6 (dk_at dksJ16_shiftLeft_2_4 17 rfl rfl)
theorem dJ16_shiftLeft_2_113 : decode cJ16_shiftLeft_2 113 = .ok (.iload 9, 2) := dk_21 9 (dk_at dksJ16_shiftLeft_2_4 19 rfl rfl)
theorem dJ16_shiftLeft_2_115 : decode cJ16_shiftLeft_2 115 = .ok (.iload 6, 2) := dk_21 6 (dk_at dksJ16_shiftLeft_2_4 21 rfl rfl)
theorem dJ16_shiftLeft_2_117 : decode cJ16_shiftLeft_2 117 = .ok (.iadd, 1) := dk_96 (dk_at dksJ16_shiftLeft_2_4 23 rfl rfl)
theorem dJ16_shiftLeft_2_118 : decode cJ16_shiftLeft_2 118 = .ok (.iconst 1, 1) := dk_4 (dk_at dksJ16_shiftLeft_2_5 0 rfl rfl)
theorem dJ16_shiftLeft_2_119 : decode cJ16_shiftLeft_2 119 = .ok (.iadd, 1) := dk_96 (dk_at dksJ16_shiftLeft_2_5 1 rfl rfl)
theorem dJ16_shiftLeft_2_120 : decode cJ16_shiftLeft_2 120 = .ok (.aload 5, 2) := dk_25 5 (dk_at dksJ16_shiftLeft_2_5 2 rfl rfl)
theorem dJ16_shiftLeft_2_122 : decode cJ16_shiftLeft_2 122 = .ok (.arraylength, 1) := dk_190 (dk_at dksJ16_shiftLeft_2_5 4 rfl rfl)
theorem dJ16_shiftLeft_2_123 : decode cJ16_shiftLeft_2 123 = .ok (.invokestatic 611, 3) := dk_184 2 99 (dk_at dksJ16_shiftLeft_2_5 5 rfl rfl)
theorem dJ16_shiftLeft_2_126 : decode cJ16_shiftLeft_2 126 = .ok (.pop, 1) := dk_87 (dk_at dksJ16_shiftLeft_2_5 8 rfl rfl)
theorem dJ16_shiftLeft_2_127 : decode cJ16_shiftLeft_2 127 = .ok (.aload 5, 2) := dk_25 5 (dk_at dksJ16_shiftLeft_2_5 9 rfl rfl)
theorem dJ16_shiftLeft_2_129 : decode cJ16_shiftLeft_2 129 = .ok (.aload_n 0, 1) := dk_42 (dk_at dksJ16_shiftLeft_2_5 11 rfl rfl)
theorem dJ16_shiftLeft_2_130 : decode cJ16_shiftLeft_2 130 = .ok (.iload 6, 2) := dk_21 6 (dk_at dksJ16_shiftLeft_2_5 12 rfl rfl)
theorem dJ16_shiftLeft_2_132 : decode cJ16_shiftLeft_2 132 = .ok (.iload_n 3, 1) := dk_29 (dk_at dksJ16_shiftLeft_2_5 14 rfl rfl)
theorem dJ16_shiftLeft_2_133 : decode cJ16_shiftLeft_2 133 = .ok (.iload 9, 2) := dk_21 9 (dk_at dksJ16_shiftLeft_2_5 15 rfl rfl)
theorem dJ16_shiftLeft_2_135 : decode cJ16_shiftLeft_2 135 = .ok (.invokestatic 618, 3) := dk_184 2 106 (dk_at dksJ16_shiftLeft_2_5 17 rfl rfl)
theorem dJ16_shiftLeft_2_138 : decode cJ16_shiftLeft_2 138 = .ok (.aload 5, 2) := dk_25 5 (dk_at dksJ16_shiftLeft_2_5 20 rfl rfl)
theorem dJ16_shiftLeft_2_140 : decode cJ16_shiftLeft_2 140 = .ok (.iload 9, 2) := dk_21 9 (dk_at dksJ16_shiftLeft_2_5 22 rfl rfl)
theorem dJ16_shiftLeft_2_142 : decode cJ16_shiftLeft_2 142 = .ok (.iload 6, 2) := dk_21 6 (dk_at dksJ16_shiftLeft_2_6 0 rfl rfl)
theorem dJ16_shiftLeft_2_144 : decode cJ16_shiftLeft_2 144 = .ok (.iadd, 1) := dk_96 (dk_at dksJ16_shiftLeft_2_6 2 rfl rfl)
theorem dJ16_shiftLeft_2_145 : decode cJ16_shiftLeft_2 145 = .ok (.aload_n 0, 1) := dk_42 (dk_at dksJ16_shiftLeft_2_6 3 rfl rfl)
theorem dJ16_shiftLeft_2_146 : decode cJ16_shiftLeft_2 146 = .ok (.iload 9, 2) := dk_21 9 (dk_at dksJ16_shiftLeft_2_6 4 rfl rfl)
theorem dJ16_shiftLeft_2_148 : decode cJ16_shiftLeft_2 148 = .ok (.iaload, 1) := dk_46 (dk_at dksJ16_shiftLeft_2_6 6 rfl rfl)
theorem dJ16_shiftLeft_2_149 : decode cJ16_shiftLeft_2 149 = .ok (.iload_n 3, 1) := dk_29 (dk_at dksJ16_shiftLeft_2_6 7 rfl rfl)
theorem dJ16_shiftLeft_2_150 : decode cJ16_shiftLeft_2 150 = .ok (.ishl, 1) := dk_120 (dk_at dksJ16_shiftLeft_2_6 8 rfl rfl)
theorem dJ16_shiftLeft_2_151 : decode cJ16_shiftLeft_2 151 = .ok (.iastore, 1) := dk_79 (dk_at dksJ16_shiftLeft_2_6 9 rfl rfl)
theorem dJ16_shiftLeft_2_152 : decode cJ16_shiftLeft_2 152 = .ok (.aload 5, 2) := dk_25 5 (dk_at dksJ16_shiftLeft_2_6 10 rfl rfl)
theorem dJ16_shiftLeft_2_154 : decode cJ16_shiftLeft_2 154 = .ok (.areturn, 1) := dk_176 (dk_at dksJ16_shiftLeft_2_6 12 rfl rfl)
abbrev cJ16_subtract_2 : ByteArray := prog_32_method_38_code
def yJ16_subtract_2 : MethodName := ⟨RJ16, "subtract", "(Ljava/math/BigInteger;)Ljava/math/BigInteger;"⟩
def dkwJ16_subtract_2_5 : List UInt8 := [160, 0, 7, 4, 167, 0, 4, 2, 183, 0, 175, 176]
abbrev dktJ16_subtract_2_5 : List UInt8 := dkwJ16_subtract_2_5 ++ []
def dkwJ16_subtract_2_4 : List UInt8 := [180, 0, 28, 184, 1, 112, 78, 45, 184, 0, 53, 78, 187, 0, 23, 89, 45, 28, 42, 180, 0, 32]
abbrev dktJ16_subtract_2_4 : List UInt8 := dkwJ16_subtract_2_4 ++ dktJ16_subtract_2_5
def dkwJ16_subtract_2_3 : List UInt8 := [176, 28, 158, 0, 17, 42, 180, 0, 28, 43, 180, 0, 28, 184, 1, 112, 167, 0, 14, 43, 180, 0, 28, 42]
abbrev dktJ16_subtract_2_3 : List UInt8 := dkwJ16_subtract_2_3 ++ dktJ16_subtract_2_4
def dkwJ16_subtract_2_2 : List UInt8 := [184, 1, 106, 42, 180, 0, 32, 183, 0, 175, 176, 42, 43, 182, 1, 109, 61, 28, 154, 0, 7, 178, 0, 22]
abbrev dktJ16_subtract_2_2 : List UInt8 := dkwJ16_subtract_2_2 ++ dktJ16_subtract_2_3
def dkwJ16_subtract_2_1 : List UInt8 := [180, 0, 32, 42, 180, 0, 32, 159, 0, 26, 187, 0, 23, 89, 42, 180, 0, 28, 43, 180, 0, 28]
abbrev dktJ16_subtract_2_1 : List UInt8 := dkwJ16_subtract_2_1 ++ dktJ16_subtract_2_2
def dkwJ16_subtract_2_0 : List UInt8 := [43, 180, 0, 32, 154, 0, 5, 42, 176, 42, 180, 0, 32, 154, 0, 8, 43, 182, 1, 138, 176, 43]
abbrev dktJ16_subtract_2_0 : List UInt8 := dkwJ16_subtract_2_0 ++ dktJ16_subtract_2_1
theorem dksJ16_subtract_2_0 : cJ16_subtract_2.data.toList.drop 0 = dktJ16_subtract_2_0 := by decide +kernel
theorem dksJ16_subtract_2_1 : cJ16_subtract_2.data.toList.drop 22 = dktJ16_subtract_2_1 := dk_seg dksJ16_subtract_2_0 22 rfl rfl
theorem dksJ16_subtract_2_2 : cJ16_subtract_2.data.toList.drop 44 = dktJ16_subtract_2_2 := dk_seg dksJ16_subtract_2_1 22 rfl rfl
theorem dksJ16_subtract_2_3 : cJ16_subtract_2.data.toList.drop 68 = dktJ16_subtract_2_3 := dk_seg dksJ16_subtract_2_2 24 rfl rfl
theorem dksJ16_subtract_2_4 : cJ16_subtract_2.data.toList.drop 92 = dktJ16_subtract_2_4 := dk_seg dksJ16_subtract_2_3 24 rfl rfl
theorem dksJ16_subtract_2_5 : cJ16_subtract_2.data.toList.drop 114 = dktJ16_subtract_2_5 := dk_seg dksJ16_subtract_2_4 22 rfl rfl
theorem dJ16_subtract_2_0 : decode cJ16_subtract_2 0 = .ok (.aload_n 1, 1) := dk_43 (dk_at dksJ16_subtract_2_0 0 rfl rfl)
theorem dJ16_subtract_2_1 : decode cJ16_subtract_2 1 = .ok (.getfield 32, 3) := dk_180 0 32 (dk_at dksJ16_subtract_2_0 1 rfl rfl)
theorem dJ16_subtract_2_4 : decode cJ16_subtract_2 4 = .ok (.ifCond .ne 5, 3) := dk_154 0 5 (dk_at dksJ16_subtract_2_0 4 rfl rfl)
theorem dJ16_subtract_2_7 : decode cJ16_subtract_2 7 = .ok (.aload_n 0, 1) := dk_42 (dk_at dksJ16_subtract_2_0 7 rfl rfl)
theorem dJ16_subtract_2_8 : decode cJ16_subtract_2 8 = .ok (.areturn, 1) := dk_176 (dk_at dksJ16_subtract_2_0 8 rfl rfl)
theorem dJ16_subtract_2_9 : decode cJ16_subtract_2 9 = .ok (.aload_n 0, 1) := dk_42 (dk_at dksJ16_subtract_2_0 9 rfl rfl)
theorem dJ16_subtract_2_10 : decode cJ16_subtract_2 10 = .ok (.getfield 32, 3) := dk_180 0 32 (dk_at dksJ16_subtract_2_0 10 rfl rfl)
theorem dJ16_subtract_2_13 : decode cJ16_subtract_2 13 = .ok (.ifCond .ne 8, 3) := dk_154 0 8 (dk_at dksJ16_subtract_2_0 13 rfl rfl)
theorem dJ16_subtract_2_16 : decode cJ16_subtract_2 16 = .ok (.aload_n 1, 1) := dk_43 (dk_at dksJ16_subtract_2_0 16 rfl rfl)
theorem dJ16_subtract_2_17 : decode cJ16_subtract_2 17 = .ok (.invokevirtual 394, 3) := dk_182 1 138 (dk_at dksJ16_subtract_2_0 17 rfl rfl)
theorem dJ16_subtract_2_20 : decode cJ16_subtract_2 20 = .ok (.areturn, 1) := dk_176 (dk_at dksJ16_subtract_2_0 20 rfl rfl)
theorem dJ16_subtract_2_21 : decode cJ16_subtract_2 21 = .ok (.aload_n 1, 1) := dk_43 (dk_at dksJ16_subtract_2_0 21 rfl rfl)
theorem dJ16_subtract_2_22 : decode cJ16_subtract_2 22 = .ok (.getfield 32, 3) := dk_180 0 32 (dk_at dksJ16_subtract_2_1 0 rfl rfl)
theorem dJ16_subtract_2_25 : decode cJ16_subtract_2 25 = .ok (.aload_n 0, 1) := dk_42 (dk_at dksJ16_subtract_2_1 3 rfl rfl)
theorem dJ16_subtract_2_26 : decode cJ16_subtract_2 26 = .ok (.getfield 32, 3) := dk_180 0 32 (dk_at dksJ16_subtract_2_1 4 rfl rfl)
theorem dJ16_subtract_2_29 : decode cJ16_subtract_2 29 = .ok (.if_icmp .eq 26, 3) := dk_159 0 26 (dk_at dksJ16_subtract_2_1 7 rfl rfl)
theorem dJ16_subtract_2_32 : decode cJ16_subtract_2 32 = .ok (.new 23, 3) := dk_187 0 23 (dk_at dksJ16_subtract_2_1 10 rfl rfl)
theorem dJ16_subtract_2_35 : decode cJ16_subtract_2 35 = .ok (.dup, 1) := dk_89 (dk_at dksJ16_subtract_2_1 13 rfl rfl)
theorem dJ16_subtract_2_36 : decode cJ16_subtract_2 36 = .ok (.aload_n 0, 1) := dk_42 (dk_at dksJ16_subtract_2_1 14 rfl rfl)
theorem dJ16_subtract_2_37 : decode cJ16_subtract_2 37 = .ok (.getfield 28, 3) := dk_180 0 28 (dk_at dksJ16_subtract_2_1 15 rfl rfl)
theorem dJ16_subtract_2_40 : decode cJ16_subtract_2 40 = .ok (.aload_n 1, 1) := dk_43 (dk_at dksJ16_subtract_2_1 18 rfl rfl)
theorem dJ16_subtract_2_41 : decode cJ16_subtract_2 41 = .ok (.getfield 28, 3) := dk_180 0 28 (dk_at dksJ16_subtract_2_1 19 rfl rfl)
theorem dJ16_subtract_2_44 : decode cJ16_subtract_2 44 = .ok (.invokestatic 362, 3) := dk_184 1 106 (dk_at dksJ16_subtract_2_2 0 rfl rfl)
theorem dJ16_subtract_2_47 : decode cJ16_subtract_2 47 = .ok (.aload_n 0, 1) := dk_42 (dk_at dksJ16_subtract_2_2 3 rfl rfl)
theorem dJ16_subtract_2_48 : decode cJ16_subtract_2 48 = .ok (.getfield 32, 3) := dk_180 0 32 (dk_at dksJ16_subtract_2_2 4 rfl rfl)
theorem dJ16_subtract_2_51 : decode cJ16_subtract_2 51 = .ok (.invokespecial 175, 3) := dk_183 0 175 (dk_at dksJ16_subtract_2_2 7 rfl rfl)
theorem dJ16_subtract_2_54 : decode cJ16_subtract_2 54 = .ok (.areturn, 1) := dk_176 (dk_at dksJ16_subtract_2_2 10 rfl rfl)
theorem dJ16_subtract_2_55 : decode cJ16_subtract_2 55 = .ok (.aload_n 0, 1) := dk_42 (dk_at dksJ16_subtract_2_2 11 rfl rfl)
theorem dJ16_subtract_2_56 : decode cJ16_subtract_2 56 = .ok (.aload_n 1, 1) := dk_43 (dk_at dksJ16_subtract_2_2 12 rfl rfl)
theorem dJ16_subtract_2_57 : decode cJ16_subtract_2 57 = .ok (.invokevirtual 365, 3) := dk_182 1 109 (dk_at dksJ16_subtract_2_2 13 rfl rfl)
theorem dJ16_subtract_2_60 : decode cJ16_subtract_2 60 = .ok (.istore_n 2, 1) := dk_61 (dk_at dksJ16_subtract_2_2 16 rfl rfl)
theorem dJ16_subtract_2_61 : decode cJ16_subtract_2 61 = .ok (.iload_n 2, 1) := dk_28 (dk_at dksJ16_subtract_2_2 17 rfl rfl)
theorem dJ16_subtract_2_62 : decode cJ16_subtract_2 62 = .ok (.ifCond .ne 7, 3) := dk_154 0 7 (dk_at dksJ16_subtract_2_2 18 rfl rfl)
theorem dJ16_subtract_2_65 : decode cJ16_subtract_2 65 = .ok (.getstatic 22, 3) := dk_178 0 22 (dk_at dksJ16_subtract_2_2 21 rfl rfl)
theorem dJ16_subtract_2_68 : decode cJ16_subtract_2 68 = .ok (.areturn, 1) := dk_176 (dk_at dksJ16_subtract_2_3 0 rfl rfl)
theorem dJ16_subtract_2_69 : decode cJ16_subtract_2 69 = .ok (.iload_n 2, 1) := dk_28 (dk_at dksJ16_subtract_2_3 1 rfl rfl)
theorem dJ16_subtract_2_70 : decode cJ16_subtract_2 70 = .ok (.ifCond .le 17, 3) := dk_158 0 17 (dk_at dksJ16_subtract_2_3 2 rfl rfl)
theorem dJ16_subtract_2_73 : decode cJ16_subtract_2 73 = .ok (.aload_n 0, 1) := dk_42 (dk_at dksJ16_subtract_2_3 5 rfl rfl)
theorem dJ16_subtract_2_74 : decode cJ16_subtract_2 74 = .ok (.getfield 28, 3) := dk_180 0 28 (dk_at dksJ16_subtract_2_3 6 rfl rfl)
theorem dJ16_subtract_2_77 : decode cJ16_subtract_2 77 = .ok (.aload_n 1, 1) := dk_43 (dk_at dksJ16_subtract_2_3 9 rfl rfl)
theorem dJ16_subtract_2_78 : decode cJ16_subtract_2 78 = .ok (.getfield 28, 3) := dk_180 0 28 (dk_at dksJ16_subtract_2_3 10 rfl rfl)
theorem dJ16_subtract_2_81 : decode cJ16_subtract_2 81 = .ok (.invokestatic 368, 3) := dk_184 1 112 (dk_at dksJ16_subtract_2_3 13 rfl rfl)
theorem dJ16_subtract_2_84 : decode cJ16_subtract_2 84 = .ok (.goto 14, 3) := dk_167 0 14 (dk_at dksJ16_subtract_2_3 16 rfl rfl)
theorem dJ16_subtract_2_87 : decode cJ16_subtract_2 87 = .ok (.aload_n 1, 1) := dk_43 (dk_at dksJ16_subtract_2_3 19 rfl rfl)
theorem dJ16_subtract_2_88 : decode cJ16_subtract_2 88 = .ok (.getfield 28, 3) := dk_180 0 28 (dk_at dksJ16_subtract_2_3 20 rfl rfl)
theorem dJ16_subtract_2_91 : decode cJ16_subtract_2 91 = .ok (.aload_n 0, 1) := dk_42 (dk_at dksJ16_subtract_2_3 23 rfl rfl)
theorem dJ16_subtract_2_92 : decode cJ16_subtract_2 92 = .ok (.getfield 28, 3) := dk_180 0 28 (dk_at dksJ16_subtract_2_4 0 rfl rfl)
theorem dJ16_subtract_2_95 : decode cJ16_subtract_2 95 = .ok (.invokestatic 368, 3) := dk_184 1 112 (dk_at dksJ16_subtract_2_4 3 rfl rfl)
theorem dJ16_subtract_2_98 : decode cJ16_subtract_2 98 = .ok (.astore_n 3, 1) := dk_78 (dk_at dksJ16_subtract_2_4 6 rfl rfl)
theorem dJ16_subtract_2_99 : decode cJ16_subtract_2 99 = .ok (.aload_n 3, 1) := dk_45 (dk_at dksJ16_subtract_2_4 7 rfl rfl)
theorem dJ16_subtract_2_100 : decode cJ16_subtract_2 100 = .ok (.invokestatic 53, 3) := dk_184 0 53 (dk_at dksJ16_subtract_2_4 8 rfl rfl)
theorem dJ16_subtract_2_103 : decode cJ16_subtract_2 103 = .ok (.astore_n 3, 1) := dk_78 (dk_at dksJ16_subtract_2_4 11 rfl rfl)
theorem dJ16_subtract_2_104 : decode cJ16_subtract_2 104 = .ok (.new 23, 3) := dk_187 0 23 (dk_at dksJ16_subtract_2_4 12 rfl rfl)
theorem dJ16_subtract_2_107 : decode cJ16_subtract_2 107 = .ok (.dup, 1) := dk_89 (dk_at dksJ16_subtract_2_4 15 rfl rfl)
theorem dJ16_subtract_2_108 : decode cJ16_subtract_2 108 = .ok (.aload_n 3, 1) := dk_45 (dk_at dksJ16_subtract_2_4 16 rfl rfl)
theorem dJ16_subtract_2_109 : decode cJ16_subtract_2 109 = .ok (.iload_n 2, 1) := dk_28 (dk_at dksJ16_subtract_2_4 17 rfl rfl)
theorem dJ16_subtract_2_110 : decode cJ16_subtract_2 110 = .ok (.aload_n 0, 1) := dk_42 (dk_at dksJ16_subtract_2_4 18 rfl rfl)
theorem dJ16_subtract_2_111 : decode cJ16_subtract_2 111 = .ok (.getfield 32, 3) := dk_180 0 32 (dk_at dksJ16_subtract_2_4 19 rfl rfl)
theorem dJ16_subtract_2_114 : decode cJ16_subtract_2 114 = .ok (.if_icmp .ne 7, 3) := dk_160 0 7 (dk_at dksJ16_subtract_2_5 0 rfl rfl)
theorem dJ16_subtract_2_117 : decode cJ16_subtract_2 117 = .ok (.iconst 1, 1) := dk_4 (dk_at dksJ16_subtract_2_5 3 rfl rfl)
theorem dJ16_subtract_2_118 : decode cJ16_subtract_2 118 = .ok (.goto 4, 3) := dk_167 0 4 (dk_at dksJ16_subtract_2_5 4 rfl rfl)
theorem dJ16_subtract_2_121 : decode cJ16_subtract_2 121 = .ok (.iconst (-1), 1) := dk_2 (dk_at dksJ16_subtract_2_5 7 rfl rfl)
theorem dJ16_subtract_2_122 : decode cJ16_subtract_2 122 = .ok (.invokespecial 175, 3) := dk_183 0 175 (dk_at dksJ16_subtract_2_5 8 rfl rfl)
theorem dJ16_subtract_2_125 : decode cJ16_subtract_2 125 = .ok (.areturn, 1) := dk_176 (dk_at dksJ16_subtract_2_5 11 rfl rfl)
abbrev cJ16_multiplyByInt : ByteArray := prog_32_method_43_code
def yJ16_multiplyByInt : MethodName := ⟨RJ16, "multiplyByInt", "([III)Ljava/math/BigInteger;"⟩
def dkwJ16_multiplyByInt_5 : List UInt8 := [58, 4, 167, 0, 11, 25, 4, 21, 9, 22, 5, 136, 79, 187, 0, 23, 89, 25, 4, 28, 183, 0, 175, 176]
abbrev dktJ16_multiplyByInt_5 : List UInt8 := dkwJ16_multiplyByInt_5 ++ []
def dkwJ16_multiplyByInt_4 : List UInt8 := [55, 5, 132, 10, 255, 167, 255, 213, 22, 5, 9, 148, 154, 0, 17, 25, 4, 4, 25, 4, 190, 184, 1, 177]
abbrev dktJ16_multiplyByInt_4 : List UInt8 := dkwJ16_multiplyByInt_4 ++ dktJ16_multiplyByInt_5
def dkwJ16_multiplyByInt_3 : List UInt8 := [22, 7, 105, 22, 5, 97, 55, 11, 25, 4, 21, 9, 132, 9, 255, 22, 11, 136, 79, 22, 11, 16, 32, 125]
abbrev dktJ16_multiplyByInt_3 : List UInt8 := dkwJ16_multiplyByInt_3 ++ dktJ16_multiplyByInt_4
def dkwJ16_multiplyByInt_2 : List UInt8 := [190, 4, 100, 54, 9, 29, 4, 100, 54, 10, 21, 10, 155, 0, 44, 42, 21, 10, 46, 133, 20, 0, 130, 127]
abbrev dktJ16_multiplyByInt_2 : List UInt8 := dkwJ16_multiplyByInt_2 ++ dktJ16_multiplyByInt_3
def dkwJ16_multiplyByInt_1 : List UInt8 := [176, 42, 190, 62, 29, 4, 96, 188, 10, 58, 4, 9, 55, 5, 27, 133, 20, 0, 130, 127, 55, 7, 25, 4]
abbrev dktJ16_multiplyByInt_1 : List UInt8 := dkwJ16_multiplyByInt_1 ++ dktJ16_multiplyByInt_2
def dkwJ16_multiplyByInt_0 : List UInt8 := [27, 184, 1, 167, 4, 160, 0, 20, 187, 0, 23, 89, 42, 27, 184, 1, 170, 184, 1, 173, 28, 183, 0, 175]
abbrev dktJ16_multiplyByInt_0 : List UInt8 := dkwJ16_multiplyByInt_0 ++ dktJ16_multiplyByInt_1
theorem dksJ16_multiplyByInt_0 : cJ16_multiplyByInt.data.toList.drop 0 = dktJ16_multiplyByInt_0 := by decide +kernel
theorem dksJ16_multiplyByInt_1 : cJ16_multiplyByInt.data.toList.drop 24 = dktJ16_multiplyByInt_1 := dk_seg dksJ16_multiplyByInt_0 24 rfl rfl
theorem dksJ16_multiplyByInt_2 : cJ16_multiplyByInt.data.toList.drop 48 = dktJ16_multiplyByInt_2 := dk_seg dksJ16_multiplyByInt_1 24 rfl rfl
theorem dksJ16_multiplyByInt_3 : cJ16_multiplyByInt.data.toList.drop 72 = dktJ16_multiplyByInt_3 := dk_seg dksJ16_multiplyByInt_2 24 rfl rfl
theorem dksJ16_multiplyByInt_4 : cJ16_multiplyByInt.data.toList.drop 96 = dktJ16_multiplyByInt_4 := dk_seg dksJ16_multiplyByInt_3 24 rfl rfl
theorem dksJ16_multiplyByInt_5 : cJ16_multiplyByInt.data.toList.drop 120 = dktJ16_multiplyByInt_5 := dk_seg dksJ16_multiplyByInt_4 24 rfl rfl
theorem dJ16_multiplyByInt_0 : decode cJ16_multiplyByInt 0 = .ok (.iload_n 1, 1) := dk_27 (dk_at dksJ16_multiplyByInt_0 0 rfl rfl)
theorem dJ16_multiplyByInt_1 : decode cJ16_multiplyByInt 1 = .ok (.invokestatic 423, 3) := dk_184 1 167 (dk_at dksJ16_multiplyByInt_0 1 rfl rfl)
theorem dJ16_multiplyByInt_4 : decode cJ16_multiplyByInt 4 = .ok (.iconst 1, 1) := dk_4 (dk_at dksJ16_multiplyByInt_0 4 rfl rfl)
theorem dJ16_multiplyByInt_5 : decode cJ16_multiplyByInt 5 = .ok (.if_icmp .ne 20, 3) := dk_160 0 20 (dk_at dksJ16_multiplyByInt_0 5 rfl rfl)
theorem dJ16_multiplyByInt_8 : decode cJ16_multiplyByInt 8 = .ok (.new 23, 3) := dk_187 0 23 (dk_at dksJ16_multiplyByInt_0 8 rfl rfl)
theorem dJ16_multiplyByInt_11 : decode cJ16_multiplyByInt 11 = .ok (.dup, 1) := dk_89 (dk_at dksJ16_multiplyByInt_0 11 rfl rfl)
theorem dJ16_multiplyByInt_12 : decode cJ16_multiplyByInt 12 = .ok (.aload_n 0, 1) := dk_42 (dk_at dksJ16_multiplyByInt_0 12 rfl rfl)
theorem dJ16_multiplyByInt_13 : decode cJ16_multiplyByInt 13 = .ok (.iload_n 1, 1) := dk_27 (dk_at dksJ16_multiplyByInt_0 13 rfl rfl)
theorem dJ16_multiplyByInt_14 : decode cJ16_multiplyByInt 14 = .ok (.invokestatic 426, 3) := dk_184 1 170 (dk_at dksJ16_multiplyByInt_0 14 rfl rfl)
theorem dJ16_multiplyByInt_17 : decode cJ16_multiplyByInt 17 = .ok (.invokestatic 429, 3) := dk_184 1 173 (dk_at dksJ16_multiplyByInt_0 17 rfl rfl)
theorem dJ16_multiplyByInt_20 : decode cJ16_multiplyByInt 20 = .ok (.iload_n 2, 1) := dk_28 (dk_at dksJ16_multiplyByInt_0 20 rfl rfl)
theorem dJ16_multiplyByInt_21 : decode cJ16_multiplyByInt 21 = .ok (.invokespecial 175, 3) := dk_183 0 175 (dk_at dksJ16_multiplyByInt_0 21 rfl rfl)
theorem dJ16_multiplyByInt_24 : decode cJ16_multiplyByInt 24 = .ok (.areturn, 1) := dk_176 (dk_at dksJ16_multiplyByInt_1 0 rfl rfl)
theorem dJ16_multiplyByInt_25 : decode cJ16_multiplyByInt 25 = .ok (.aload_n 0, 1) := dk_42 (dk_at dksJ16_multiplyByInt_1 1 rfl rfl)
theorem dJ16_multiplyByInt_26 : decode cJ16_multiplyByInt 26 = .ok (.arraylength, 1) := dk_190 (dk_at dksJ16_multiplyByInt_1 2 rfl rfl)
theorem dJ16_multiplyByInt_27 : decode cJ16_multiplyByInt 27 = .ok (.istore_n 3, 1) := dk_62 (dk_at dksJ16_multiplyByInt_1 3 rfl rfl)
theorem dJ16_multiplyByInt_28 : decode cJ16_multiplyByInt 28 = .ok (.iload_n 3, 1) := dk_29 (dk_at dksJ16_multiplyByInt_1 4 rfl rfl)
theorem dJ16_multiplyByInt_29 : decode cJ16_multiplyByInt 29 = .ok (.iconst 1, 1) := dk_4 (dk_at dksJ16_multiplyByInt_1 5 rfl rfl)
theorem dJ16_multiplyByInt_30 : decode cJ16_multiplyByInt 30 = .ok (.iadd, 1) := dk_96 (dk_at dksJ16_multiplyByInt_1 6 rfl rfl)
theorem dJ16_multiplyByInt_31 : decode cJ16_multiplyByInt 31 = .ok (.newarray .int, 2) := dk_188_10 (dk_at dksJ16_multiplyByInt_1 7 rfl rfl)
theorem dJ16_multiplyByInt_33 : decode cJ16_multiplyByInt 33 = .ok (.astore 4, 2) := dk_58 4 (dk_at dksJ16_multiplyByInt_1 9 rfl rfl)
theorem dJ16_multiplyByInt_35 : decode cJ16_multiplyByInt 35 = .ok (.lconst 0, 1) := dk_9 (dk_at dksJ16_multiplyByInt_1 11 rfl rfl)
theorem dJ16_multiplyByInt_36 : decode cJ16_multiplyByInt 36 = .ok (.lstore 5, 2) := dk_55 5 (dk_at dksJ16_multiplyByInt_1 12 rfl rfl)
theorem dJ16_multiplyByInt_38 : decode cJ16_multiplyByInt 38 = .ok (.iload_n 1, 1) := dk_27 (dk_at dksJ16_multiplyByInt_1 14 rfl rfl)
theorem dJ16_multiplyByInt_39 : decode cJ16_multiplyByInt 39 = .ok (.i2l, 1) := dk_133 (dk_at dksJ16_multiplyByInt_1 15 rfl rfl)
theorem dJ16_multiplyByInt_40 : decode cJ16_multiplyByInt 40 = .ok (.ldc2_w 130, 3) := dk_20 0 130 (dk_at dksJ16_multiplyByInt_1 16 rfl rfl)
theorem dJ16_multiplyByInt_43 : decode cJ16_multiplyByInt 43 = .ok (.land, 1) := dk_127 (dk_at dksJ16_multiplyByInt_1 19 rfl rfl)
theorem dJ16_multiplyByInt_44 : decode cJ16_multiplyByInt 44 = .ok (.lstore 7, 2) := dk_55 7 (dk_at dksJ16_multiplyByInt_1 20 rfl rfl)
theorem dJ16_multiplyByInt_46 : decode cJ16_multiplyByInt 46 = .ok (.aload 4, 2) := dk_25 4 (dk_at dksJ16_multiplyByInt_1 22 rfl rfl)
theorem dJ16_multiplyByInt_48 : decode cJ16_multiplyByInt 48 = .ok (.arraylength, 1) := dk_190 (dk_at dksJ16_multiplyByInt_2 0 rfl rfl)
theorem dJ16_multiplyByInt_49 : decode cJ16_multiplyByInt 49 = .ok (.iconst 1, 1) := dk_4 (dk_at dksJ16_multiplyByInt_2 1 rfl rfl)
theorem dJ16_multiplyByInt_50 : decode cJ16_multiplyByInt 50 = .ok (.isub, 1) := dk_100 (dk_at dksJ16_multiplyByInt_2 2 rfl rfl)
theorem dJ16_multiplyByInt_51 : decode cJ16_multiplyByInt 51 = .ok (.istore 9, 2) := dk_54 9 (dk_at dksJ16_multiplyByInt_2 3 rfl rfl)
theorem dJ16_multiplyByInt_53 : decode cJ16_multiplyByInt 53 = .ok (.iload_n 3, 1) := dk_29 (dk_at dksJ16_multiplyByInt_2 5 rfl rfl)
theorem dJ16_multiplyByInt_54 : decode cJ16_multiplyByInt 54 = .ok (.iconst 1, 1) := dk_4 (dk_at dksJ16_multiplyByInt_2 6 rfl rfl)
theorem dJ16_multiplyByInt_55 : decode cJ16_multiplyByInt 55 = .ok (.isub, 1) := dk_100 (dk_at dksJ16_multiplyByInt_2 7 rfl rfl)
theorem dJ16_multiplyByInt_56 : decode cJ16_multiplyByInt 56 = .ok (.istore 10, 2) := dk_54 10 (dk_at dksJ16_multiplyByInt_2 8 rfl rfl)
theorem dJ16_multiplyByInt_58 : decode cJ16_multiplyByInt 58 = .ok (.iload 10, 2) := dk_21 10 (dk_at dksJ16_multiplyByInt_2 10 rfl rfl)
theorem dJ16_multiplyByInt_60 : decode cJ16_multiplyByInt 60 = .ok (.ifCond .lt 44, 3) := dk_155 0 44 (dk_at dksJ16_multiplyByInt_2 12 rfl rfl)
theorem dJ16_multiplyByInt_63 : decode cJ16_multiplyByInt 63 = .ok (.aload_n 0, 1) := dk_42 (dk_at dksJ16_multiplyByInt_2 15 rfl rfl)
theorem dJ16_multiplyByInt_64 : decode cJ16_multiplyByInt 64 = .ok (.iload 10, 2) := dk_21 10 (dk_at dksJ16_multiplyByInt_2 16 rfl rfl)
theorem dJ16_multiplyByInt_66 : decode cJ16_multiplyByInt 66 = .ok (.iaload, 1) := dk_46 (dk_at dksJ16_multiplyByInt_2 18 rfl rfl)
theorem dJ16_multiplyByInt_67 : decode cJ16_multiplyByInt 67 = .ok (.i2l, 1) := dk_133 (dk_at dksJ16_multiplyByInt_2 19 rfl rfl)
theorem dJ16_multiplyByInt_68 : decode cJ16_multiplyByInt 68 = .ok (.ldc2_w 130, 3) := dk_20 0 130 (dk_at dksJ16_multiplyByInt_2 20 rfl rfl)
theorem dJ16_multiplyByInt_71 : decode cJ16_multiplyByInt 71 = .ok (.land, 1) := dk_127 (dk_at dksJ16_multiplyByInt_2 23 rfl rfl)
theorem dJ16_multiplyByInt_72 : decode cJ16_multiplyByInt 72 = .ok (.lload 7, 2) := dk_22 7 (dk_at dksJ16_multiplyByInt_3 0 rfl rfl)
theorem dJ16_multiplyByInt_74 : decode cJ16_multiplyByInt 74 = .ok (.lmul, 1) := dk_105 (dk_at dksJ16_multiplyByInt_3 2 rfl rfl)
theorem dJ16_multiplyByInt_75 : decode cJ16_multiplyByInt 75 = .ok (.lload 5, 2) := dk_22 5 (dk_at dksJ16_multiplyByInt_3 3 rfl rfl)
theorem dJ16_multiplyByInt_77 : decode cJ16_multiplyByInt 77 = .ok (.ladd, 1) := dk_97 (dk_at dksJ16_multiplyByInt_3 5 rfl rfl)
theorem dJ16_multiplyByInt_78 : decode cJ16_multiplyByInt 78 = .ok (.lstore 11, 2) := dk_55 11 (dk_at dksJ16_multiplyByInt_3 6 rfl rfl)
theorem dJ16_multiplyByInt_80 : decode cJ16_multiplyByInt 80 = .ok (.aload 4, 2) := dk_25 4 (dk_at dksJ16_multiplyByInt_3 8 rfl rfl)
theorem dJ16_multiplyByInt_82 : decode cJ16_multiplyByInt 82 = .ok (.iload 9, 2) := dk_21 9 (dk_at dksJ16_multiplyByInt_3 10 rfl rfl)
theorem dJ16_multiplyByInt_84 : decode cJ16_multiplyByInt 84 = .ok (.iinc 9 (-1), 3) := dk_132 9 255 (dk_at dksJ16_multiplyByInt_3 12 rfl rfl)
theorem dJ16_multiplyByInt_87 : decode cJ16_multiplyByInt 87 = .ok (.lload 11, 2) := dk_22 11 (dk_at dksJ16_multiplyByInt_3 15 rfl rfl)
theorem dJ16_multiplyByInt_89 : decode cJ16_multiplyByInt 89 = .ok (.l2i, 1) := dk_136 (dk_at dksJ16_multiplyByInt_3 17 rfl rfl)
theorem dJ16_multiplyByInt_90 : decode cJ16_multiplyByInt 90 = .ok (.iastore, 1) := dk_79 (dk_at dksJ16_multiplyByInt_3 18 rfl rfl)
theorem dJ16_multiplyByInt_91 : decode cJ16_multiplyByInt 91 = .ok (.lload 11, 2) := dk_22 11 (dk_at dksJ16_multiplyByInt_3 19 rfl rfl)
theorem dJ16_multiplyByInt_93 : decode cJ16_multiplyByInt 93 = .ok (.bipush 32, 2) := dk_16 32 (dk_at dksJ16_multiplyByInt_3 21 rfl rfl)
theorem dJ16_multiplyByInt_95 : decode cJ16_multiplyByInt 95 = .ok (.lushr, 1) := dk_125 (dk_at dksJ16_multiplyByInt_3 23 rfl rfl)
theorem dJ16_multiplyByInt_96 : decode cJ16_multiplyByInt 96 = .ok (.lstore 5, 2) := dk_55 5 (dk_at dksJ16_multiplyByInt_4 0 rfl rfl)
theorem dJ16_multiplyByInt_98 : decode cJ16_multiplyByInt 98 = .ok (.iinc 10 (-1), 3) := dk_132 10 255 (dk_at dksJ16_multiplyByInt_4 2 rfl rfl)
theorem dJ16_multiplyByInt_101 : decode cJ16_multiplyByInt 101 = .ok (.goto (-43), 3) := dk_167 255 213 (dk_at dksJ16_multiplyByInt_4 5 rfl rfl)
theorem dJ16_multiplyByInt_104 : decode cJ16_multiplyByInt 104 = .ok (.lload 5, 2) := dk_22 5 (dk_at dksJ16_multiplyByInt_4 8 rfl rfl)
theorem dJ16_multiplyByInt_106 : decode cJ16_multiplyByInt 106 = .ok (.lconst 0, 1) := dk_9 (dk_at dksJ16_multiplyByInt_4 10 rfl rfl)
theorem dJ16_multiplyByInt_107 : decode cJ16_multiplyByInt 107 = .ok (.lcmp, 1) := dk_148 (dk_at dksJ16_multiplyByInt_4 11 rfl rfl)
theorem dJ16_multiplyByInt_108 : decode cJ16_multiplyByInt 108 = .ok (.ifCond .ne 17, 3) := dk_154 0 17 (dk_at dksJ16_multiplyByInt_4 12 rfl rfl)
theorem dJ16_multiplyByInt_111 : decode cJ16_multiplyByInt 111 = .ok (.aload 4, 2) := dk_25 4 (dk_at dksJ16_multiplyByInt_4 15 rfl rfl)
theorem dJ16_multiplyByInt_113 : decode cJ16_multiplyByInt 113 = .ok (.iconst 1, 1) := dk_4 (dk_at dksJ16_multiplyByInt_4 17 rfl rfl)
theorem dJ16_multiplyByInt_114 : decode cJ16_multiplyByInt 114 = .ok (.aload 4, 2) := dk_25 4 (dk_at dksJ16_multiplyByInt_4 18 rfl rfl)
theorem dJ16_multiplyByInt_116 : decode cJ16_multiplyByInt 116 = .ok (.arraylength, 1) := dk_190 (dk_at dksJ16_multiplyByInt_4 20 rfl rfl)
theorem dJ16_multiplyByInt_117 : decode cJ16_multiplyByInt 117 = .ok (.invokestatic 433, 3) := dk_184 1 177 (dk_at dksJ16_multiplyByInt_4 21 rfl rfl)
theorem dJ16_multiplyByInt_120 : decode cJ16_multiplyByInt 120 = .ok (.astore 4, 2) := dk_58 4 (dk_at dksJ16_multiplyByInt_5 0 rfl rfl)
theorem dJ16_multiplyByInt_122 : decode cJ16_multiplyByInt 122 = .ok (.goto 11, 3) := dk_167 0 11 (dk_at dksJ16_multiplyByInt_5 2 rfl rfl)
theorem dJ16_multiplyByInt_125 : decode cJ16_multiplyByInt 125 = .ok (.aload 4, 2) := dk_25 4 (dk_at dksJ16_multiplyByInt_5 5 rfl rfl)
theorem dJ16_multiplyByInt_127 : decode cJ16_multiplyByInt 127 = .ok (.iload 9, 2) := dk_21 9 (dk_at dksJ16_multiplyByInt_5 7 rfl rfl)
theorem dJ16_multiplyByInt_129 : decode cJ16_multiplyByInt 129 = .ok (.lload 5, 2) := dk_22 5 (dk_at dksJ16_multiplyByInt_5 9 rfl rfl)
theorem dJ16_multiplyByInt_131 : decode cJ16_multiplyByInt 131 = .ok (.l2i, 1) := dk_136 (dk_at dksJ16_multiplyByInt_5 11 rfl rfl)
theorem dJ16_multiplyByInt_132 : decode cJ16_multiplyByInt 132 = .ok (.iastore, 1) := dk_79 (dk_at dksJ16_multiplyByInt_5 12 rfl rfl)
theorem dJ16_multiplyByInt_133 : decode cJ16_multiplyByInt 133 = .ok (.new 23, 3) := dk_187 0 23 (dk_at dksJ16_multiplyByInt_5 13 rfl rfl)
theorem dJ16_multiplyByInt_136 : decode cJ16_multiplyByInt 136 = .ok (.dup, 1) := dk_89 (dk_at dksJ16_multiplyByInt_5 16 rfl rfl)
theorem dJ16_multiplyByInt_137 : decode cJ16_multiplyByInt 137 = .ok (.aload 4, 2) := dk_25 4 (dk_at dksJ16_multiplyByInt_5 17 rfl rfl)
theorem dJ16_multiplyByInt_139 : decode cJ16_multiplyByInt 139 = .ok (.iload_n 2, 1) := dk_28 (dk_at dksJ16_multiplyByInt_5 19 rfl rfl)
theorem dJ16_multiplyByInt_140 : decode cJ16_multiplyByInt 140 = .ok (.invokespecial 175, 3) := dk_183 0 175 (dk_at dksJ16_multiplyByInt_5 20 rfl rfl)
theorem dJ16_multiplyByInt_143 : decode cJ16_multiplyByInt 143 = .ok (.areturn, 1) := dk_176 (dk_at dksJ16_multiplyByInt_5 23 rfl rfl)
abbrev cJ16_multiplyToLen : ByteArray := prog_32_method_45_code
def yJ16_multiplyToLen : MethodName := ⟨RJ16, "multiplyToLen", "([II[II[I)[I"⟩
def dkwJ16_multiplyToLen_0 : List UInt8 := [42, 27, 184, 1, 185, 44, 29, 184, 1, 185, 42, 27, 44, 29, 25, 4, 184, 1, 188, 176]
abbrev dktJ16_multiplyToLen_0 : List UInt8 := dkwJ16_multiplyToLen_0 ++ []
theorem dksJ16_multiplyToLen_0 : cJ16_multiplyToLen.data.toList.drop 0 = dktJ16_multiplyToLen_0 := by decide +kernel
theorem dJ16_multiplyToLen_0 : decode cJ16_multiplyToLen 0 = .ok (.aload_n 0, 1) := dk_42 (dk_at dksJ16_multiplyToLen_0 0 rfl rfl)
theorem dJ16_multiplyToLen_1 : decode cJ16_multiplyToLen 1 = .ok (.iload_n 1, 1) := dk_27 (dk_at dksJ16_multiplyToLen_0 1 rfl rfl)
theorem dJ16_multiplyToLen_2 : decode cJ16_multiplyToLen 2 = .ok (.invokestatic 441, 3) := dk_184 1 185 (dk_at dksJ16_multiplyToLen_0 2 rfl rfl)
theorem dJ16_multiplyToLen_5 : decode cJ16_multiplyToLen 5 = .ok (.aload_n 2, 1) := dk_44 (dk_at dksJ16_multiplyToLen_0 5 rfl rfl)
theorem dJ16_multiplyToLen_6 : decode cJ16_multiplyToLen 6 = .ok (.iload_n 3, 1) := dk_29 (dk_at dksJ16_multiplyToLen_0 6 rfl rfl)
theorem dJ16_multiplyToLen_7 : decode cJ16_multiplyToLen 7 = .ok (.invokestatic 441, 3) := dk_184 1 185 (dk_at dksJ16_multiplyToLen_0 7 rfl rfl)
theorem dJ16_multiplyToLen_10 : decode cJ16_multiplyToLen 10 = .ok (.aload_n 0, 1) := dk_42 (dk_at dksJ16_multiplyToLen_0 10 rfl rfl)
theorem dJ16_multiplyToLen_11 : decode cJ16_multiplyToLen 11 = .ok (.iload_n 1, 1) := dk_27 (dk_at dksJ16_multiplyToLen_0 11 rfl rfl)
theorem dJ16_multiplyToLen_12 : decode cJ16_multiplyToLen 12 = .ok (.aload_n 2, 1) := dk_44 (dk_at dksJ16_multiplyToLen_0 12 rfl rfl)
theorem dJ16_multiplyToLen_13 : decode cJ16_multiplyToLen 13 = .ok (.iload_n 3, 1) := dk_29 (dk_at dksJ16_multiplyToLen_0 13 rfl rfl)
theorem dJ16_multiplyToLen_14 : decode cJ16_multiplyToLen 14 = .ok (.aload 4, 2) := dk_25 4 (dk_at dksJ16_multiplyToLen_0 14 rfl rfl)
theorem dJ16_multiplyToLen_16 : decode cJ16_multiplyToLen 16 = .ok (.invokestatic 444, 3) := dk_184 1 188 (dk_at dksJ16_multiplyToLen_0 16 rfl rfl)
theorem dJ16_multiplyToLen_19 : decode cJ16_multiplyToLen 19 = .ok (.areturn, 1) := dk_176 (dk_at dksJ16_multiplyToLen_0 19 rfl rfl)
abbrev cJ16_multiplyToLenCheck : ByteArray := prog_32_method_47_code
def yJ16_multiplyToLenCheck : MethodName := ⟨RJ16, "multiplyToLenCheck", "([II)V"⟩
def dkwJ16_multiplyToLenCheck_1 : List UInt8 := [183, 1, 197, 191, 177]
abbrev dktJ16_multiplyToLenCheck_1 : List UInt8 := dkwJ16_multiplyToLenCheck_1 ++ []
def dkwJ16_multiplyToLenCheck_0 : List UInt8 := [27, 157, 0, 4, 177, 42, 184, 1, 191, 87, 27, 42, 190, 164, 0, 14, 187, 1, 195, 89, 27, 4, 100]
abbrev dktJ16_multiplyToLenCheck_0 : List UInt8 := dkwJ16_multiplyToLenCheck_0 ++ dktJ16_multiplyToLenCheck_1
theorem dksJ16_multiplyToLenCheck_0 : cJ16_multiplyToLenCheck.data.toList.drop 0 = dktJ16_multiplyToLenCheck_0 := by decide +kernel
theorem dksJ16_multiplyToLenCheck_1 : cJ16_multiplyToLenCheck.data.toList.drop 23 = dktJ16_multiplyToLenCheck_1 := dk_seg dksJ16_multiplyToLenCheck_0 23 rfl rfl
theorem dJ16_multiplyToLenCheck_0 : decode cJ16_multiplyToLenCheck 0 = .ok (.iload_n 1, 1) := dk_27 (dk_at dksJ16_multiplyToLenCheck_0 0 rfl rfl)
theorem dJ16_multiplyToLenCheck_1 : decode cJ16_multiplyToLenCheck 1 = .ok (.ifCond .gt 4, 3) := dk_157 0 4 (dk_at dksJ16_multiplyToLenCheck_0 1 rfl rfl)
theorem dJ16_multiplyToLenCheck_4 : decode cJ16_multiplyToLenCheck 4 = .ok (.return_, 1) := dk_177 (dk_at dksJ16_multiplyToLenCheck_0 4 rfl rfl)
theorem dJ16_multiplyToLenCheck_5 : decode cJ16_multiplyToLenCheck 5 = .ok (.aload_n 0, 1) := dk_42 (dk_at dksJ16_multiplyToLenCheck_0 5 rfl rfl)
theorem dJ16_multiplyToLenCheck_6 : decode cJ16_multiplyToLenCheck 6 = .ok (.invokestatic 447, 3) := dk_184 1 191 (dk_at dksJ16_multiplyToLenCheck_0 6 rfl rfl)
theorem dJ16_multiplyToLenCheck_9 : decode cJ16_multiplyToLenCheck 9 = .ok (.pop, 1) := dk_87 (dk_at dksJ16_multiplyToLenCheck_0 9 rfl rfl)
theorem dJ16_multiplyToLenCheck_10 : decode cJ16_multiplyToLenCheck 10 = .ok (.iload_n 1, 1) := dk_27 (dk_at dksJ16_multiplyToLenCheck_0 10 rfl rfl)
theorem dJ16_multiplyToLenCheck_11 : decode cJ16_multiplyToLenCheck 11 = .ok (.aload_n 0, 1) := dk_42 (dk_at dksJ16_multiplyToLenCheck_0 11 rfl rfl)
theorem dJ16_multiplyToLenCheck_12 : decode cJ16_multiplyToLenCheck 12 = .ok (.arraylength, 1) := dk_190 (dk_at dksJ16_multiplyToLenCheck_0 12 rfl rfl)
theorem dJ16_multiplyToLenCheck_13 : decode cJ16_multiplyToLenCheck 13 = .ok (.if_icmp .le 14, 3) := dk_164 0 14 (dk_at dksJ16_multiplyToLenCheck_0 13 rfl rfl)
theorem dJ16_multiplyToLenCheck_16 : decode cJ16_multiplyToLenCheck 16 = .ok (.new 451, 3) := dk_187 1 195 (dk_at dksJ16_multiplyToLenCheck_0 16 rfl rfl)
theorem dJ16_multiplyToLenCheck_19 : decode cJ16_multiplyToLenCheck 19 = .ok (.dup, 1) := dk_89 (dk_at dksJ16_multiplyToLenCheck_0 19 rfl rfl)
theorem dJ16_multiplyToLenCheck_20 : decode cJ16_multiplyToLenCheck 20 = .ok (.iload_n 1, 1) := dk_27 (dk_at dksJ16_multiplyToLenCheck_0 20 rfl rfl)
theorem dJ16_multiplyToLenCheck_21 : decode cJ16_multiplyToLenCheck 21 = .ok (.iconst 1, 1) := dk_4 (dk_at dksJ16_multiplyToLenCheck_0 21 rfl rfl)
theorem dJ16_multiplyToLenCheck_22 : decode cJ16_multiplyToLenCheck 22 = .ok (.isub, 1) := dk_100 (dk_at dksJ16_multiplyToLenCheck_0 22 rfl rfl)
theorem dJ16_multiplyToLenCheck_23 : decode cJ16_multiplyToLenCheck 23 = .ok (.invokespecial 453, 3) := dk_183 1 197 (dk_at dksJ16_multiplyToLenCheck_1 0 rfl rfl)
theorem dJ16_multiplyToLenCheck_26 : decode cJ16_multiplyToLenCheck 26 = .ok (.athrow, 1) := dk_191 (dk_at dksJ16_multiplyToLenCheck_1 3 rfl rfl)
theorem dJ16_multiplyToLenCheck_27 : decode cJ16_multiplyToLenCheck 27 = .ok (.return_, 1) := dk_177 (dk_at dksJ16_multiplyToLenCheck_1 4 rfl rfl)
abbrev cJ16_implMultiplyToLen : ByteArray := prog_32_method_46_code
def yJ16_implMultiplyToLen : MethodName := ⟨RJ16, "implMultiplyToLen", "([II[II[I)[I"⟩
def dkwJ16_implMultiplyToLen_9 : List UInt8 := [167, 255, 160, 25, 4, 176]
abbrev dktJ16_implMultiplyToLen_9 : List UInt8 := dkwJ16_implMultiplyToLen_9 ++ []
def dkwJ16_implMultiplyToLen_8 : List UInt8 := [55, 7, 132, 10, 255, 132, 11, 255, 167, 255, 195, 25, 4, 21, 9, 22, 7, 136, 79, 132, 9, 255]
abbrev dktJ16_implMultiplyToLen_8 : List UInt8 := dkwJ16_implMultiplyToLen_8 ++ dktJ16_implMultiplyToLen_9
def dkwJ16_implMultiplyToLen_7 : List UInt8 := [133, 20, 0, 130, 127, 97, 22, 7, 97, 55, 12, 25, 4, 21, 11, 22, 12, 136, 79, 22, 12, 16, 32, 125]
abbrev dktJ16_implMultiplyToLen_7 : List UInt8 := dkwJ16_implMultiplyToLen_7 ++ dktJ16_implMultiplyToLen_8
def dkwJ16_implMultiplyToLen_6 : List UInt8 := [44, 21, 10, 46, 133, 20, 0, 130, 127, 42, 21, 9, 46, 133, 20, 0, 130, 127, 105, 25, 4, 21, 11, 46]
abbrev dktJ16_implMultiplyToLen_6 : List UInt8 := dkwJ16_implMultiplyToLen_6 ++ dktJ16_implMultiplyToLen_7
def dkwJ16_implMultiplyToLen_5 : List UInt8 := [155, 0, 97, 9, 55, 7, 21, 6, 54, 10, 21, 6, 4, 96, 21, 9, 96, 54, 11, 21, 10, 155, 0, 62]
abbrev dktJ16_implMultiplyToLen_5 : List UInt8 := dkwJ16_implMultiplyToLen_5 ++ dktJ16_implMultiplyToLen_6
def dkwJ16_implMultiplyToLen_4 : List UInt8 := [132, 10, 255, 167, 255, 206, 25, 4, 21, 5, 22, 7, 136, 79, 21, 5, 4, 100, 54, 9, 21, 9]
abbrev dktJ16_implMultiplyToLen_4 : List UInt8 := dkwJ16_implMultiplyToLen_4 ++ dktJ16_implMultiplyToLen_5
def dkwJ16_implMultiplyToLen_3 : List UInt8 := [22, 7, 97, 55, 11, 25, 4, 21, 10, 22, 11, 136, 79, 22, 11, 16, 32, 125, 55, 7, 132, 9, 255]
abbrev dktJ16_implMultiplyToLen_3 : List UInt8 := dkwJ16_implMultiplyToLen_3 ++ dktJ16_implMultiplyToLen_4
def dkwJ16_implMultiplyToLen_2 : List UInt8 := [21, 9, 155, 0, 51, 44, 21, 9, 46, 133, 20, 0, 130, 127, 42, 21, 5, 46, 133, 20, 0, 130, 127, 105]
abbrev dktJ16_implMultiplyToLen_2 : List UInt8 := dkwJ16_implMultiplyToLen_2 ++ dktJ16_implMultiplyToLen_3
def dkwJ16_implMultiplyToLen_1 : List UInt8 := [27, 29, 96, 188, 10, 58, 4, 9, 55, 7, 21, 6, 54, 9, 21, 6, 4, 96, 21, 5, 96, 54, 10]
abbrev dktJ16_implMultiplyToLen_1 : List UInt8 := dkwJ16_implMultiplyToLen_1 ++ dktJ16_implMultiplyToLen_2
def dkwJ16_implMultiplyToLen_0 : List UInt8 := [27, 4, 100, 54, 5, 29, 4, 100, 54, 6, 25, 4, 198, 0, 12, 25, 4, 190, 27, 29, 96, 162, 0, 10]
abbrev dktJ16_implMultiplyToLen_0 : List UInt8 := dkwJ16_implMultiplyToLen_0 ++ dktJ16_implMultiplyToLen_1
theorem dksJ16_implMultiplyToLen_0 : cJ16_implMultiplyToLen.data.toList.drop 0 = dktJ16_implMultiplyToLen_0 := by decide +kernel
theorem dksJ16_implMultiplyToLen_1 : cJ16_implMultiplyToLen.data.toList.drop 24 = dktJ16_implMultiplyToLen_1 := dk_seg dksJ16_implMultiplyToLen_0 24 rfl rfl
theorem dksJ16_implMultiplyToLen_2 : cJ16_implMultiplyToLen.data.toList.drop 47 = dktJ16_implMultiplyToLen_2 := dk_seg dksJ16_implMultiplyToLen_1 23 rfl rfl
theorem dksJ16_implMultiplyToLen_3 : cJ16_implMultiplyToLen.data.toList.drop 71 = dktJ16_implMultiplyToLen_3 := dk_seg dksJ16_implMultiplyToLen_2 24 rfl rfl
theorem dksJ16_implMultiplyToLen_4 : cJ16_implMultiplyToLen.data.toList.drop 94 = dktJ16_implMultiplyToLen_4 := dk_seg dksJ16_implMultiplyToLen_3 23 rfl rfl
theorem dksJ16_implMultiplyToLen_5 : cJ16_implMultiplyToLen.data.toList.drop 116 = dktJ16_implMultiplyToLen_5 := dk_seg dksJ16_implMultiplyToLen_4 22 rfl rfl
theorem dksJ16_implMultiplyToLen_6 : cJ16_implMultiplyToLen.data.toList.drop 140 = dktJ16_implMultiplyToLen_6 := dk_seg dksJ16_implMultiplyToLen_5 24 rfl rfl
theorem dksJ16_implMultiplyToLen_7 : cJ16_implMultiplyToLen.data.toList.drop 164 = dktJ16_implMultiplyToLen_7 := dk_seg dksJ16_implMultiplyToLen_6 24 rfl rfl
theorem dksJ16_implMultiplyToLen_8 : cJ16_implMultiplyToLen.data.toList.drop 188 = dktJ16_implMultiplyToLen_8 := dk_seg dksJ16_implMultiplyToLen_7 24 rfl rfl
theorem dksJ16_implMultiplyToLen_9 : cJ16_implMultiplyToLen.data.toList.drop 210 = dktJ16_implMultiplyToLen_9 := dk_seg dksJ16_implMultiplyToLen_8 22 rfl rfl
theorem dJ16_implMultiplyToLen_0 : decode cJ16_implMultiplyToLen 0 = .ok (.iload_n 1, 1) := dk_27 (dk_at dksJ16_implMultiplyToLen_0 0 rfl rfl)
theorem dJ16_implMultiplyToLen_1 : decode cJ16_implMultiplyToLen 1 = .ok (.iconst 1, 1) := dk_4 (dk_at dksJ16_implMultiplyToLen_0 1 rfl rfl)
theorem dJ16_implMultiplyToLen_2 : decode cJ16_implMultiplyToLen 2 = .ok (.isub, 1) := dk_100 (dk_at dksJ16_implMultiplyToLen_0 2 rfl rfl)
theorem dJ16_implMultiplyToLen_3 : decode cJ16_implMultiplyToLen 3 = .ok (.istore 5, 2) := dk_54 5 (dk_at dksJ16_implMultiplyToLen_0 3 rfl rfl)
theorem dJ16_implMultiplyToLen_5 : decode cJ16_implMultiplyToLen 5 = .ok (.iload_n 3, 1) := dk_29 (dk_at dksJ16_implMultiplyToLen_0 5 rfl rfl)
theorem dJ16_implMultiplyToLen_6 : decode cJ16_implMultiplyToLen 6 = .ok (.iconst 1, 1) := dk_4 (dk_at dksJ16_implMultiplyToLen_0 6 rfl rfl)
theorem dJ16_implMultiplyToLen_7 : decode cJ16_implMultiplyToLen 7 = .ok (.isub, 1) := dk_100 (dk_at dksJ16_implMultiplyToLen_0 7 rfl rfl)
theorem dJ16_implMultiplyToLen_8 : decode cJ16_implMultiplyToLen 8 = .ok (.istore 6, 2) := dk_54 6 (dk_at dksJ16_implMultiplyToLen_0 8 rfl rfl)
theorem dJ16_implMultiplyToLen_10 : decode cJ16_implMultiplyToLen 10 = .ok (.aload 4, 2) := dk_25 4 (dk_at dksJ16_implMultiplyToLen_0 10 rfl rfl)
theorem dJ16_implMultiplyToLen_12 : decode cJ16_implMultiplyToLen 12 = .ok (.ifnull 12, 3) := dk_198 0 12 (dk_at dksJ16_implMultiplyToLen_0 12 rfl rfl)
theorem dJ16_implMultiplyToLen_15 : decode cJ16_implMultiplyToLen 15 = .ok (.aload 4, 2) := dk_25 4 (dk_at dksJ16_implMultiplyToLen_0 15 rfl rfl)
theorem dJ16_implMultiplyToLen_17 : decode cJ16_implMultiplyToLen 17 = .ok (.arraylength, 1) := dk_190 (dk_at dksJ16_implMultiplyToLen_0 17 rfl rfl)
theorem dJ16_implMultiplyToLen_18 : decode cJ16_implMultiplyToLen 18 = .ok (.iload_n 1, 1) := dk_27 (dk_at dksJ16_implMultiplyToLen_0 18 rfl rfl)
theorem dJ16_implMultiplyToLen_19 : decode cJ16_implMultiplyToLen 19 = .ok (.iload_n 3, 1) := dk_29 (dk_at dksJ16_implMultiplyToLen_0 19 rfl rfl)
theorem dJ16_implMultiplyToLen_20 : decode cJ16_implMultiplyToLen 20 = .ok (.iadd, 1) := dk_96 (dk_at dksJ16_implMultiplyToLen_0 20 rfl rfl)
theorem dJ16_implMultiplyToLen_21 : decode cJ16_implMultiplyToLen 21 = .ok (.if_icmp .ge 10, 3) := dk_162 0 10 (dk_at dksJ16_implMultiplyToLen_0 21 rfl rfl)
theorem dJ16_implMultiplyToLen_24 : decode cJ16_implMultiplyToLen 24 = .ok (.iload_n 1, 1) := dk_27 (dk_at dksJ16_implMultiplyToLen_1 0 rfl rfl)
theorem dJ16_implMultiplyToLen_25 : decode cJ16_implMultiplyToLen 25 = .ok (.iload_n 3, 1) := dk_29 (dk_at dksJ16_implMultiplyToLen_1 1 rfl rfl)
theorem dJ16_implMultiplyToLen_26 : decode cJ16_implMultiplyToLen 26 = .ok (.iadd, 1) := dk_96 (dk_at dksJ16_implMultiplyToLen_1 2 rfl rfl)
theorem dJ16_implMultiplyToLen_27 : decode cJ16_implMultiplyToLen 27 = .ok (.newarray .int, 2) := dk_188_10 (dk_at dksJ16_implMultiplyToLen_1 3 rfl rfl)
theorem dJ16_implMultiplyToLen_29 : decode cJ16_implMultiplyToLen 29 = .ok (.astore 4, 2) := dk_58 4 (dk_at dksJ16_implMultiplyToLen_1 5 rfl rfl)
theorem dJ16_implMultiplyToLen_31 : decode cJ16_implMultiplyToLen 31 = .ok (.lconst 0, 1) := dk_9 (dk_at dksJ16_implMultiplyToLen_1 7 rfl rfl)
theorem dJ16_implMultiplyToLen_32 : decode cJ16_implMultiplyToLen 32 = .ok (.lstore 7, 2) := dk_55 7 (dk_at dksJ16_implMultiplyToLen_1 8 rfl rfl)
theorem dJ16_implMultiplyToLen_34 : decode cJ16_implMultiplyToLen 34 = .ok (.iload 6, 2) := dk_21 6 (dk_at dksJ16_implMultiplyToLen_1 10 rfl rfl)
theorem dJ16_implMultiplyToLen_36 : decode cJ16_implMultiplyToLen 36 = .ok (.istore 9, 2) := dk_54 9 (dk_at dksJ16_implMultiplyToLen_1 12 rfl rfl)
theorem dJ16_implMultiplyToLen_38 : decode cJ16_implMultiplyToLen 38 = .ok (.iload 6, 2) := dk_21 6 (dk_at dksJ16_implMultiplyToLen_1 14 rfl rfl)
theorem dJ16_implMultiplyToLen_40 : decode cJ16_implMultiplyToLen 40 = .ok (.iconst 1, 1) := dk_4 (dk_at dksJ16_implMultiplyToLen_1 16 rfl rfl)
theorem dJ16_implMultiplyToLen_41 : decode cJ16_implMultiplyToLen 41 = .ok (.iadd, 1) := dk_96 (dk_at dksJ16_implMultiplyToLen_1 17 rfl rfl)
theorem dJ16_implMultiplyToLen_42 : decode cJ16_implMultiplyToLen 42 = .ok (.iload 5, 2) := dk_21 5 (dk_at dksJ16_implMultiplyToLen_1 18 rfl rfl)
theorem dJ16_implMultiplyToLen_44 : decode cJ16_implMultiplyToLen 44 = .ok (.iadd, 1) := dk_96 (dk_at dksJ16_implMultiplyToLen_1 20 rfl rfl)
theorem dJ16_implMultiplyToLen_45 : decode cJ16_implMultiplyToLen 45 = .ok (.istore 10, 2) := dk_54 10 (dk_at dksJ16_implMultiplyToLen_1 21 rfl rfl)
theorem dJ16_implMultiplyToLen_47 : decode cJ16_implMultiplyToLen 47 = .ok (.iload 9, 2) := dk_21 9 (dk_at dksJ16_implMultiplyToLen_2 0 rfl rfl)
theorem dJ16_implMultiplyToLen_49 : decode cJ16_implMultiplyToLen 49 = .ok (.ifCond .lt 51, 3) := dk_155 0 51 (dk_at dksJ16_implMultiplyToLen_2 2 rfl rfl)
theorem dJ16_implMultiplyToLen_52 : decode cJ16_implMultiplyToLen 52 = .ok (.aload_n 2, 1) := dk_44 (dk_at dksJ16_implMultiplyToLen_2 5 rfl rfl)
theorem dJ16_implMultiplyToLen_53 : decode cJ16_implMultiplyToLen 53 = .ok (.iload 9, 2) := dk_21 9 (dk_at dksJ16_implMultiplyToLen_2 6 rfl rfl)
theorem dJ16_implMultiplyToLen_55 : decode cJ16_implMultiplyToLen 55 = .ok (.iaload, 1) := dk_46 (dk_at dksJ16_implMultiplyToLen_2 8 rfl rfl)
theorem dJ16_implMultiplyToLen_56 : decode cJ16_implMultiplyToLen 56 = .ok (.i2l, 1) := dk_133 (dk_at dksJ16_implMultiplyToLen_2 9 rfl rfl)
theorem dJ16_implMultiplyToLen_57 : decode cJ16_implMultiplyToLen 57 = .ok (.ldc2_w 130, 3) := dk_20 0 130 (dk_at dksJ16_implMultiplyToLen_2 10 rfl rfl)
theorem dJ16_implMultiplyToLen_60 : decode cJ16_implMultiplyToLen 60 = .ok (.land, 1) := dk_127 (dk_at dksJ16_implMultiplyToLen_2 13 rfl rfl)
theorem dJ16_implMultiplyToLen_61 : decode cJ16_implMultiplyToLen 61 = .ok (.aload_n 0, 1) := dk_42 (dk_at dksJ16_implMultiplyToLen_2 14 rfl rfl)
theorem dJ16_implMultiplyToLen_62 : decode cJ16_implMultiplyToLen 62 = .ok (.iload 5, 2) := dk_21 5 (dk_at dksJ16_implMultiplyToLen_2 15 rfl rfl)
theorem dJ16_implMultiplyToLen_64 : decode cJ16_implMultiplyToLen 64 = .ok (.iaload, 1) := dk_46 (dk_at dksJ16_implMultiplyToLen_2 17 rfl rfl)
theorem dJ16_implMultiplyToLen_65 : decode cJ16_implMultiplyToLen 65 = .ok (.i2l, 1) := dk_133 (dk_at dksJ16_implMultiplyToLen_2 18 rfl rfl)
theorem dJ16_implMultiplyToLen_66 : decode cJ16_implMultiplyToLen 66 = .ok (.ldc2_w 130, 3) := dk_20 0 130 (dk_at dksJ16_implMultiplyToLen_2 19 rfl rfl)
theorem dJ16_implMultiplyToLen_69 : decode cJ16_implMultiplyToLen 69 = .ok (.land, 1) := dk_127 (dk_at dksJ16_implMultiplyToLen_2 22 rfl rfl)
theorem dJ16_implMultiplyToLen_70 : decode cJ16_implMultiplyToLen 70 = .ok (.lmul, 1) := dk_105 (dk_at dksJ16_implMultiplyToLen_2 23 rfl rfl)
theorem dJ16_implMultiplyToLen_71 : decode cJ16_implMultiplyToLen 71 = .ok (.lload 7, 2) := dk_22 7 (dk_at dksJ16_implMultiplyToLen_3 0 rfl rfl)
theorem dJ16_implMultiplyToLen_73 : decode cJ16_implMultiplyToLen 73 = .ok (.ladd, 1) := dk_97 (dk_at dksJ16_implMultiplyToLen_3 2 rfl rfl)
theorem dJ16_implMultiplyToLen_74 : decode cJ16_implMultiplyToLen 74 = .ok (.lstore 11, 2) := dk_55 11 (dk_at dksJ16_implMultiplyToLen_3 3 rfl rfl)
theorem dJ16_implMultiplyToLen_76 : decode cJ16_implMultiplyToLen 76 = .ok (.aload 4, 2) := dk_25 4 (dk_at dksJ16_implMultiplyToLen_3 5 rfl rfl)
theorem dJ16_implMultiplyToLen_78 : decode cJ16_implMultiplyToLen 78 = .ok (.iload 10, 2) := dk_21 10 (dk_at dksJ16_implMultiplyToLen_3 7 rfl rfl)
theorem dJ16_implMultiplyToLen_80 : decode cJ16_implMultiplyToLen 80 = .ok (.lload 11, 2) := dk_22 11 (dk_at dksJ16_implMultiplyToLen_3 9 rfl rfl)
theorem dJ16_implMultiplyToLen_82 : decode cJ16_implMultiplyToLen 82 = .ok (.l2i, 1) := dk_136 (dk_at dksJ16_implMultiplyToLen_3 11 rfl rfl)
theorem dJ16_implMultiplyToLen_83 : decode cJ16_implMultiplyToLen 83 = .ok (.iastore, 1) := dk_79 (dk_at dksJ16_implMultiplyToLen_3 12 rfl rfl)
theorem dJ16_implMultiplyToLen_84 : decode cJ16_implMultiplyToLen 84 = .ok (.lload 11, 2) := dk_22 11 (dk_at dksJ16_implMultiplyToLen_3 13 rfl rfl)
theorem dJ16_implMultiplyToLen_86 : decode cJ16_implMultiplyToLen 86 = .ok (.bipush 32, 2) := dk_16 32 (dk_at dksJ16_implMultiplyToLen_3 15 rfl rfl)
theorem dJ16_implMultiplyToLen_88 : decode cJ16_implMultiplyToLen 88 = .ok (.lushr, 1) := dk_125 (dk_at dksJ16_implMultiplyToLen_3 17 rfl rfl)
theorem dJ16_implMultiplyToLen_89 : decode cJ16_implMultiplyToLen 89 = .ok (.lstore 7, 2) := dk_55 7 (dk_at dksJ16_implMultiplyToLen_3 18 rfl rfl)
theorem dJ16_implMultiplyToLen_91 : decode cJ16_implMultiplyToLen 91 = .ok (.iinc 9 (-1), 3) := dk_132 9 255 (dk_at dksJ16_implMultiplyToLen_3 20 rfl rfl)
theorem dJ16_implMultiplyToLen_94 : decode cJ16_implMultiplyToLen 94 = .ok (.iinc 10 (-1), 3) := dk_132 10 255 (dk_at dksJ16_implMultiplyToLen_4 0 rfl rfl)
theorem dJ16_implMultiplyToLen_97 : decode cJ16_implMultiplyToLen 97 = .ok (.goto (-50), 3) := dk_167 255 206 (dk_at dksJ16_implMultiplyToLen_4 3 rfl rfl)
theorem dJ16_implMultiplyToLen_100 : decode cJ16_implMultiplyToLen 100 = .ok (.aload 4, 2) := dk_25 4 (dk_at dksJ16_implMultiplyToLen_4 6 rfl rfl)
theorem dJ16_implMultiplyToLen_102 : decode cJ16_implMultiplyToLen 102 = .ok (.iload 5, 2) := dk_21 5 (dk_at dksJ16_implMultiplyToLen_4 8 rfl rfl)
theorem dJ16_implMultiplyToLen_104 : decode cJ16_implMultiplyToLen 104 = .ok (.lload 7, 2) := dk_22 7 (dk_at dksJ16_implMultiplyToLen_4 10 rfl rfl)
theorem dJ16_implMultiplyToLen_106 : decode cJ16_implMultiplyToLen 106 = .ok (.l2i, 1) := dk_136 (dk_at dksJ16_implMultiplyToLen_4 12 rfl rfl)
theorem dJ16_implMultiplyToLen_107 : decode cJ16_implMultiplyToLen 107 = .ok (.iastore, 1) := dk_79 (dk_at dksJ16_implMultiplyToLen_4 13 rfl rfl)
theorem dJ16_implMultiplyToLen_108 : decode cJ16_implMultiplyToLen 108 = .ok (.iload 5, 2) := dk_21 5 (dk_at dksJ16_implMultiplyToLen_4 14 rfl rfl)
theorem dJ16_implMultiplyToLen_110 : decode cJ16_implMultiplyToLen 110 = .ok (.iconst 1, 1) := dk_4 (dk_at dksJ16_implMultiplyToLen_4 16 rfl rfl)
theorem dJ16_implMultiplyToLen_111 : decode cJ16_implMultiplyToLen 111 = .ok (.isub, 1) := dk_100 (dk_at dksJ16_implMultiplyToLen_4 17 rfl rfl)
theorem dJ16_implMultiplyToLen_112 : decode cJ16_implMultiplyToLen 112 = .ok (.istore 9, 2) := dk_54 9 (dk_at dksJ16_implMultiplyToLen_4 18 rfl rfl)
theorem dJ16_implMultiplyToLen_114 : decode cJ16_implMultiplyToLen 114 = .ok (.iload 9, 2) := dk_21 9 (dk_at dksJ16_implMultiplyToLen_4 20 rfl rfl)
theorem dJ16_implMultiplyToLen_116 : decode cJ16_implMultiplyToLen 116 = .ok (.ifCond .lt 97, 3) := dk_155 0 97 (dk_at dksJ16_implMultiplyToLen_5 0 rfl rfl)
theorem dJ16_implMultiplyToLen_119 : decode cJ16_implMultiplyToLen 119 = .ok (.lconst 0, 1) := dk_9 (dk_at dksJ16_implMultiplyToLen_5 3 rfl rfl)
theorem dJ16_implMultiplyToLen_120 : decode cJ16_implMultiplyToLen 120 = .ok (.lstore 7, 2) := dk_55 7 (dk_at dksJ16_implMultiplyToLen_5 4 rfl rfl)
theorem dJ16_implMultiplyToLen_122 : decode cJ16_implMultiplyToLen 122 = .ok (.iload 6, 2) := dk_21 6 (dk_at dksJ16_implMultiplyToLen_5 6 rfl rfl)
theorem dJ16_implMultiplyToLen_124 : decode cJ16_implMultiplyToLen 124 = .ok (.istore 10, 2) := dk_54 10 (dk_at dksJ16_implMultiplyToLen_5 8 rfl rfl)
theorem dJ16_implMultiplyToLen_126 : decode cJ16_implMultiplyToLen 126 = .ok (.iload 6, 2) := dk_21 6 (dk_at dksJ16_implMultiplyToLen_5 10 rfl rfl)
theorem dJ16_implMultiplyToLen_128 : decode cJ16_implMultiplyToLen 128 = .ok (.iconst 1, 1) := dk_4 (dk_at dksJ16_implMultiplyToLen_5 12 rfl rfl)
theorem dJ16_implMultiplyToLen_129 : decode cJ16_implMultiplyToLen 129 = .ok (.iadd, 1) := dk_96 (dk_at dksJ16_implMultiplyToLen_5 13 rfl rfl)
theorem dJ16_implMultiplyToLen_130 : decode cJ16_implMultiplyToLen 130 = .ok (.iload 9, 2) := dk_21 9 (dk_at dksJ16_implMultiplyToLen_5 14 rfl rfl)
theorem dJ16_implMultiplyToLen_132 : decode cJ16_implMultiplyToLen 132 = .ok (.iadd, 1) := dk_96 (dk_at dksJ16_implMultiplyToLen_5 16 rfl rfl)
theorem dJ16_implMultiplyToLen_133 : decode cJ16_implMultiplyToLen 133 = .ok (.istore 11, 2) := dk_54 11 (dk_at dksJ16_implMultiplyToLen_5 17 rfl rfl)
theorem dJ16_implMultiplyToLen_135 : decode cJ16_implMultiplyToLen 135 = .ok (.iload 10, 2) := dk_21 10 (dk_at dksJ16_implMultiplyToLen_5 19 rfl rfl)
theorem dJ16_implMultiplyToLen_137 : decode cJ16_implMultiplyToLen 137 = .ok (.ifCond .lt 62, 3) := dk_155 0 62 (dk_at dksJ16_implMultiplyToLen_5 21 rfl rfl)
theorem dJ16_implMultiplyToLen_140 : decode cJ16_implMultiplyToLen 140 = .ok (.aload_n 2, 1) := dk_44 (dk_at dksJ16_implMultiplyToLen_6 0 rfl rfl)
theorem dJ16_implMultiplyToLen_141 : decode cJ16_implMultiplyToLen 141 = .ok (.iload 10, 2) := dk_21 10 (dk_at dksJ16_implMultiplyToLen_6 1 rfl rfl)
theorem dJ16_implMultiplyToLen_143 : decode cJ16_implMultiplyToLen 143 = .ok (.iaload, 1) := dk_46 (dk_at dksJ16_implMultiplyToLen_6 3 rfl rfl)
theorem dJ16_implMultiplyToLen_144 : decode cJ16_implMultiplyToLen 144 = .ok (.i2l, 1) := dk_133 (dk_at dksJ16_implMultiplyToLen_6 4 rfl rfl)
theorem dJ16_implMultiplyToLen_145 : decode cJ16_implMultiplyToLen 145 = .ok (.ldc2_w 130, 3) := dk_20 0 130 (dk_at dksJ16_implMultiplyToLen_6 5 rfl rfl)
theorem dJ16_implMultiplyToLen_148 : decode cJ16_implMultiplyToLen 148 = .ok (.land, 1) := dk_127 (dk_at dksJ16_implMultiplyToLen_6 8 rfl rfl)
theorem dJ16_implMultiplyToLen_149 : decode cJ16_implMultiplyToLen 149 = .ok (.aload_n 0, 1) := dk_42 (dk_at dksJ16_implMultiplyToLen_6 9 rfl rfl)
theorem dJ16_implMultiplyToLen_150 : decode cJ16_implMultiplyToLen 150 = .ok (.iload 9, 2) := dk_21 9 (dk_at dksJ16_implMultiplyToLen_6 10 rfl rfl)
theorem dJ16_implMultiplyToLen_152 : decode cJ16_implMultiplyToLen 152 = .ok (.iaload, 1) := dk_46 (dk_at dksJ16_implMultiplyToLen_6 12 rfl rfl)
theorem dJ16_implMultiplyToLen_153 : decode cJ16_implMultiplyToLen 153 = .ok (.i2l, 1) := dk_133 (dk_at dksJ16_implMultiplyToLen_6 13 rfl rfl)
theorem dJ16_implMultiplyToLen_154 : decode cJ16_implMultiplyToLen 154 = .ok (.ldc2_w 130, 3) := dk_20 0 130 (dk_at dksJ16_implMultiplyToLen_6 14 rfl rfl)
theorem dJ16_implMultiplyToLen_157 : decode cJ16_implMultiplyToLen 157 = .ok (.land, 1) := dk_127 (dk_at dksJ16_implMultiplyToLen_6 17 rfl rfl)
theorem dJ16_implMultiplyToLen_158 : decode cJ16_implMultiplyToLen 158 = .ok (.lmul, 1) := dk_105 (dk_at dksJ16_implMultiplyToLen_6 18 rfl rfl)
theorem dJ16_implMultiplyToLen_159 : decode cJ16_implMultiplyToLen 159 = .ok (.aload 4, 2) := dk_25 4 (dk_at dksJ16_implMultiplyToLen_6 19 rfl rfl)
theorem dJ16_implMultiplyToLen_161 : decode cJ16_implMultiplyToLen 161 = .ok (.iload 11, 2) := dk_21 11 (dk_at dksJ16_implMultiplyToLen_6 21 rfl rfl)
theorem dJ16_implMultiplyToLen_163 : decode cJ16_implMultiplyToLen 163 = .ok (.iaload, 1) := dk_46 (dk_at dksJ16_implMultiplyToLen_6 23 rfl rfl)
theorem dJ16_implMultiplyToLen_164 : decode cJ16_implMultiplyToLen 164 = .ok (.i2l, 1) := dk_133 (dk_at dksJ16_implMultiplyToLen_7 0 rfl rfl)
theorem dJ16_implMultiplyToLen_165 : decode cJ16_implMultiplyToLen 165 = .ok (.ldc2_w 130, 3) := dk_20 0 130 (dk_at dksJ16_implMultiplyToLen_7 1 rfl rfl)
theorem dJ16_implMultiplyToLen_168 : decode cJ16_implMultiplyToLen 168 = .ok (.land, 1) := dk_127 (dk_at dksJ16_implMultiplyToLen_7 4 rfl rfl)
theorem dJ16_implMultiplyToLen_169 : decode cJ16_implMultiplyToLen 169 = .ok (.ladd, 1) := dk_97 (dk_at dksJ16_implMultiplyToLen_7 5 rfl rfl)
theorem dJ16_implMultiplyToLen_170 : decode cJ16_implMultiplyToLen 170 = .ok (.lload 7, 2) := dk_22 7 (dk_at dksJ16_implMultiplyToLen_7 6 rfl rfl)
theorem dJ16_implMultiplyToLen_172 : decode cJ16_implMultiplyToLen 172 = .ok (.ladd, 1) := dk_97 (dk_at dksJ16_implMultiplyToLen_7 8 rfl rfl)
theorem dJ16_implMultiplyToLen_173 : decode cJ16_implMultiplyToLen 173 = .ok (.lstore 12, 2) := dk_55 12 (dk_at dksJ16_implMultiplyToLen_7 9 rfl rfl)
theorem dJ16_implMultiplyToLen_175 : decode cJ16_implMultiplyToLen 175 = .ok (.aload 4, 2) := dk_25 4 (dk_at dksJ16_implMultiplyToLen_7 11 rfl rfl)
theorem dJ16_implMultiplyToLen_177 : decode cJ16_implMultiplyToLen 177 = .ok (.iload 11, 2) := dk_21 11 (dk_at dksJ16_implMultiplyToLen_7 13 rfl rfl)
theorem dJ16_implMultiplyToLen_179 : decode cJ16_implMultiplyToLen 179 = .ok (.lload 12, 2) := dk_22 12 (dk_at dksJ16_implMultiplyToLen_7 15 rfl rfl)
theorem dJ16_implMultiplyToLen_181 : decode cJ16_implMultiplyToLen 181 = .ok (.l2i, 1) := dk_136 (dk_at dksJ16_implMultiplyToLen_7 17 rfl rfl)
theorem dJ16_implMultiplyToLen_182 : decode cJ16_implMultiplyToLen 182 = .ok (.iastore, 1) := dk_79 (dk_at dksJ16_implMultiplyToLen_7 18 rfl rfl)
theorem dJ16_implMultiplyToLen_183 : decode cJ16_implMultiplyToLen 183 = .ok (.lload 12, 2) := dk_22 12 (dk_at dksJ16_implMultiplyToLen_7 19 rfl rfl)
theorem dJ16_implMultiplyToLen_185 : decode cJ16_implMultiplyToLen 185 = .ok (.bipush 32, 2) := dk_16 32 (dk_at dksJ16_implMultiplyToLen_7 21 rfl rfl)
theorem dJ16_implMultiplyToLen_187 : decode cJ16_implMultiplyToLen 187 = .ok (.lushr, 1) := dk_125 (dk_at dksJ16_implMultiplyToLen_7 23 rfl rfl)
theorem dJ16_implMultiplyToLen_188 : decode cJ16_implMultiplyToLen 188 = .ok (.lstore 7, 2) := dk_55 7 (dk_at dksJ16_implMultiplyToLen_8 0 rfl rfl)
theorem dJ16_implMultiplyToLen_190 : decode cJ16_implMultiplyToLen 190 = .ok (.iinc 10 (-1), 3) := dk_132 10 255 (dk_at dksJ16_implMultiplyToLen_8 2 rfl rfl)
theorem dJ16_implMultiplyToLen_193 : decode cJ16_implMultiplyToLen 193 = .ok (.iinc 11 (-1), 3) := dk_132 11 255 (dk_at dksJ16_implMultiplyToLen_8 5 rfl rfl)
theorem dJ16_implMultiplyToLen_196 : decode cJ16_implMultiplyToLen 196 = .ok (.goto (-61), 3) := dk_167 255 195 (dk_at dksJ16_implMultiplyToLen_8 8 rfl rfl)
theorem dJ16_implMultiplyToLen_199 : decode cJ16_implMultiplyToLen 199 = .ok (.aload 4, 2) := dk_25 4 (dk_at dksJ16_implMultiplyToLen_8 11 rfl rfl)
theorem dJ16_implMultiplyToLen_201 : decode cJ16_implMultiplyToLen 201 = .ok (.iload 9, 2) := dk_21 9 (dk_at dksJ16_implMultiplyToLen_8 13 rfl rfl)
theorem dJ16_implMultiplyToLen_203 : decode cJ16_implMultiplyToLen 203 = .ok (.lload 7, 2) := dk_22 7 (dk_at dksJ16_implMultiplyToLen_8 15 rfl rfl)
theorem dJ16_implMultiplyToLen_205 : decode cJ16_implMultiplyToLen 205 = .ok (.l2i, 1) := dk_136 (dk_at dksJ16_implMultiplyToLen_8 17 rfl rfl)
theorem dJ16_implMultiplyToLen_206 : decode cJ16_implMultiplyToLen 206 = .ok (.iastore, 1) := dk_79 (dk_at dksJ16_implMultiplyToLen_8 18 rfl rfl)
theorem dJ16_implMultiplyToLen_207 : decode cJ16_implMultiplyToLen 207 = .ok (.iinc 9 (-1), 3) := dk_132 9 255 (dk_at dksJ16_implMultiplyToLen_8 19 rfl rfl)
theorem dJ16_implMultiplyToLen_210 : decode cJ16_implMultiplyToLen 210 = .ok (.goto (-96), 3) := dk_167 255 160 (dk_at dksJ16_implMultiplyToLen_9 0 rfl rfl)
theorem dJ16_implMultiplyToLen_213 : decode cJ16_implMultiplyToLen 213 = .ok (.aload 4, 2) := dk_25 4 (dk_at dksJ16_implMultiplyToLen_9 3 rfl rfl)
theorem dJ16_implMultiplyToLen_215 : decode cJ16_implMultiplyToLen 215 = .ok (.areturn, 1) := dk_176 (dk_at dksJ16_implMultiplyToLen_9 5 rfl rfl)
abbrev cJ16_equals : ByteArray := prog_32_method_124_code
def yJ16_equals : MethodName := ⟨RJ16, "equals", "(Ljava/lang/Object;)Z"⟩
def dkwJ16_equals_4 : List UInt8 := [172]
abbrev dktJ16_equals_4 : List UInt8 := dkwJ16_equals_4 ++ []
def dkwJ16_equals_3 : List UInt8 := [162, 0, 23, 25, 5, 21, 6, 46, 45, 21, 6, 46, 159, 0, 5, 3, 172, 132, 6, 1, 167, 255, 232, 4]
abbrev dktJ16_equals_3 : List UInt8 := dkwJ16_equals_3 ++ dktJ16_equals_4
def dkwJ16_equals_2 : List UInt8 := [180, 0, 28, 58, 5, 21, 4, 25, 5, 190, 159, 0, 5, 3, 172, 3, 54, 6, 21, 6, 21, 4]
abbrev dktJ16_equals_2 : List UInt8 := dkwJ16_equals_2 ++ dktJ16_equals_3
def dkwJ16_equals_1 : List UInt8 := [44, 180, 0, 32, 42, 180, 0, 32, 159, 0, 5, 3, 172, 42, 180, 0, 28, 78, 45, 190, 54, 4, 44]
abbrev dktJ16_equals_1 : List UInt8 := dkwJ16_equals_1 ++ dktJ16_equals_2
def dkwJ16_equals_0 : List UInt8 := [43, 42, 166, 0, 5, 4, 172, 43, 193, 0, 23, 153, 0, 11, 43, 192, 0, 23, 77, 167, 0, 5, 3, 172]
abbrev dktJ16_equals_0 : List UInt8 := dkwJ16_equals_0 ++ dktJ16_equals_1
theorem dksJ16_equals_0 : cJ16_equals.data.toList.drop 0 = dktJ16_equals_0 := by decide +kernel
theorem dksJ16_equals_1 : cJ16_equals.data.toList.drop 24 = dktJ16_equals_1 := dk_seg dksJ16_equals_0 24 rfl rfl
theorem dksJ16_equals_2 : cJ16_equals.data.toList.drop 47 = dktJ16_equals_2 := dk_seg dksJ16_equals_1 23 rfl rfl
theorem dksJ16_equals_3 : cJ16_equals.data.toList.drop 69 = dktJ16_equals_3 := dk_seg dksJ16_equals_2 22 rfl rfl
theorem dksJ16_equals_4 : cJ16_equals.data.toList.drop 93 = dktJ16_equals_4 := dk_seg dksJ16_equals_3 24 rfl rfl
theorem dJ16_equals_0 : decode cJ16_equals 0 = .ok (.aload_n 1, 1) := dk_43 (dk_at dksJ16_equals_0 0 rfl rfl)
theorem dJ16_equals_1 : decode cJ16_equals 1 = .ok (.aload_n 0, 1) := dk_42 (dk_at dksJ16_equals_0 1 rfl rfl)
theorem dJ16_equals_2 : decode cJ16_equals 2 = .ok (.if_acmp .ne 5, 3) := dk_166 0 5 (dk_at dksJ16_equals_0 2 rfl rfl)
theorem dJ16_equals_5 : decode cJ16_equals 5 = .ok (.iconst 1, 1) := dk_4 (dk_at dksJ16_equals_0 5 rfl rfl)
theorem dJ16_equals_6 : decode cJ16_equals 6 = .ok (.ireturn, 1) := dk_172 (dk_at dksJ16_equals_0 6 rfl rfl)
theorem dJ16_equals_7 : decode cJ16_equals 7 = .ok (.aload_n 1, 1) := dk_43 (dk_at dksJ16_equals_0 7 rfl rfl)
theorem dJ16_equals_8 : decode cJ16_equals 8 = .ok (.instanceof 23, 3) := dk_193 0 23 (dk_at dksJ16_equals_0 8 rfl rfl)
theorem dJ16_equals_11 : decode cJ16_equals 11 = .ok (.ifCond .eq 11, 3) := dk_153 0 11 (dk_at dksJ16_equals_0 11 rfl rfl)
theorem dJ16_equals_14 : decode cJ16_equals 14 = .ok (.aload_n 1, 1) := dk_43 (dk_at dksJ16_equals_0 14 rfl rfl)
theorem dJ16_equals_15 : decode cJ16_equals 15 = .ok (.checkcast 23, 3) := dk_192 0 23 (dk_at dksJ16_equals_0 15 rfl rfl)
theorem dJ16_equals_18 : decode cJ16_equals 18 = .ok (.astore_n 2, 1) := dk_77 (dk_at dksJ16_equals_0 18 rfl rfl)
theorem dJ16_equals_19 : decode cJ16_equals 19 = .ok (.goto 5, 3) := dk_167 0 5 (dk_at dksJ16_equals_0 19 rfl rfl)
theorem dJ16_equals_22 : decode cJ16_equals 22 = .ok (.iconst 0, 1) := dk_3 (dk_at dksJ16_equals_0 22 rfl rfl)
theorem dJ16_equals_23 : decode cJ16_equals 23 = .ok (.ireturn, 1) := dk_172 (dk_at dksJ16_equals_0 23 rfl rfl)
theorem dJ16_equals_24 : decode cJ16_equals 24 = .ok (.aload_n 2, 1) := dk_44 (dk_at dksJ16_equals_1 0 rfl rfl)
theorem dJ16_equals_25 : decode cJ16_equals 25 = .ok (.getfield 32, 3) := dk_180 0 32 (dk_at dksJ16_equals_1 1 rfl rfl)
theorem dJ16_equals_28 : decode cJ16_equals 28 = .ok (.aload_n 0, 1) := dk_42 (dk_at dksJ16_equals_1 4 rfl rfl)
theorem dJ16_equals_29 : decode cJ16_equals 29 = .ok (.getfield 32, 3) := dk_180 0 32 (dk_at dksJ16_equals_1 5 rfl rfl)
theorem dJ16_equals_32 : decode cJ16_equals 32 = .ok (.if_icmp .eq 5, 3) := dk_159 0 5 (dk_at dksJ16_equals_1 8 rfl rfl)
theorem dJ16_equals_35 : decode cJ16_equals 35 = .ok (.iconst 0, 1) := dk_3 (dk_at dksJ16_equals_1 11 rfl rfl)
theorem dJ16_equals_36 : decode cJ16_equals 36 = .ok (.ireturn, 1) := dk_172 (dk_at dksJ16_equals_1 12 rfl rfl)
theorem dJ16_equals_37 : decode cJ16_equals 37 = .ok (.aload_n 0, 1) := dk_42 (dk_at dksJ16_equals_1 13 rfl rfl)
theorem dJ16_equals_38 : decode cJ16_equals 38 = .ok (.getfield 28, 3) := dk_180 0 28 (dk_at dksJ16_equals_1 14 rfl rfl)
theorem dJ16_equals_41 : decode cJ16_equals 41 = .ok (.astore_n 3, 1) := dk_78 (dk_at dksJ16_equals_1 17 rfl rfl)
theorem dJ16_equals_42 : decode cJ16_equals 42 = .ok (.aload_n 3, 1) := dk_45 (dk_at dksJ16_equals_1 18 rfl rfl)
theorem dJ16_equals_43 : decode cJ16_equals 43 = .ok (.arraylength, 1) := dk_190 (dk_at dksJ16_equals_1 19 rfl rfl)
theorem dJ16_equals_44 : decode cJ16_equals 44 = .ok (.istore 4, 2) := dk_54 4 (dk_at dksJ16_equals_1 20 rfl rfl)
theorem dJ16_equals_46 : decode cJ16_equals 46 = .ok (.aload_n 2, 1) := dk_44 (dk_at dksJ16_equals_1 22 rfl rfl)
theorem dJ16_equals_47 : decode cJ16_equals 47 = .ok (.getfield 28, 3) := dk_180 0 28 (dk_at dksJ16_equals_2 0 rfl rfl)
theorem dJ16_equals_50 : decode cJ16_equals 50 = .ok (.astore 5, 2) := dk_58 5 (dk_at dksJ16_equals_2 3 rfl rfl)
theorem dJ16_equals_52 : decode cJ16_equals 52 = .ok (.iload 4, 2) := dk_21 4 (dk_at dksJ16_equals_2 5 rfl rfl)
theorem dJ16_equals_54 : decode cJ16_equals 54 = .ok (.aload 5, 2) := dk_25 5 (dk_at dksJ16_equals_2 7 rfl rfl)
theorem dJ16_equals_56 : decode cJ16_equals 56 = .ok (.arraylength, 1) := dk_190 (dk_at dksJ16_equals_2 9 rfl rfl)
theorem dJ16_equals_57 : decode cJ16_equals 57 = .ok (.if_icmp .eq 5, 3) := dk_159 0 5 (dk_at dksJ16_equals_2 10 rfl rfl)
theorem dJ16_equals_60 : decode cJ16_equals 60 = .ok (.iconst 0, 1) := dk_3 (dk_at dksJ16_equals_2 13 rfl rfl)
theorem dJ16_equals_61 : decode cJ16_equals 61 = .ok (.ireturn, 1) := dk_172 (dk_at dksJ16_equals_2 14 rfl rfl)
theorem dJ16_equals_62 : decode cJ16_equals 62 = .ok (.iconst 0, 1) := dk_3 (dk_at dksJ16_equals_2 15 rfl rfl)
theorem dJ16_equals_63 : decode cJ16_equals 63 = .ok (.istore 6, 2) := dk_54 6 (dk_at dksJ16_equals_2 16 rfl rfl)
theorem dJ16_equals_65 : decode cJ16_equals 65 = .ok (.iload 6, 2) := dk_21 6 (dk_at dksJ16_equals_2 18 rfl rfl)
theorem dJ16_equals_67 : decode cJ16_equals 67 = .ok (.iload 4, 2) := dk_21 4 (dk_at dksJ16_equals_2 20 rfl rfl)
theorem dJ16_equals_69 : decode cJ16_equals 69 = .ok (.if_icmp .ge 23, 3) := dk_162 0 23 (dk_at dksJ16_equals_3 0 rfl rfl)
theorem dJ16_equals_72 : decode cJ16_equals 72 = .ok (.aload 5, 2) := dk_25 5 (dk_at dksJ16_equals_3 3 rfl rfl)
theorem dJ16_equals_74 : decode cJ16_equals 74 = .ok (.iload 6, 2) := dk_21 6 (dk_at dksJ16_equals_3 5 rfl rfl)
theorem dJ16_equals_76 : decode cJ16_equals 76 = .ok (.iaload, 1) := dk_46 (dk_at dksJ16_equals_3 7 rfl rfl)
theorem dJ16_equals_77 : decode cJ16_equals 77 = .ok (.aload_n 3, 1) := dk_45 (dk_at dksJ16_equals_3 8 rfl rfl)
theorem dJ16_equals_78 : decode cJ16_equals 78 = .ok (.iload 6, 2) := dk_21 6 (dk_at dksJ16_equals_3 9 rfl rfl)
theorem dJ16_equals_80 : decode cJ16_equals 80 = .ok (.iaload, 1) := dk_46 (dk_at dksJ16_equals_3 11 rfl rfl)
theorem dJ16_equals_81 : decode cJ16_equals 81 = .ok (.if_icmp .eq 5, 3) := dk_159 0 5 (dk_at dksJ16_equals_3 12 rfl rfl)
theorem dJ16_equals_84 : decode cJ16_equals 84 = .ok (.iconst 0, 1) := dk_3 (dk_at dksJ16_equals_3 15 rfl rfl)
theorem dJ16_equals_85 : decode cJ16_equals 85 = .ok (.ireturn, 1) := dk_172 (dk_at dksJ16_equals_3 16 rfl rfl)
theorem dJ16_equals_86 : decode cJ16_equals 86 = .ok (.iinc 6 1, 3) := dk_132 6 1 (dk_at dksJ16_equals_3 17 rfl rfl)
theorem dJ16_equals_89 : decode cJ16_equals 89 = .ok (.goto (-24), 3) := dk_167 255 232 (dk_at dksJ16_equals_3 20 rfl rfl)
theorem dJ16_equals_92 : decode cJ16_equals 92 = .ok (.iconst 1, 1) := dk_4 (dk_at dksJ16_equals_3 23 rfl rfl)
theorem dJ16_equals_93 : decode cJ16_equals 93 = .ok (.ireturn, 1) := dk_172 (dk_at dksJ16_equals_4 0 rfl rfl)
abbrev cJ16_gcd : ByteArray := prog_32_method_73_code
def yJ16_gcd : MethodName := ⟨RJ16, "gcd", "(Ljava/math/BigInteger;)Ljava/math/BigInteger;"⟩
def dkwJ16_gcd_2 : List UInt8 := [58, 4, 25, 4, 4, 182, 2, 36, 176]
abbrev dktJ16_gcd_2 : List UInt8 := dkwJ16_gcd_2 ++ []
def dkwJ16_gcd_1 : List UInt8 := [187, 2, 29, 89, 42, 183, 2, 55, 77, 187, 2, 29, 89, 43, 183, 2, 55, 78, 44, 45, 182, 2, 86]
abbrev dktJ16_gcd_1 : List UInt8 := dkwJ16_gcd_1 ++ dktJ16_gcd_2
def dkwJ16_gcd_0 : List UInt8 := [43, 180, 0, 32, 154, 0, 8, 42, 182, 1, 229, 176, 42, 180, 0, 32, 154, 0, 8, 43, 182, 1, 229, 176]
abbrev dktJ16_gcd_0 : List UInt8 := dkwJ16_gcd_0 ++ dktJ16_gcd_1
theorem dksJ16_gcd_0 : cJ16_gcd.data.toList.drop 0 = dktJ16_gcd_0 := by decide +kernel
theorem dksJ16_gcd_1 : cJ16_gcd.data.toList.drop 24 = dktJ16_gcd_1 := dk_seg dksJ16_gcd_0 24 rfl rfl
theorem dksJ16_gcd_2 : cJ16_gcd.data.toList.drop 47 = dktJ16_gcd_2 := dk_seg dksJ16_gcd_1 23 rfl rfl
theorem dJ16_gcd_0 : decode cJ16_gcd 0 = .ok (.aload_n 1, 1) := dk_43 (dk_at dksJ16_gcd_0 0 rfl rfl)
theorem dJ16_gcd_1 : decode cJ16_gcd 1 = .ok (.getfield 32, 3) := dk_180 0 32 (dk_at dksJ16_gcd_0 1 rfl rfl)
theorem dJ16_gcd_4 : decode cJ16_gcd 4 = .ok (.ifCond .ne 8, 3) := dk_154 0 8 (dk_at dksJ16_gcd_0 4 rfl rfl)
theorem dJ16_gcd_7 : decode cJ16_gcd 7 = .ok (.aload_n 0, 1) := dk_42 (dk_at dksJ16_gcd_0 7 rfl rfl)
theorem dJ16_gcd_8 : decode cJ16_gcd 8 = .ok (.invokevirtual 485, 3) := dk_182 1 229 (dk_at dksJ16_gcd_0 8 rfl rfl)
theorem dJ16_gcd_11 : decode cJ16_gcd 11 = .ok (.areturn, 1) := dk_176 (dk_at dksJ16_gcd_0 11 rfl rfl)
theorem dJ16_gcd_12 : decode cJ16_gcd 12 = .ok (.aload_n 0, 1) := dk_42 (dk_at dksJ16_gcd_0 12 rfl rfl)
theorem dJ16_gcd_13 : decode cJ16_gcd 13 = .ok (.getfield 32, 3) := dk_180 0 32 (dk_at dksJ16_gcd_0 13 rfl rfl)
theorem dJ16_gcd_16 : decode cJ16_gcd 16 = .ok (.ifCond .ne 8, 3) := dk_154 0 8 (dk_at dksJ16_gcd_0 16 rfl rfl)
theorem dJ16_gcd_19 : decode cJ16_gcd 19 = .ok (.aload_n 1, 1) := dk_43 (dk_at dksJ16_gcd_0 19 rfl rfl)
theorem dJ16_gcd_20 : decode cJ16_gcd 20 = .ok (.invokevirtual 485, 3) := dk_182 1 229 (dk_at dksJ16_gcd_0 20 rfl rfl)
theorem dJ16_gcd_23 : decode cJ16_gcd 23 = .ok (.areturn, 1) := dk_176 (dk_at dksJ16_gcd_0 23 rfl rfl)
theorem dJ16_gcd_24 : decode cJ16_gcd 24 = .ok (.new 541, 3) := dk_187 2 29 (dk_at dksJ16_gcd_1 0 rfl rfl)
theorem dJ16_gcd_27 : decode cJ16_gcd 27 = .ok (.dup, 1) := dk_89 (dk_at dksJ16_gcd_1 3 rfl rfl)
theorem dJ16_gcd_28 : decode cJ16_gcd 28 = .ok (.aload_n 0, 1) := dk_42 (dk_at dksJ16_gcd_1 4 rfl rfl)
theorem dJ16_gcd_29 : decode cJ16_gcd 29 = .ok (.invokespecial 567, 3) := dk_183 2 55 (dk_at dksJ16_gcd_1 5 rfl rfl)
theorem dJ16_gcd_32 : decode cJ16_gcd 32 = .ok (.astore_n 2, 1) := dk_77 (dk_at dksJ16_gcd_1 8 rfl rfl)
theorem dJ16_gcd_33 : decode cJ16_gcd 33 = .ok (.new 541, 3) := dk_187 2 29 (dk_at dksJ16_gcd_1 9 rfl rfl)
theorem dJ16_gcd_36 : decode cJ16_gcd 36 = .ok (.dup, 1) := dk_89 (dk_at dksJ16_gcd_1 12 rfl rfl)
theorem dJ16_gcd_37 : decode cJ16_gcd 37 = .ok (.aload_n 1, 1) := dk_43 (dk_at dksJ16_gcd_1 13 rfl rfl)
theorem dJ16_gcd_38 : decode cJ16_gcd 38 = .ok (.invokespecial 567, 3) := dk_183 2 55 (dk_at dksJ16_gcd_1 14 rfl rfl)
theorem dJ16_gcd_41 : decode cJ16_gcd 41 = .ok (.astore_n 3, 1) := dk_78 (dk_at dksJ16_gcd_1 17 rfl rfl)
theorem dJ16_gcd_42 : decode cJ16_gcd 42 = .ok (.aload_n 2, 1) := dk_44 (dk_at dksJ16_gcd_1 18 rfl rfl)
theorem dJ16_gcd_43 : decode cJ16_gcd 43 = .ok (.aload_n 3, 1) := dk_45 (dk_at dksJ16_gcd_1 19 rfl rfl)
theorem dJ16_gcd_44 : decode cJ16_gcd 44 = .ok (.invokevirtual 598, 3) := dk_182 2 86 (dk_at dksJ16_gcd_1 20 rfl rfl)
theorem dJ16_gcd_47 : decode cJ16_gcd 47 = .ok (.astore 4, 2) := dk_58 4 (dk_at dksJ16_gcd_2 0 rfl rfl)
theorem dJ16_gcd_49 : decode cJ16_gcd 49 = .ok (.aload 4, 2) := dk_25 4 (dk_at dksJ16_gcd_2 2 rfl rfl)
theorem dJ16_gcd_51 : decode cJ16_gcd 51 = .ok (.iconst 1, 1) := dk_4 (dk_at dksJ16_gcd_2 4 rfl rfl)
theorem dJ16_gcd_52 : decode cJ16_gcd 52 = .ok (.invokevirtual 548, 3) := dk_182 2 36 (dk_at dksJ16_gcd_2 5 rfl rfl)
theorem dJ16_gcd_55 : decode cJ16_gcd 55 = .ok (.areturn, 1) := dk_176 (dk_at dksJ16_gcd_2 8 rfl rfl)
abbrev cJ16_bitLengthForInt : ByteArray := prog_32_method_74_code
def yJ16_bitLengthForInt : MethodName := ⟨RJ16, "bitLengthForInt", "(I)I"⟩
def dkwJ16_bitLengthForInt_0 : List UInt8 := [16, 32, 26, 184, 2, 90, 100, 172]
abbrev dktJ16_bitLengthForInt_0 : List UInt8 := dkwJ16_bitLengthForInt_0 ++ []
theorem dksJ16_bitLengthForInt_0 : cJ16_bitLengthForInt.data.toList.drop 0 = dktJ16_bitLengthForInt_0 := by decide +kernel
theorem dJ16_bitLengthForInt_0 : decode cJ16_bitLengthForInt 0 = .ok (.bipush 32, 2) := dk_16 32 (dk_at dksJ16_bitLengthForInt_0 0 rfl rfl)
theorem dJ16_bitLengthForInt_2 : decode cJ16_bitLengthForInt 2 = .ok (.iload_n 0, 1) := dk_26 (dk_at dksJ16_bitLengthForInt_0 2 rfl rfl)
theorem dJ16_bitLengthForInt_3 : decode cJ16_bitLengthForInt 3 = .ok (.invokestatic 602, 3) := dk_184 2 90 (dk_at dksJ16_bitLengthForInt_0 3 rfl rfl)
theorem dJ16_bitLengthForInt_6 : decode cJ16_bitLengthForInt 6 = .ok (.isub, 1) := dk_100 (dk_at dksJ16_bitLengthForInt_0 6 rfl rfl)
theorem dJ16_bitLengthForInt_7 : decode cJ16_bitLengthForInt 7 = .ok (.ireturn, 1) := dk_172 (dk_at dksJ16_bitLengthForInt_0 7 rfl rfl)
abbrev cJ16_divide : ByteArray := prog_32_method_61_code
def yJ16_divide : MethodName := ⟨RJ16, "divide", "(Ljava/math/BigInteger;)Ljava/math/BigInteger;"⟩
def dkwJ16_divide_1 : List UInt8 := [162, 0, 9, 42, 43, 182, 2, 23, 176, 42, 43, 182, 2, 26, 176]
abbrev dktJ16_divide_1 : List UInt8 := dkwJ16_divide_1 ++ []
def dkwJ16_divide_0 : List UInt8 := [43, 180, 0, 28, 190, 16, 80, 161, 0, 19, 42, 180, 0, 28, 190, 43, 180, 0, 28, 190, 100, 16, 40]
abbrev dktJ16_divide_0 : List UInt8 := dkwJ16_divide_0 ++ dktJ16_divide_1
theorem dksJ16_divide_0 : cJ16_divide.data.toList.drop 0 = dktJ16_divide_0 := by decide +kernel
theorem dksJ16_divide_1 : cJ16_divide.data.toList.drop 23 = dktJ16_divide_1 := dk_seg dksJ16_divide_0 23 rfl rfl
theorem dJ16_divide_0 : decode cJ16_divide 0 = .ok (.aload_n 1, 1) := dk_43 (dk_at dksJ16_divide_0 0 rfl rfl)
theorem dJ16_divide_1 : decode cJ16_divide 1 = .ok (.getfield 28, 3) := dk_180 0 28 (dk_at dksJ16_divide_0 1 rfl rfl)
theorem dJ16_divide_4 : decode cJ16_divide 4 = .ok (.arraylength, 1) := dk_190 (dk_at dksJ16_divide_0 4 rfl rfl)
theorem dJ16_divide_5 : decode cJ16_divide 5 = .ok (.bipush 80, 2) := dk_16 80 (dk_at dksJ16_divide_0 5 rfl rfl)
theorem dJ16_divide_7 : decode cJ16_divide 7 = .ok (.if_icmp .lt 19, 3) := dk_161 0 19 (dk_at dksJ16_divide_0 7 rfl rfl)
theorem dJ16_divide_10 : decode cJ16_divide 10 = .ok (.aload_n 0, 1) := dk_42 (dk_at dksJ16_divide_0 10 rfl rfl)
theorem dJ16_divide_11 : decode cJ16_divide 11 = .ok (.getfield 28, 3) := dk_180 0 28 (dk_at dksJ16_divide_0 11 rfl rfl)
theorem dJ16_divide_14 : decode cJ16_divide 14 = .ok (.arraylength, 1) := dk_190 (dk_at dksJ16_divide_0 14 rfl rfl)
theorem dJ16_divide_15 : decode cJ16_divide 15 = .ok (.aload_n 1, 1) := dk_43 (dk_at dksJ16_divide_0 15 rfl rfl)
theorem dJ16_divide_16 : decode cJ16_divide 16 = .ok (.getfield 28, 3) := dk_180 0 28 (dk_at dksJ16_divide_0 16 rfl rfl)
theorem dJ16_divide_19 : decode cJ16_divide 19 = .ok (.arraylength, 1) := dk_190 (dk_at dksJ16_divide_0 19 rfl rfl)
theorem dJ16_divide_20 : decode cJ16_divide 20 = .ok (.isub, 1) := dk_100 (dk_at dksJ16_divide_0 20 rfl rfl)
theorem dJ16_divide_21 : decode cJ16_divide 21 = .ok (.bipush 40, 2) := dk_16 40 (dk_at dksJ16_divide_0 21 rfl rfl)
theorem dJ16_divide_23 : decode cJ16_divide 23 = .ok (.if_icmp .ge 9, 3) := dk_162 0 9 (dk_at dksJ16_divide_1 0 rfl rfl)
theorem dJ16_divide_26 : decode cJ16_divide 26 = .ok (.aload_n 0, 1) := dk_42 (dk_at dksJ16_divide_1 3 rfl rfl)
theorem dJ16_divide_27 : decode cJ16_divide 27 = .ok (.aload_n 1, 1) := dk_43 (dk_at dksJ16_divide_1 4 rfl rfl)
theorem dJ16_divide_28 : decode cJ16_divide 28 = .ok (.invokevirtual 535, 3) := dk_182 2 23 (dk_at dksJ16_divide_1 5 rfl rfl)
theorem dJ16_divide_31 : decode cJ16_divide 31 = .ok (.areturn, 1) := dk_176 (dk_at dksJ16_divide_1 8 rfl rfl)
theorem dJ16_divide_32 : decode cJ16_divide 32 = .ok (.aload_n 0, 1) := dk_42 (dk_at dksJ16_divide_1 9 rfl rfl)
theorem dJ16_divide_33 : decode cJ16_divide 33 = .ok (.aload_n 1, 1) := dk_43 (dk_at dksJ16_divide_1 10 rfl rfl)
theorem dJ16_divide_34 : decode cJ16_divide 34 = .ok (.invokevirtual 538, 3) := dk_182 2 26 (dk_at dksJ16_divide_1 11 rfl rfl)
theorem dJ16_divide_37 : decode cJ16_divide 37 = .ok (.areturn, 1) := dk_176 (dk_at dksJ16_divide_1 14 rfl rfl)
abbrev cJ16_divideKnuth : ByteArray := prog_32_method_62_code
def yJ16_divideKnuth : MethodName := ⟨RJ16, "divideKnuth", "(Ljava/math/BigInteger;)Ljava/math/BigInteger;"⟩
def dkwJ16_divideKnuth_2 : List UInt8 := [180, 0, 32, 104, 182, 2, 36, 176]
abbrev dktJ16_divideKnuth_2 : List UInt8 := dkwJ16_divideKnuth_2 ++ []
def dkwJ16_divideKnuth_1 : List UInt8 := [43, 180, 0, 28, 183, 2, 32, 58, 4, 45, 25, 4, 44, 3, 182, 2, 33, 87, 44, 42, 180, 0, 32, 43]
abbrev dktJ16_divideKnuth_1 : List UInt8 := dkwJ16_divideKnuth_1 ++ dktJ16_divideKnuth_2
def dkwJ16_divideKnuth_0 : List UInt8 := [187, 2, 29, 89, 183, 2, 31, 77, 187, 2, 29, 89, 42, 180, 0, 28, 183, 2, 32, 78, 187, 2, 29, 89]
abbrev dktJ16_divideKnuth_0 : List UInt8 := dkwJ16_divideKnuth_0 ++ dktJ16_divideKnuth_1
theorem dksJ16_divideKnuth_0 : cJ16_divideKnuth.data.toList.drop 0 = dktJ16_divideKnuth_0 := by decide +kernel
theorem dksJ16_divideKnuth_1 : cJ16_divideKnuth.data.toList.drop 24 = dktJ16_divideKnuth_1 := dk_seg dksJ16_divideKnuth_0 24 rfl rfl
theorem dksJ16_divideKnuth_2 : cJ16_divideKnuth.data.toList.drop 48 = dktJ16_divideKnuth_2 := dk_seg dksJ16_divideKnuth_1 24 rfl rfl
theorem dJ16_divideKnuth_0 : decode cJ16_divideKnuth 0 = .ok (.new 541, 3) := dk_187 2 29 (dk_at dksJ16_divideKnuth_0 0 rfl rfl)
theorem dJ16_divideKnuth_3 : decode cJ16_divideKnuth 3 = .ok (.dup, 1) := dk_89 (dk_at dksJ16_divideKnuth_0 3 rfl rfl)
theorem dJ16_divideKnuth_4 : decode cJ16_divideKnuth 4 = .ok (.invokespecial 543, 3) := dk_183 2 31 (dk_at dksJ16_divideKnuth_0 4 rfl rfl)
theorem dJ16_divideKnuth_7 : decode cJ16_divideKnuth 7 = .ok (.astore_n 2, 1) := dk_77 (dk_at dksJ16_divideKnuth_0 7 rfl rfl)
theorem dJ16_divideKnuth_8 : decode cJ16_divideKnuth 8 = .ok (.new 541, 3) := dk_187 2 29 (dk_at dksJ16_divideKnuth_0 8 rfl rfl)
theorem dJ16_divideKnuth_11 : decode cJ16_divideKnuth 11 = .ok (.dup, 1) := dk_89 (dk_at dksJ16_divideKnuth_0 11 rfl rfl)
theorem dJ16_divideKnuth_12 : decode cJ16_divideKnuth 12 = .ok (.aload_n 0, 1) := dk_42 (dk_at dksJ16_divideKnuth_0 12 rfl rfl)
theorem dJ16_divideKnuth_13 : decode cJ16_divideKnuth 13 = .ok (.getfield 28, 3) := dk_180 0 28 (dk_at dksJ16_divideKnuth_0 13 rfl rfl)
theorem dJ16_divideKnuth_16 : decode cJ16_divideKnuth 16 = .ok (.invokespecial 544, 3) := dk_183 2 32 (dk_at dksJ16_divideKnuth_0 16 rfl rfl)
theorem dJ16_divideKnuth_19 : decode cJ16_divideKnuth 19 = .ok (.astore_n 3, 1) := dk_78 (dk_at dksJ16_divideKnuth_0 19 rfl rfl)
theorem dJ16_divideKnuth_20 : decode cJ16_divideKnuth 20 = .ok (.new 541, 3) := dk_187 2 29 (dk_at dksJ16_divideKnuth_0 20 rfl rfl)
theorem dJ16_divideKnuth_23 : decode cJ16_divideKnuth 23 = .ok (.dup, 1) := dk_89 (dk_at dksJ16_divideKnuth_0 23 rfl rfl)
theorem dJ16_divideKnuth_24 : decode cJ16_divideKnuth 24 = .ok (.aload_n 1, 1) := dk_43 (dk_at dksJ16_divideKnuth_1 0 rfl rfl)
theorem dJ16_divideKnuth_25 : decode cJ16_divideKnuth 25 = .ok (.getfield 28, 3) := dk_180 0 28 (dk_at dksJ16_divideKnuth_1 1 rfl rfl)
theorem dJ16_divideKnuth_28 : decode cJ16_divideKnuth 28 = .ok (.invokespecial 544, 3) := dk_183 2 32 (dk_at dksJ16_divideKnuth_1 4 rfl rfl)
theorem dJ16_divideKnuth_31 : decode cJ16_divideKnuth 31 = .ok (.astore 4, 2) := dk_58 4 (dk_at dksJ16_divideKnuth_1 7 rfl rfl)
theorem dJ16_divideKnuth_33 : decode cJ16_divideKnuth 33 = .ok (.aload_n 3, 1) := dk_45 (dk_at dksJ16_divideKnuth_1 9 rfl rfl)
theorem dJ16_divideKnuth_34 : decode cJ16_divideKnuth 34 = .ok (.aload 4, 2) := dk_25 4 (dk_at dksJ16_divideKnuth_1 10 rfl rfl)
theorem dJ16_divideKnuth_36 : decode cJ16_divideKnuth 36 = .ok (.aload_n 2, 1) := dk_44 (dk_at dksJ16_divideKnuth_1 12 rfl rfl)
theorem dJ16_divideKnuth_37 : decode cJ16_divideKnuth 37 = .ok (.iconst 0, 1) := dk_3 (dk_at dksJ16_divideKnuth_1 13 rfl rfl)
theorem dJ16_divideKnuth_38 : decode cJ16_divideKnuth 38 = .ok (.invokevirtual 545, 3) := dk_182 2 33 (dk_at dksJ16_divideKnuth_1 14 rfl rfl)
theorem dJ16_divideKnuth_41 : decode cJ16_divideKnuth 41 = .ok (.pop, 1) := dk_87 (dk_at dksJ16_divideKnuth_1 17 rfl rfl)
theorem dJ16_divideKnuth_42 : decode cJ16_divideKnuth 42 = .ok (.aload_n 2, 1) := dk_44 (dk_at dksJ16_divideKnuth_1 18 rfl rfl)
theorem dJ16_divideKnuth_43 : decode cJ16_divideKnuth 43 = .ok (.aload_n 0, 1) := dk_42 (dk_at dksJ16_divideKnuth_1 19 rfl rfl)
theorem dJ16_divideKnuth_44 : decode cJ16_divideKnuth 44 = .ok (.getfield 32, 3) := dk_180 0 32 (dk_at dksJ16_divideKnuth_1 20 rfl rfl)
theorem dJ16_divideKnuth_47 : decode cJ16_divideKnuth 47 = .ok (.aload_n 1, 1) := dk_43 (dk_at dksJ16_divideKnuth_1 23 rfl rfl)
theorem dJ16_divideKnuth_48 : decode cJ16_divideKnuth 48 = .ok (.getfield 32, 3) := dk_180 0 32 (dk_at dksJ16_divideKnuth_2 0 rfl rfl)
theorem dJ16_divideKnuth_51 : decode cJ16_divideKnuth 51 = .ok (.imul, 1) := dk_104 (dk_at dksJ16_divideKnuth_2 3 rfl rfl)
theorem dJ16_divideKnuth_52 : decode cJ16_divideKnuth 52 = .ok (.invokevirtual 548, 3) := dk_182 2 36 (dk_at dksJ16_divideKnuth_2 4 rfl rfl)
theorem dJ16_divideKnuth_55 : decode cJ16_divideKnuth 55 = .ok (.areturn, 1) := dk_176 (dk_at dksJ16_divideKnuth_2 7 rfl rfl)
abbrev cJ16_max : ByteArray := prog_32_method_126_code
def yJ16_max : MethodName := ⟨RJ16, "max", "(Ljava/math/BigInteger;)Ljava/math/BigInteger;"⟩
def dkwJ16_max_0 : List UInt8 := [42, 43, 182, 1, 79, 158, 0, 7, 42, 167, 0, 4, 43, 176]
abbrev dktJ16_max_0 : List UInt8 := dkwJ16_max_0 ++ []
theorem dksJ16_max_0 : cJ16_max.data.toList.drop 0 = dktJ16_max_0 := by decide +kernel
theorem dJ16_max_0 : decode cJ16_max 0 = .ok (.aload_n 0, 1) := dk_42 (dk_at dksJ16_max_0 0 rfl rfl)
theorem dJ16_max_1 : decode cJ16_max 1 = .ok (.aload_n 1, 1) := dk_43 (dk_at dksJ16_max_0 1 rfl rfl)
theorem dJ16_max_2 : decode cJ16_max 2 = .ok (.invokevirtual 335, 3) := dk_182 1 79 (dk_at dksJ16_max_0 2 rfl rfl)
theorem dJ16_max_5 : decode cJ16_max 5 = .ok (.ifCond .le 7, 3) := dk_158 0 7 (dk_at dksJ16_max_0 5 rfl rfl)
theorem dJ16_max_8 : decode cJ16_max 8 = .ok (.aload_n 0, 1) := dk_42 (dk_at dksJ16_max_0 8 rfl rfl)
theorem dJ16_max_9 : decode cJ16_max 9 = .ok (.goto 4, 3) := dk_167 0 4 (dk_at dksJ16_max_0 9 rfl rfl)
theorem dJ16_max_12 : decode cJ16_max 12 = .ok (.aload_n 1, 1) := dk_43 (dk_at dksJ16_max_0 12 rfl rfl)
theorem dJ16_max_13 : decode cJ16_max 13 = .ok (.areturn, 1) := dk_176 (dk_at dksJ16_max_0 13 rfl rfl)
theorem q91 : (Jvm.Cond.initialized "java/math/BigInteger") ∈ lw_all := lw_g (lw_at lw_m1 22 rfl) rfl
theorem q171 : (Jvm.Cond.instanceMethod ({ cls := "java/math/BigInteger", name := "signum", desc := "()I" } : Jvm.MethodName)) ∈ lw_all := lw_g (lw_at lw_m1 102 rfl) rfl
theorem q172 : (Jvm.Cond.selects "java/math/BigInteger" ({ cls := "java/math/BigInteger", name := "signum", desc := "()I" } : Jvm.MethodName) ({ cls := "java/math/BigInteger", name := "signum", desc := "()I" } : Jvm.MethodName)) ∈ lw_all := lw_g (lw_at lw_m1 103 rfl) rfl
theorem q173 : (Jvm.Cond.code ({ cls := "java/math/BigInteger", name := "signum", desc := "()I" } : Jvm.MethodName) prog_32_method_81_code (1 : Nat) (Option.some Jvm.ClassFile.FieldType.int)) ∈ lw_all := lw_g (lw_at lw_m1 104 rfl) rfl
theorem q252 : (Jvm.Cond.selects "java/math/BigInteger" ({ cls := "java/lang/Object", name := "getClass", desc := "()Ljava/lang/Class;" } : Jvm.MethodName) ({ cls := "java/lang/Object", name := "getClass", desc := "()Ljava/lang/Class;" } : Jvm.MethodName)) ∈ lw_all := lw_g (lw_at lw_m1 183 rfl) rfl
theorem q475 : (Jvm.Cond.static ({ cls := "java/math/BigInteger", name := "valueOf", desc := "(J)Ljava/math/BigInteger;" } : Jvm.MethodName)) ∈ lw_all := lw_g (lw_at lw_m2 166 rfl) rfl
theorem q476 : (Jvm.Cond.code ({ cls := "java/math/BigInteger", name := "valueOf", desc := "(J)Ljava/math/BigInteger;" } : Jvm.MethodName) prog_32_method_29_code (2 : Nat) (Option.some (Jvm.ClassFile.FieldType.object "java/math/BigInteger"))) ∈ lw_all := lw_g (lw_at lw_m2 167 rfl) rfl
theorem q477 : (Jvm.Cond.fieldLink "java/math/BigInteger" (22 : Nat) "java/math/BigInteger" "ZERO" "Ljava/math/BigInteger;") ∈ lw_all := lw_g (lw_at lw_m2 168 rfl) rfl
theorem q478 : (Jvm.Cond.laysStatic "java/math/BigInteger" "ZERO" "Ljava/math/BigInteger;") ∈ lw_tbl := lw_at lw_m2 169 rfl
theorem q479 : (Jvm.Cond.constantLong "java/math/BigInteger" (345 : Nat) (16 : Int64)) ∈ lw_all := lw_g (lw_at lw_m2 170 rfl) rfl
theorem q480 : (Jvm.Cond.fieldLink "java/math/BigInteger" (347 : Nat) "java/math/BigInteger" "posConst" "[Ljava/math/BigInteger;") ∈ lw_all := lw_g (lw_at lw_m2 171 rfl) rfl
theorem q481 : (Jvm.Cond.laysStatic "java/math/BigInteger" "posConst" "[Ljava/math/BigInteger;") ∈ lw_tbl := lw_at lw_m2 172 rfl
theorem q482 : (Jvm.Cond.constantLong "java/math/BigInteger" (351 : Nat) (-16 : Int64)) ∈ lw_all := lw_g (lw_at lw_m2 173 rfl) rfl
theorem q483 : (Jvm.Cond.fieldLink "java/math/BigInteger" (353 : Nat) "java/math/BigInteger" "negConst" "[Ljava/math/BigInteger;") ∈ lw_all := lw_g (lw_at lw_m2 174 rfl) rfl
theorem q484 : (Jvm.Cond.laysStatic "java/math/BigInteger" "negConst" "[Ljava/math/BigInteger;") ∈ lw_tbl := lw_at lw_m2 175 rfl
theorem q485 : (Jvm.Cond.classLink "java/math/BigInteger" (23 : Nat) "java/math/BigInteger") ∈ lw_all := lw_g (lw_at lw_m2 176 rfl) rfl
theorem q486 : (Jvm.Cond.instantiable "java/math/BigInteger" (6 : Nat)) ∈ lw_all := lw_g (lw_at lw_m2 177 rfl) rfl
theorem q487 : (Jvm.Cond.methodLink "java/math/BigInteger" (356 : Nat) ({ cls := "java/math/BigInteger", name := "<init>", desc := "(J)V" } : Jvm.MethodName)) ∈ lw_all := lw_g (lw_at lw_m2 178 rfl) rfl
theorem q488 : (Jvm.Cond.instanceMethod ({ cls := "java/math/BigInteger", name := "<init>", desc := "(J)V" } : Jvm.MethodName)) ∈ lw_all := lw_g (lw_at lw_m2 179 rfl) rfl
theorem q489 : (Jvm.Cond.code ({ cls := "java/math/BigInteger", name := "<init>", desc := "(J)V" } : Jvm.MethodName) prog_32_method_30_code (4 : Nat) (Option.none : Option Jvm.ClassFile.FieldType)) ∈ lw_all := lw_g (lw_at lw_m2 180 rfl) rfl
theorem q490 : (Jvm.Cond.methodLink "java/math/BigInteger" (3 : Nat) ({ cls := "java/lang/Number", name := "<init>", desc := "()V" } : Jvm.MethodName)) ∈ lw_all := lw_g (lw_at lw_m2 181 rfl) rfl
theorem q494 : (Jvm.Cond.fieldLink "java/math/BigInteger" (32 : Nat) "java/math/BigInteger" "signum" "I") ∈ lw_all := lw_g (lw_at lw_m2 185 rfl) rfl
theorem q496 : (Jvm.Cond.fieldLink "java/math/BigInteger" (28 : Nat) "java/math/BigInteger" "mag" "[I") ∈ lw_all := lw_g (lw_at lw_m2 187 rfl) rfl
theorem q497 : (Jvm.Cond.fieldLink "java/math/BigInteger" (866 : Nat) "java/math/BigInteger" "firstNonzeroIntNumPlusTwo" "I") ∈ lw_all := lw_g (lw_at lw_m2 188 rfl) rfl
theorem q498 : (Jvm.Cond.laysFinal "java/math/BigInteger" "java/math/BigInteger" "signum" "I") ∈ lw_all := lw_g (lw_at lw_m2 189 rfl) rfl
theorem q499 : (Jvm.Cond.soleField "java/math/BigInteger" "signum") ∈ lw_all := lw_g (lw_at lw_m2 190 rfl) rfl
theorem q500 : (Jvm.Cond.laysFinal "java/math/BigInteger" "java/math/BigInteger" "mag" "[I") ∈ lw_all := lw_g (lw_at lw_m2 191 rfl) rfl
theorem q501 : (Jvm.Cond.soleField "java/math/BigInteger" "mag") ∈ lw_all := lw_g (lw_at lw_m2 192 rfl) rfl
theorem q502 : (Jvm.Cond.lays "java/math/BigInteger" "java/math/BigInteger" "bitCountPlusOne" "I") ∈ lw_all := lw_g (lw_at lw_m2 193 rfl) rfl
theorem q503 : (Jvm.Cond.soleField "java/math/BigInteger" "bitCountPlusOne") ∈ lw_all := lw_g (lw_at lw_m2 194 rfl) rfl
theorem q504 : (Jvm.Cond.lays "java/math/BigInteger" "java/math/BigInteger" "bitLengthPlusOne" "I") ∈ lw_all := lw_g (lw_at lw_m2 195 rfl) rfl
theorem q505 : (Jvm.Cond.soleField "java/math/BigInteger" "bitLengthPlusOne") ∈ lw_all := lw_g (lw_at lw_m2 196 rfl) rfl
theorem q506 : (Jvm.Cond.lays "java/math/BigInteger" "java/math/BigInteger" "lowestSetBitPlusTwo" "I") ∈ lw_all := lw_g (lw_at lw_m2 197 rfl) rfl
theorem q507 : (Jvm.Cond.soleField "java/math/BigInteger" "lowestSetBitPlusTwo") ∈ lw_all := lw_g (lw_at lw_m2 198 rfl) rfl
theorem q508 : (Jvm.Cond.lays "java/math/BigInteger" "java/math/BigInteger" "firstNonzeroIntNumPlusTwo" "I") ∈ lw_all := lw_g (lw_at lw_m2 199 rfl) rfl
theorem q509 : (Jvm.Cond.soleField "java/math/BigInteger" "firstNonzeroIntNumPlusTwo") ∈ lw_all := lw_g (lw_at lw_m2 200 rfl) rfl
theorem q510 : (Jvm.Cond.superclass "java/math/BigInteger" "java/lang/Number") ∈ lw_all := lw_g (lw_at lw_m2 201 rfl) rfl
theorem q513 : (Jvm.Cond.instanceMethod ({ cls := "java/math/BigInteger", name := "longValue", desc := "()J" } : Jvm.MethodName)) ∈ lw_all := lw_g (lw_at lw_m2 204 rfl) rfl
theorem q514 : (Jvm.Cond.selects "java/math/BigInteger" ({ cls := "java/math/BigInteger", name := "longValue", desc := "()J" } : Jvm.MethodName) ({ cls := "java/math/BigInteger", name := "longValue", desc := "()J" } : Jvm.MethodName)) ∈ lw_all := lw_g (lw_at lw_m2 205 rfl) rfl
theorem q515 : (Jvm.Cond.code ({ cls := "java/math/BigInteger", name := "longValue", desc := "()J" } : Jvm.MethodName) prog_32_method_136_code (4 : Nat) (Option.some Jvm.ClassFile.FieldType.long)) ∈ lw_all := lw_g (lw_at lw_m2 206 rfl) rfl
theorem q516 : (Jvm.Cond.methodLink "java/math/BigInteger" (736 : Nat) ({ cls := "java/math/BigInteger", name := "getInt", desc := "(I)I" } : Jvm.MethodName)) ∈ lw_all := lw_g (lw_at lw_m2 207 rfl) rfl
theorem q517 : (Jvm.Cond.privateMethod ({ cls := "java/math/BigInteger", name := "getInt", desc := "(I)I" } : Jvm.MethodName)) ∈ lw_tbl := lw_at lw_m2 208 rfl
theorem q518 : (Jvm.Cond.instanceMethod ({ cls := "java/math/BigInteger", name := "getInt", desc := "(I)I" } : Jvm.MethodName)) ∈ lw_all := lw_g (lw_at lw_m2 209 rfl) rfl
theorem q519 : (Jvm.Cond.code ({ cls := "java/math/BigInteger", name := "getInt", desc := "(I)I" } : Jvm.MethodName) prog_32_method_148_code (3 : Nat) (Option.some Jvm.ClassFile.FieldType.int)) ∈ lw_all := lw_g (lw_at lw_m2 210 rfl) rfl
theorem q520 : (Jvm.Cond.methodLink "java/math/BigInteger" (860 : Nat) ({ cls := "java/math/BigInteger", name := "signInt", desc := "()I" } : Jvm.MethodName)) ∈ lw_all := lw_g (lw_at lw_m2 211 rfl) rfl
theorem q521 : (Jvm.Cond.privateMethod ({ cls := "java/math/BigInteger", name := "signInt", desc := "()I" } : Jvm.MethodName)) ∈ lw_tbl := lw_at lw_m2 212 rfl
theorem q522 : (Jvm.Cond.instanceMethod ({ cls := "java/math/BigInteger", name := "signInt", desc := "()I" } : Jvm.MethodName)) ∈ lw_all := lw_g (lw_at lw_m2 213 rfl) rfl
theorem q523 : (Jvm.Cond.code ({ cls := "java/math/BigInteger", name := "signInt", desc := "()I" } : Jvm.MethodName) prog_32_method_147_code (1 : Nat) (Option.some Jvm.ClassFile.FieldType.int)) ∈ lw_all := lw_g (lw_at lw_m2 214 rfl) rfl
theorem q524 : (Jvm.Cond.methodLink "java/math/BigInteger" (863 : Nat) ({ cls := "java/math/BigInteger", name := "firstNonzeroIntNum", desc := "()I" } : Jvm.MethodName)) ∈ lw_all := lw_g (lw_at lw_m2 215 rfl) rfl
theorem q525 : (Jvm.Cond.privateMethod ({ cls := "java/math/BigInteger", name := "firstNonzeroIntNum", desc := "()I" } : Jvm.MethodName)) ∈ lw_tbl := lw_at lw_m2 216 rfl
theorem q526 : (Jvm.Cond.instanceMethod ({ cls := "java/math/BigInteger", name := "firstNonzeroIntNum", desc := "()I" } : Jvm.MethodName)) ∈ lw_all := lw_g (lw_at lw_m2 217 rfl) rfl
theorem q527 : (Jvm.Cond.code ({ cls := "java/math/BigInteger", name := "firstNonzeroIntNum", desc := "()I" } : Jvm.MethodName) prog_32_method_149_code (4 : Nat) (Option.some Jvm.ClassFile.FieldType.int)) ∈ lw_all := lw_g (lw_at lw_m2 218 rfl) rfl
theorem q528 : (Jvm.Cond.constantLong "java/math/BigInteger" (130 : Nat) (4294967295 : Int64)) ∈ lw_all := lw_g (lw_at lw_m2 219 rfl) rfl
theorem q623 : (Jvm.Cond.instanceMethod ({ cls := "java/math/BigInteger", name := "abs", desc := "()Ljava/math/BigInteger;" } : Jvm.MethodName)) ∈ lw_all := lw_g (lw_at lw_m3 74 rfl) rfl
theorem q624 : (Jvm.Cond.selects "java/math/BigInteger" ({ cls := "java/math/BigInteger", name := "abs", desc := "()Ljava/math/BigInteger;" } : Jvm.MethodName) ({ cls := "java/math/BigInteger", name := "abs", desc := "()Ljava/math/BigInteger;" } : Jvm.MethodName)) ∈ lw_all := lw_g (lw_at lw_m3 75 rfl) rfl
theorem q625 : (Jvm.Cond.code ({ cls := "java/math/BigInteger", name := "abs", desc := "()Ljava/math/BigInteger;" } : Jvm.MethodName) prog_32_method_79_code (1 : Nat) (Option.some (Jvm.ClassFile.FieldType.object "java/math/BigInteger"))) ∈ lw_all := lw_g (lw_at lw_m3 76 rfl) rfl
theorem q626 : (Jvm.Cond.methodLink "java/math/BigInteger" (394 : Nat) ({ cls := "java/math/BigInteger", name := "negate", desc := "()Ljava/math/BigInteger;" } : Jvm.MethodName)) ∈ lw_all := lw_g (lw_at lw_m3 77 rfl) rfl
theorem q627 : (Jvm.Cond.instanceMethod ({ cls := "java/math/BigInteger", name := "negate", desc := "()Ljava/math/BigInteger;" } : Jvm.MethodName)) ∈ lw_all := lw_g (lw_at lw_m3 78 rfl) rfl
theorem q628 : (Jvm.Cond.selects "java/math/BigInteger" ({ cls := "java/math/BigInteger", name := "negate", desc := "()Ljava/math/BigInteger;" } : Jvm.MethodName) ({ cls := "java/math/BigInteger", name := "negate", desc := "()Ljava/math/BigInteger;" } : Jvm.MethodName)) ∈ lw_all := lw_g (lw_at lw_m3 79 rfl) rfl
theorem q629 : (Jvm.Cond.code ({ cls := "java/math/BigInteger", name := "negate", desc := "()Ljava/math/BigInteger;" } : Jvm.MethodName) prog_32_method_80_code (1 : Nat) (Option.some (Jvm.ClassFile.FieldType.object "java/math/BigInteger"))) ∈ lw_all := lw_g (lw_at lw_m3 80 rfl) rfl
theorem q630 : (Jvm.Cond.methodLink "java/math/BigInteger" (175 : Nat) ({ cls := "java/math/BigInteger", name := "<init>", desc := "([II)V" } : Jvm.MethodName)) ∈ lw_all := lw_g (lw_at lw_m3 81 rfl) rfl
theorem q631 : (Jvm.Cond.instanceMethod ({ cls := "java/math/BigInteger", name := "<init>", desc := "([II)V" } : Jvm.MethodName)) ∈ lw_all := lw_g (lw_at lw_m3 82 rfl) rfl
theorem q632 : (Jvm.Cond.code ({ cls := "java/math/BigInteger", name := "<init>", desc := "([II)V" } : Jvm.MethodName) prog_32_method_25_code (3 : Nat) (Option.none : Option Jvm.ClassFile.FieldType)) ∈ lw_all := lw_g (lw_at lw_m3 83 rfl) rfl
theorem q633 : (Jvm.Cond.constant "java/math/BigInteger" (43 : Nat) (67108864 : Int32)) ∈ lw_all := lw_g (lw_at lw_m3 84 rfl) rfl
theorem q634 : (Jvm.Cond.methodLink "java/math/BigInteger" (44 : Nat) ({ cls := "java/math/BigInteger", name := "checkRange", desc := "()V" } : Jvm.MethodName)) ∈ lw_all := lw_g (lw_at lw_m3 85 rfl) rfl
theorem q635 : (Jvm.Cond.privateMethod ({ cls := "java/math/BigInteger", name := "checkRange", desc := "()V" } : Jvm.MethodName)) ∈ lw_tbl := lw_at lw_m3 86 rfl
theorem q636 : (Jvm.Cond.instanceMethod ({ cls := "java/math/BigInteger", name := "checkRange", desc := "()V" } : Jvm.MethodName)) ∈ lw_all := lw_g (lw_at lw_m3 87 rfl) rfl
theorem q637 : (Jvm.Cond.code ({ cls := "java/math/BigInteger", name := "checkRange", desc := "()V" } : Jvm.MethodName) prog_32_method_27_code (1 : Nat) (Option.none : Option Jvm.ClassFile.FieldType)) ∈ lw_all := lw_g (lw_at lw_m3 88 rfl) rfl
theorem q638 : (Jvm.Cond.methodLink "java/math/BigInteger" (101 : Nat) ({ cls := "java/math/BigInteger", name := "reportOverflow", desc := "()V" } : Jvm.MethodName)) ∈ lw_all := lw_g (lw_at lw_m3 89 rfl) rfl
theorem q639 : (Jvm.Cond.static ({ cls := "java/math/BigInteger", name := "reportOverflow", desc := "()V" } : Jvm.MethodName)) ∈ lw_all := lw_g (lw_at lw_m3 90 rfl) rfl
theorem q640 : (Jvm.Cond.code ({ cls := "java/math/BigInteger", name := "reportOverflow", desc := "()V" } : Jvm.MethodName) prog_32_method_28_code (0 : Nat) (Option.none : Option Jvm.ClassFile.FieldType)) ∈ lw_all := lw_g (lw_at lw_m3 91 rfl) rfl
theorem q641 : (Jvm.Cond.classLink "java/math/BigInteger" (160 : Nat) "java/lang/ArithmeticException") ∈ lw_all := lw_g (lw_at lw_m3 92 rfl) rfl
theorem q650 : (Jvm.Cond.stringRef "java/math/BigInteger" (343 : Nat) "BigInteger would overflow supported range") ∈ lw_tbl := lw_at lw_m3 101 rfl
theorem q651 : (Jvm.Cond.methodLink "java/math/BigInteger" (164 : Nat) ({ cls := "java/lang/ArithmeticException", name := "<init>", desc := "(Ljava/lang/String;)V" } : Jvm.MethodName)) ∈ lw_all := lw_g (lw_at lw_m3 102 rfl) rfl
theorem q658 : (Jvm.Cond.instanceMethod ({ cls := "java/math/BigInteger", name := "compareTo", desc := "(Ljava/math/BigInteger;)I" } : Jvm.MethodName)) ∈ lw_all := lw_g (lw_at lw_m3 109 rfl) rfl
theorem q659 : (Jvm.Cond.selects "java/math/BigInteger" ({ cls := "java/math/BigInteger", name := "compareTo", desc := "(Ljava/math/BigInteger;)I" } : Jvm.MethodName) ({ cls := "java/math/BigInteger", name := "compareTo", desc := "(Ljava/math/BigInteger;)I" } : Jvm.MethodName)) ∈ lw_all := lw_g (lw_at lw_m3 110 rfl) rfl
theorem q660 : (Jvm.Cond.code ({ cls := "java/math/BigInteger", name := "compareTo", desc := "(Ljava/math/BigInteger;)I" } : Jvm.MethodName) prog_32_method_121_code (2 : Nat) (Option.some Jvm.ClassFile.FieldType.int)) ∈ lw_all := lw_g (lw_at lw_m3 111 rfl) rfl
theorem q661 : (Jvm.Cond.methodLink "java/math/BigInteger" (365 : Nat) ({ cls := "java/math/BigInteger", name := "compareMagnitude", desc := "(Ljava/math/BigInteger;)I" } : Jvm.MethodName)) ∈ lw_all := lw_g (lw_at lw_m3 112 rfl) rfl
theorem q662 : (Jvm.Cond.instanceMethod ({ cls := "java/math/BigInteger", name := "compareMagnitude", desc := "(Ljava/math/BigInteger;)I" } : Jvm.MethodName)) ∈ lw_all := lw_g (lw_at lw_m3 113 rfl) rfl
theorem q663 : (Jvm.Cond.selects "java/math/BigInteger" ({ cls := "java/math/BigInteger", name := "compareMagnitude", desc := "(Ljava/math/BigInteger;)I" } : Jvm.MethodName) ({ cls := "java/math/BigInteger", name := "compareMagnitude", desc := "(Ljava/math/BigInteger;)I" } : Jvm.MethodName)) ∈ lw_all := lw_g (lw_at lw_m3 114 rfl) rfl
theorem q664 : (Jvm.Cond.code ({ cls := "java/math/BigInteger", name := "compareMagnitude", desc := "(Ljava/math/BigInteger;)I" } : Jvm.MethodName) prog_32_method_122_code (9 : Nat) (Option.some Jvm.ClassFile.FieldType.int)) ∈ lw_all := lw_g (lw_at lw_m3 115 rfl) rfl
theorem q679 : (Jvm.Cond.instanceMethod ({ cls := "java/math/BigInteger", name := "intValue", desc := "()I" } : Jvm.MethodName)) ∈ lw_all := lw_g (lw_at lw_m3 130 rfl) rfl
theorem q680 : (Jvm.Cond.selects "java/math/BigInteger" ({ cls := "java/math/BigInteger", name := "intValue", desc := "()I" } : Jvm.MethodName) ({ cls := "java/math/BigInteger", name := "intValue", desc := "()I" } : Jvm.MethodName)) ∈ lw_all := lw_g (lw_at lw_m3 131 rfl) rfl
theorem q681 : (Jvm.Cond.code ({ cls := "java/math/BigInteger", name := "intValue", desc := "()I" } : Jvm.MethodName) prog_32_method_135_code (2 : Nat) (Option.some Jvm.ClassFile.FieldType.int)) ∈ lw_all := lw_g (lw_at lw_m3 132 rfl) rfl
theorem q705 : (Jvm.Cond.instanceMethod ({ cls := "java/math/BigInteger", name := "add", desc := "(Ljava/math/BigInteger;)Ljava/math/BigInteger;" } : Jvm.MethodName)) ∈ lw_all := lw_g (lw_at lw_m3 156 rfl) rfl
theorem q706 : (Jvm.Cond.selects "java/math/BigInteger" ({ cls := "java/math/BigInteger", name := "add", desc := "(Ljava/math/BigInteger;)Ljava/math/BigInteger;" } : Jvm.MethodName) ({ cls := "java/math/BigInteger", name := "add", desc := "(Ljava/math/BigInteger;)Ljava/math/BigInteger;" } : Jvm.MethodName)) ∈ lw_all := lw_g (lw_at lw_m3 157 rfl) rfl
theorem q707 : (Jvm.Cond.code ({ cls := "java/math/BigInteger", name := "add", desc := "(Ljava/math/BigInteger;)Ljava/math/BigInteger;" } : Jvm.MethodName) prog_32_method_32_code (4 : Nat) (Option.some (Jvm.ClassFile.FieldType.object "java/math/BigInteger"))) ∈ lw_all := lw_g (lw_at lw_m3 158 rfl) rfl
theorem q708 : (Jvm.Cond.methodLink "java/math/BigInteger" (362 : Nat) ({ cls := "java/math/BigInteger", name := "add", desc := "([I[I)[I" } : Jvm.MethodName)) ∈ lw_all := lw_g (lw_at lw_m3 159 rfl) rfl
theorem q709 : (Jvm.Cond.static ({ cls := "java/math/BigInteger", name := "add", desc := "([I[I)[I" } : Jvm.MethodName)) ∈ lw_all := lw_g (lw_at lw_m3 160 rfl) rfl
theorem q710 : (Jvm.Cond.code ({ cls := "java/math/BigInteger", name := "add", desc := "([I[I)[I" } : Jvm.MethodName) prog_32_method_35_code (9 : Nat) (Option.some (Jvm.ClassFile.FieldType.array Jvm.ClassFile.FieldType.int))) ∈ lw_all := lw_g (lw_at lw_m3 161 rfl) rfl
theorem q711 : (Jvm.Cond.methodLink "java/math/BigInteger" (388 : Nat) ({ cls := "java/lang/System", name := "arraycopy", desc := "(Ljava/lang/Object;ILjava/lang/Object;II)V" } : Jvm.MethodName)) ∈ lw_all := lw_g (lw_at lw_m3 162 rfl) rfl
theorem q712 : (Jvm.Cond.methodLink "java/math/BigInteger" (368 : Nat) ({ cls := "java/math/BigInteger", name := "subtract", desc := "([I[I)[I" } : Jvm.MethodName)) ∈ lw_all := lw_g (lw_at lw_m3 163 rfl) rfl
theorem q713 : (Jvm.Cond.static ({ cls := "java/math/BigInteger", name := "subtract", desc := "([I[I)[I" } : Jvm.MethodName)) ∈ lw_all := lw_g (lw_at lw_m3 164 rfl) rfl
theorem q714 : (Jvm.Cond.code ({ cls := "java/math/BigInteger", name := "subtract", desc := "([I[I)[I" } : Jvm.MethodName) prog_32_method_39_code (8 : Nat) (Option.some (Jvm.ClassFile.FieldType.array Jvm.ClassFile.FieldType.int))) ∈ lw_all := lw_g (lw_at lw_m3 165 rfl) rfl
theorem q715 : (Jvm.Cond.methodLink "java/math/BigInteger" (53 : Nat) ({ cls := "java/math/BigInteger", name := "trustedStripLeadingZeroInts", desc := "([I)[I" } : Jvm.MethodName)) ∈ lw_all := lw_g (lw_at lw_m3 166 rfl) rfl
theorem q716 : (Jvm.Cond.static ({ cls := "java/math/BigInteger", name := "trustedStripLeadingZeroInts", desc := "([I)[I" } : Jvm.MethodName)) ∈ lw_all := lw_g (lw_at lw_m3 167 rfl) rfl
theorem q717 : (Jvm.Cond.code ({ cls := "java/math/BigInteger", name := "trustedStripLeadingZeroInts", desc := "([I)[I" } : Jvm.MethodName) prog_32_method_140_code (3 : Nat) (Option.some (Jvm.ClassFile.FieldType.array Jvm.ClassFile.FieldType.int))) ∈ lw_all := lw_g (lw_at lw_m3 168 rfl) rfl
theorem q718 : (Jvm.Cond.methodLink "java/math/BigInteger" (433 : Nat) ({ cls := "java/util/Arrays", name := "copyOfRange", desc := "([III)[I" } : Jvm.MethodName)) ∈ lw_all := lw_g (lw_at lw_m3 169 rfl) rfl
theorem q960 : (Jvm.Cond.instanceMethod ({ cls := "java/math/BigInteger", name := "multiply", desc := "(Ljava/math/BigInteger;)Ljava/math/BigInteger;" } : Jvm.MethodName)) ∈ lw_all := lw_g (lw_at lw_m4 171 rfl) rfl
theorem q961 : (Jvm.Cond.selects "java/math/BigInteger" ({ cls := "java/math/BigInteger", name := "multiply", desc := "(Ljava/math/BigInteger;)Ljava/math/BigInteger;" } : Jvm.MethodName) ({ cls := "java/math/BigInteger", name := "multiply", desc := "(Ljava/math/BigInteger;)Ljava/math/BigInteger;" } : Jvm.MethodName)) ∈ lw_all := lw_g (lw_at lw_m4 172 rfl) rfl
theorem q962 : (Jvm.Cond.code ({ cls := "java/math/BigInteger", name := "multiply", desc := "(Ljava/math/BigInteger;)Ljava/math/BigInteger;" } : Jvm.MethodName) prog_32_method_40_code (2 : Nat) (Option.some (Jvm.ClassFile.FieldType.object "java/math/BigInteger"))) ∈ lw_all := lw_g (lw_at lw_m4 173 rfl) rfl
theorem q963 : (Jvm.Cond.methodLink "java/math/BigInteger" (397 : Nat) ({ cls := "java/math/BigInteger", name := "multiply", desc := "(Ljava/math/BigInteger;ZZI)Ljava/math/BigInteger;" } : Jvm.MethodName)) ∈ lw_all := lw_g (lw_at lw_m4 174 rfl) rfl
theorem q964 : (Jvm.Cond.privateMethod ({ cls := "java/math/BigInteger", name := "multiply", desc := "(Ljava/math/BigInteger;ZZI)Ljava/math/BigInteger;" } : Jvm.MethodName)) ∈ lw_tbl := lw_at lw_m4 175 rfl
theorem q965 : (Jvm.Cond.instanceMethod ({ cls := "java/math/BigInteger", name := "multiply", desc := "(Ljava/math/BigInteger;ZZI)Ljava/math/BigInteger;" } : Jvm.MethodName)) ∈ lw_all := lw_g (lw_at lw_m4 176 rfl) rfl
theorem q966 : (Jvm.Cond.code ({ cls := "java/math/BigInteger", name := "multiply", desc := "(Ljava/math/BigInteger;ZZI)Ljava/math/BigInteger;" } : Jvm.MethodName) prog_32_method_42_code (9 : Nat) (Option.some (Jvm.ClassFile.FieldType.object "java/math/BigInteger"))) ∈ lw_all := lw_g (lw_at lw_m4 177 rfl) rfl
theorem q967 : (Jvm.Cond.methodLink "java/math/BigInteger" (400 : Nat) ({ cls := "java/math/BigInteger", name := "square", desc := "(ZZI)Ljava/math/BigInteger;" } : Jvm.MethodName)) ∈ lw_all := lw_g (lw_at lw_m4 178 rfl) rfl
theorem q968 : (Jvm.Cond.privateMethod ({ cls := "java/math/BigInteger", name := "square", desc := "(ZZI)Ljava/math/BigInteger;" } : Jvm.MethodName)) ∈ lw_tbl := lw_at lw_m4 179 rfl
theorem q969 : (Jvm.Cond.instanceMethod ({ cls := "java/math/BigInteger", name := "square", desc := "(ZZI)Ljava/math/BigInteger;" } : Jvm.MethodName)) ∈ lw_all := lw_g (lw_at lw_m4 180 rfl) rfl
theorem q970 : (Jvm.Cond.code ({ cls := "java/math/BigInteger", name := "square", desc := "(ZZI)Ljava/math/BigInteger;" } : Jvm.MethodName) prog_32_method_55_code (6 : Nat) (Option.some (Jvm.ClassFile.FieldType.object "java/math/BigInteger"))) ∈ lw_all := lw_g (lw_at lw_m4 181 rfl) rfl
theorem q971 : (Jvm.Cond.methodLink "java/math/BigInteger" (491 : Nat) ({ cls := "java/math/BigInteger", name := "squareToLen", desc := "([II[I)[I" } : Jvm.MethodName)) ∈ lw_all := lw_g (lw_at lw_m4 182 rfl) rfl
theorem q972 : (Jvm.Cond.static ({ cls := "java/math/BigInteger", name := "squareToLen", desc := "([II[I)[I" } : Jvm.MethodName)) ∈ lw_all := lw_g (lw_at lw_m4 183 rfl) rfl
theorem q973 : (Jvm.Cond.code ({ cls := "java/math/BigInteger", name := "squareToLen", desc := "([II[I)[I" } : Jvm.MethodName) prog_32_method_56_code (4 : Nat) (Option.some (Jvm.ClassFile.FieldType.array Jvm.ClassFile.FieldType.int))) ∈ lw_all := lw_g (lw_at lw_m4 184 rfl) rfl
theorem q974 : (Jvm.Cond.methodLink "java/math/BigInteger" (504 : Nat) ({ cls := "java/math/BigInteger", name := "implSquareToLenChecks", desc := "([II[II)V" } : Jvm.MethodName)) ∈ lw_all := lw_g (lw_at lw_m4 185 rfl) rfl
theorem q975 : (Jvm.Cond.static ({ cls := "java/math/BigInteger", name := "implSquareToLenChecks", desc := "([II[II)V" } : Jvm.MethodName)) ∈ lw_all := lw_g (lw_at lw_m4 186 rfl) rfl
theorem q976 : (Jvm.Cond.code ({ cls := "java/math/BigInteger", name := "implSquareToLenChecks", desc := "([II[II)V" } : Jvm.MethodName) prog_32_method_57_code (4 : Nat) (Option.none : Option Jvm.ClassFile.FieldType)) ∈ lw_all := lw_g (lw_at lw_m4 187 rfl) rfl
theorem q977 : (Jvm.Cond.classLink "java/math/BigInteger" (145 : Nat) "java/lang/IllegalArgumentException") ∈ lw_all := lw_g (lw_at lw_m4 188 rfl) rfl
theorem q978 : (Jvm.Cond.classLink "java/math/BigInteger" (242 : Nat) "java/lang/StringBuilder") ∈ lw_all := lw_g (lw_at lw_m4 189 rfl) rfl
theorem q979 : (Jvm.Cond.methodLink "java/math/BigInteger" (244 : Nat) ({ cls := "java/lang/StringBuilder", name := "<init>", desc := "()V" } : Jvm.MethodName)) ∈ lw_all := lw_g (lw_at lw_m4 190 rfl) rfl
theorem q980 : (Jvm.Cond.stringRef "java/math/BigInteger" (512 : Nat) "invalid input length: ") ∈ lw_tbl := lw_at lw_m4 191 rfl
theorem q981 : (Jvm.Cond.methodLink "java/math/BigInteger" (247 : Nat) ({ cls := "java/lang/StringBuilder", name := "append", desc := "(Ljava/lang/String;)Ljava/lang/StringBuilder;" } : Jvm.MethodName)) ∈ lw_all := lw_g (lw_at lw_m4 192 rfl) rfl
theorem q982 : (Jvm.Cond.methodLink "java/math/BigInteger" (514 : Nat) ({ cls := "java/lang/StringBuilder", name := "append", desc := "(I)Ljava/lang/StringBuilder;" } : Jvm.MethodName)) ∈ lw_all := lw_g (lw_at lw_m4 193 rfl) rfl
theorem q983 : (Jvm.Cond.methodLink "java/math/BigInteger" (254 : Nat) ({ cls := "java/lang/StringBuilder", name := "toString", desc := "()Ljava/lang/String;" } : Jvm.MethodName)) ∈ lw_all := lw_g (lw_at lw_m4 194 rfl) rfl
theorem q984 : (Jvm.Cond.methodLink "java/math/BigInteger" (149 : Nat) ({ cls := "java/lang/IllegalArgumentException", name := "<init>", desc := "(Ljava/lang/String;)V" } : Jvm.MethodName)) ∈ lw_all := lw_g (lw_at lw_m4 195 rfl) rfl
theorem q985 : (Jvm.Cond.stringRef "java/math/BigInteger" (517 : Nat) "input length out of bound: ") ∈ lw_tbl := lw_at lw_m4 196 rfl
theorem q986 : (Jvm.Cond.stringRef "java/math/BigInteger" (519 : Nat) " > ") ∈ lw_tbl := lw_at lw_m4 197 rfl
theorem q987 : (Jvm.Cond.methodLink "java/math/BigInteger" (508 : Nat) ({ cls := "java/math/BigInteger", name := "implSquareToLen", desc := "([II[II)[I" } : Jvm.MethodName)) ∈ lw_all := lw_g (lw_at lw_m4 198 rfl) rfl
theorem q988 : (Jvm.Cond.static ({ cls := "java/math/BigInteger", name := "implSquareToLen", desc := "([II[II)[I" } : Jvm.MethodName)) ∈ lw_all := lw_g (lw_at lw_m4 199 rfl) rfl
theorem q989 : (Jvm.Cond.code ({ cls := "java/math/BigInteger", name := "implSquareToLen", desc := "([II[II)[I" } : Jvm.MethodName) prog_32_method_58_code (11 : Nat) (Option.some (Jvm.ClassFile.FieldType.array Jvm.ClassFile.FieldType.int))) ∈ lw_all := lw_g (lw_at lw_m4 200 rfl) rfl
theorem q990 : (Jvm.Cond.methodLink "java/math/BigInteger" (521 : Nat) ({ cls := "java/math/BigInteger", name := "mulAdd", desc := "([I[IIII)I" } : Jvm.MethodName)) ∈ lw_all := lw_g (lw_at lw_m4 201 rfl) rfl
theorem q991 : (Jvm.Cond.static ({ cls := "java/math/BigInteger", name := "mulAdd", desc := "([I[IIII)I" } : Jvm.MethodName)) ∈ lw_all := lw_g (lw_at lw_m4 202 rfl) rfl
theorem q992 : (Jvm.Cond.code ({ cls := "java/math/BigInteger", name := "mulAdd", desc := "([I[IIII)I" } : Jvm.MethodName) prog_32_method_94_code (5 : Nat) (Option.some Jvm.ClassFile.FieldType.int)) ∈ lw_all := lw_g (lw_at lw_m4 203 rfl) rfl
theorem q993 : (Jvm.Cond.methodLink "java/math/BigInteger" (707 : Nat) ({ cls := "java/math/BigInteger", name := "implMulAddCheck", desc := "([I[IIII)V" } : Jvm.MethodName)) ∈ lw_all := lw_g (lw_at lw_m4 204 rfl) rfl
theorem q994 : (Jvm.Cond.static ({ cls := "java/math/BigInteger", name := "implMulAddCheck", desc := "([I[IIII)V" } : Jvm.MethodName)) ∈ lw_all := lw_g (lw_at lw_m4 205 rfl) rfl
theorem q995 : (Jvm.Cond.code ({ cls := "java/math/BigInteger", name := "implMulAddCheck", desc := "([I[IIII)V" } : Jvm.MethodName) prog_32_method_95_code (5 : Nat) (Option.none : Option Jvm.ClassFile.FieldType)) ∈ lw_all := lw_g (lw_at lw_m4 206 rfl) rfl
theorem q996 : (Jvm.Cond.stringRef "java/math/BigInteger" (713 : Nat) "input length is out of bound: ") ∈ lw_tbl := lw_at lw_m4 207 rfl
theorem q997 : (Jvm.Cond.stringRef "java/math/BigInteger" (715 : Nat) "input offset is invalid: ") ∈ lw_tbl := lw_at lw_m4 208 rfl
theorem q998 : (Jvm.Cond.stringRef "java/math/BigInteger" (717 : Nat) "input offset is out of bound: ") ∈ lw_tbl := lw_at lw_m4 209 rfl
theorem q999 : (Jvm.Cond.stringRef "java/math/BigInteger" (719 : Nat) "input len is out of bound: ") ∈ lw_tbl := lw_at lw_m4 210 rfl
theorem q1000 : (Jvm.Cond.methodLink "java/math/BigInteger" (710 : Nat) ({ cls := "java/math/BigInteger", name := "implMulAdd", desc := "([I[IIII)I" } : Jvm.MethodName)) ∈ lw_all := lw_g (lw_at lw_m4 211 rfl) rfl
theorem q1001 : (Jvm.Cond.static ({ cls := "java/math/BigInteger", name := "implMulAdd", desc := "([I[IIII)I" } : Jvm.MethodName)) ∈ lw_all := lw_g (lw_at lw_m4 212 rfl) rfl
theorem q1002 : (Jvm.Cond.code ({ cls := "java/math/BigInteger", name := "implMulAdd", desc := "([I[IIII)I" } : Jvm.MethodName) prog_32_method_96_code (12 : Nat) (Option.some Jvm.ClassFile.FieldType.int)) ∈ lw_all := lw_g (lw_at lw_m4 213 rfl) rfl
theorem q1003 : (Jvm.Cond.methodLink "java/math/BigInteger" (525 : Nat) ({ cls := "java/math/BigInteger", name := "addOne", desc := "([IIII)I" } : Jvm.MethodName)) ∈ lw_all := lw_g (lw_at lw_m4 214 rfl) rfl
theorem q1004 : (Jvm.Cond.static ({ cls := "java/math/BigInteger", name := "addOne", desc := "([IIII)I" } : Jvm.MethodName)) ∈ lw_all := lw_g (lw_at lw_m4 215 rfl) rfl
theorem q1005 : (Jvm.Cond.code ({ cls := "java/math/BigInteger", name := "addOne", desc := "([IIII)I" } : Jvm.MethodName) prog_32_method_97_code (6 : Nat) (Option.some Jvm.ClassFile.FieldType.int)) ∈ lw_all := lw_g (lw_at lw_m4 216 rfl) rfl
theorem q1006 : (Jvm.Cond.methodLink "java/math/BigInteger" (529 : Nat) ({ cls := "java/math/BigInteger", name := "primitiveLeftShift", desc := "([III)V" } : Jvm.MethodName)) ∈ lw_all := lw_g (lw_at lw_m4 217 rfl) rfl
theorem q1007 : (Jvm.Cond.static ({ cls := "java/math/BigInteger", name := "primitiveLeftShift", desc := "([III)V" } : Jvm.MethodName)) ∈ lw_all := lw_g (lw_at lw_m4 218 rfl) rfl
theorem q1008 : (Jvm.Cond.code ({ cls := "java/math/BigInteger", name := "primitiveLeftShift", desc := "([III)V" } : Jvm.MethodName) prog_32_method_77_code (3 : Nat) (Option.none : Option Jvm.ClassFile.FieldType)) ∈ lw_all := lw_g (lw_at lw_m4 219 rfl) rfl
theorem q1009 : (Jvm.Cond.methodLink "java/math/BigInteger" (611 : Nat) ({ cls := "java/util/Objects", name := "checkFromToIndex", desc := "(III)I" } : Jvm.MethodName)) ∈ lw_all := lw_g (lw_at lw_m4 220 rfl) rfl
theorem q1013 : (Jvm.Cond.methodLink "java/math/BigInteger" (618 : Nat) ({ cls := "java/math/BigInteger", name := "shiftLeftImplWorker", desc := "([I[IIII)V" } : Jvm.MethodName)) ∈ lw_all := lw_g (lw_at lw_m4 224 rfl) rfl
theorem q1014 : (Jvm.Cond.static ({ cls := "java/math/BigInteger", name := "shiftLeftImplWorker", desc := "([I[IIII)V" } : Jvm.MethodName)) ∈ lw_all := lw_g (lw_at lw_m4 225 rfl) rfl
theorem q1015 : (Jvm.Cond.code ({ cls := "java/math/BigInteger", name := "shiftLeftImplWorker", desc := "([I[IIII)V" } : Jvm.MethodName) prog_32_method_103_code (7 : Nat) (Option.none : Option Jvm.ClassFile.FieldType)) ∈ lw_all := lw_g (lw_at lw_m4 226 rfl) rfl
theorem q1016 : (Jvm.Cond.methodLink "java/math/BigInteger" (495 : Nat) ({ cls := "java/math/BigInteger", name := "squareKaratsuba", desc := "()Ljava/math/BigInteger;" } : Jvm.MethodName)) ∈ lw_all := lw_g (lw_at lw_m4 227 rfl) rfl
theorem q1017 : (Jvm.Cond.privateMethod ({ cls := "java/math/BigInteger", name := "squareKaratsuba", desc := "()Ljava/math/BigInteger;" } : Jvm.MethodName)) ∈ lw_tbl := lw_at lw_m4 228 rfl
theorem q1018 : (Jvm.Cond.instanceMethod ({ cls := "java/math/BigInteger", name := "squareKaratsuba", desc := "()Ljava/math/BigInteger;" } : Jvm.MethodName)) ∈ lw_all := lw_g (lw_at lw_m4 229 rfl) rfl
theorem q1019 : (Jvm.Cond.code ({ cls := "java/math/BigInteger", name := "squareKaratsuba", desc := "()Ljava/math/BigInteger;" } : Jvm.MethodName) prog_32_method_59_code (6 : Nat) (Option.some (Jvm.ClassFile.FieldType.object "java/math/BigInteger"))) ∈ lw_all := lw_g (lw_at lw_m4 230 rfl) rfl
theorem q1020 : (Jvm.Cond.methodLink "java/math/BigInteger" (459 : Nat) ({ cls := "java/math/BigInteger", name := "getLower", desc := "(I)Ljava/math/BigInteger;" } : Jvm.MethodName)) ∈ lw_all := lw_g (lw_at lw_m4 231 rfl) rfl
theorem q1021 : (Jvm.Cond.privateMethod ({ cls := "java/math/BigInteger", name := "getLower", desc := "(I)Ljava/math/BigInteger;" } : Jvm.MethodName)) ∈ lw_tbl := lw_at lw_m4 232 rfl
theorem q1022 : (Jvm.Cond.instanceMethod ({ cls := "java/math/BigInteger", name := "getLower", desc := "(I)Ljava/math/BigInteger;" } : Jvm.MethodName)) ∈ lw_all := lw_g (lw_at lw_m4 233 rfl) rfl
theorem q1023 : (Jvm.Cond.code ({ cls := "java/math/BigInteger", name := "getLower", desc := "(I)Ljava/math/BigInteger;" } : Jvm.MethodName) prog_32_method_52_code (4 : Nat) (Option.some (Jvm.ClassFile.FieldType.object "java/math/BigInteger"))) ∈ lw_all := lw_g (lw_at lw_m4 234 rfl) rfl
theorem q1024 : (Jvm.Cond.methodLink "java/math/BigInteger" (485 : Nat) ({ cls := "java/math/BigInteger", name := "abs", desc := "()Ljava/math/BigInteger;" } : Jvm.MethodName)) ∈ lw_all := lw_g (lw_at lw_m4 235 rfl) rfl
theorem q1025 : (Jvm.Cond.methodLink "java/math/BigInteger" (462 : Nat) ({ cls := "java/math/BigInteger", name := "getUpper", desc := "(I)Ljava/math/BigInteger;" } : Jvm.MethodName)) ∈ lw_all := lw_g (lw_at lw_m4 236 rfl) rfl
theorem q1026 : (Jvm.Cond.privateMethod ({ cls := "java/math/BigInteger", name := "getUpper", desc := "(I)Ljava/math/BigInteger;" } : Jvm.MethodName)) ∈ lw_tbl := lw_at lw_m4 237 rfl
theorem q1027 : (Jvm.Cond.instanceMethod ({ cls := "java/math/BigInteger", name := "getUpper", desc := "(I)Ljava/math/BigInteger;" } : Jvm.MethodName)) ∈ lw_all := lw_g (lw_at lw_m4 238 rfl) rfl
theorem q1028 : (Jvm.Cond.code ({ cls := "java/math/BigInteger", name := "getUpper", desc := "(I)Ljava/math/BigInteger;" } : Jvm.MethodName) prog_32_method_53_code (5 : Nat) (Option.some (Jvm.ClassFile.FieldType.object "java/math/BigInteger"))) ∈ lw_all := lw_g (lw_at lw_m4 239 rfl) rfl
theorem q1029 : (Jvm.Cond.methodLink "java/math/BigInteger" (319 : Nat) ({ cls := "java/math/BigInteger", name := "square", desc := "()Ljava/math/BigInteger;" } : Jvm.MethodName)) ∈ lw_all := lw_g (lw_at lw_m5 0 rfl) rfl
theorem q1030 : (Jvm.Cond.privateMethod ({ cls := "java/math/BigInteger", name := "square", desc := "()Ljava/math/BigInteger;" } : Jvm.MethodName)) ∈ lw_tbl := lw_at lw_m5 1 rfl
theorem q1031 : (Jvm.Cond.instanceMethod ({ cls := "java/math/BigInteger", name := "square", desc := "()Ljava/math/BigInteger;" } : Jvm.MethodName)) ∈ lw_all := lw_g (lw_at lw_m5 2 rfl) rfl
theorem q1032 : (Jvm.Cond.code ({ cls := "java/math/BigInteger", name := "square", desc := "()Ljava/math/BigInteger;" } : Jvm.MethodName) prog_32_method_54_code (1 : Nat) (Option.some (Jvm.ClassFile.FieldType.object "java/math/BigInteger"))) ∈ lw_all := lw_g (lw_at lw_m5 3 rfl) rfl
theorem q1033 : (Jvm.Cond.methodLink "java/math/BigInteger" (465 : Nat) ({ cls := "java/math/BigInteger", name := "shiftLeft", desc := "(I)Ljava/math/BigInteger;" } : Jvm.MethodName)) ∈ lw_all := lw_g (lw_at lw_m5 4 rfl) rfl
theorem q1034 : (Jvm.Cond.instanceMethod ({ cls := "java/math/BigInteger", name := "shiftLeft", desc := "(I)Ljava/math/BigInteger;" } : Jvm.MethodName)) ∈ lw_all := lw_g (lw_at lw_m5 5 rfl) rfl
theorem q1035 : (Jvm.Cond.selects "java/math/BigInteger" ({ cls := "java/math/BigInteger", name := "shiftLeft", desc := "(I)Ljava/math/BigInteger;" } : Jvm.MethodName) ({ cls := "java/math/BigInteger", name := "shiftLeft", desc := "(I)Ljava/math/BigInteger;" } : Jvm.MethodName)) ∈ lw_all := lw_g (lw_at lw_m5 6 rfl) rfl
theorem q1036 : (Jvm.Cond.code ({ cls := "java/math/BigInteger", name := "shiftLeft", desc := "(I)Ljava/math/BigInteger;" } : Jvm.MethodName) prog_32_method_101_code (2 : Nat) (Option.some (Jvm.ClassFile.FieldType.object "java/math/BigInteger"))) ∈ lw_all := lw_g (lw_at lw_m5 7 rfl) rfl
theorem q1037 : (Jvm.Cond.methodLink "java/math/BigInteger" (429 : Nat) ({ cls := "java/math/BigInteger", name := "shiftLeft", desc := "([II)[I" } : Jvm.MethodName)) ∈ lw_all := lw_g (lw_at lw_m5 8 rfl) rfl
theorem q1038 : (Jvm.Cond.static ({ cls := "java/math/BigInteger", name := "shiftLeft", desc := "([II)[I" } : Jvm.MethodName)) ∈ lw_all := lw_g (lw_at lw_m5 9 rfl) rfl
theorem q1039 : (Jvm.Cond.code ({ cls := "java/math/BigInteger", name := "shiftLeft", desc := "([II)[I" } : Jvm.MethodName) prog_32_method_102_code (10 : Nat) (Option.some (Jvm.ClassFile.FieldType.array Jvm.ClassFile.FieldType.int))) ∈ lw_all := lw_g (lw_at lw_m5 10 rfl) rfl
theorem q1040 : (Jvm.Cond.methodLink "java/math/BigInteger" (727 : Nat) ({ cls := "java/math/BigInteger", name := "shiftRightImpl", desc := "(I)Ljava/math/BigInteger;" } : Jvm.MethodName)) ∈ lw_all := lw_g (lw_at lw_m5 11 rfl) rfl
theorem q1041 : (Jvm.Cond.privateMethod ({ cls := "java/math/BigInteger", name := "shiftRightImpl", desc := "(I)Ljava/math/BigInteger;" } : Jvm.MethodName)) ∈ lw_tbl := lw_at lw_m5 12 rfl
theorem q1042 : (Jvm.Cond.instanceMethod ({ cls := "java/math/BigInteger", name := "shiftRightImpl", desc := "(I)Ljava/math/BigInteger;" } : Jvm.MethodName)) ∈ lw_all := lw_g (lw_at lw_m5 13 rfl) rfl
theorem q1043 : (Jvm.Cond.code ({ cls := "java/math/BigInteger", name := "shiftRightImpl", desc := "(I)Ljava/math/BigInteger;" } : Jvm.MethodName) prog_32_method_105_code (9 : Nat) (Option.some (Jvm.ClassFile.FieldType.object "java/math/BigInteger"))) ∈ lw_all := lw_g (lw_at lw_m5 14 rfl) rfl
theorem q1044 : (Jvm.Cond.methodLink "java/math/BigInteger" (690 : Nat) ({ cls := "java/util/Arrays", name := "copyOf", desc := "([II)[I" } : Jvm.MethodName)) ∈ lw_all := lw_g (lw_at lw_m5 15 rfl) rfl
theorem q1047 : (Jvm.Cond.methodLink "java/math/BigInteger" (614 : Nat) ({ cls := "java/math/BigInteger", name := "shiftRightImplWorker", desc := "([I[IIII)V" } : Jvm.MethodName)) ∈ lw_all := lw_g (lw_at lw_m5 18 rfl) rfl
theorem q1048 : (Jvm.Cond.static ({ cls := "java/math/BigInteger", name := "shiftRightImplWorker", desc := "([I[IIII)V" } : Jvm.MethodName)) ∈ lw_all := lw_g (lw_at lw_m5 19 rfl) rfl
theorem q1049 : (Jvm.Cond.code ({ cls := "java/math/BigInteger", name := "shiftRightImplWorker", desc := "([I[IIII)V" } : Jvm.MethodName) prog_32_method_106_code (8 : Nat) (Option.none : Option Jvm.ClassFile.FieldType)) ∈ lw_all := lw_g (lw_at lw_m5 20 rfl) rfl
theorem q1050 : (Jvm.Cond.methodLink "java/math/BigInteger" (730 : Nat) ({ cls := "java/math/BigInteger", name := "javaIncrement", desc := "([I)[I" } : Jvm.MethodName)) ∈ lw_all := lw_g (lw_at lw_m5 21 rfl) rfl
theorem q1051 : (Jvm.Cond.instanceMethod ({ cls := "java/math/BigInteger", name := "javaIncrement", desc := "([I)[I" } : Jvm.MethodName)) ∈ lw_all := lw_g (lw_at lw_m5 22 rfl) rfl
theorem q1052 : (Jvm.Cond.selects "java/math/BigInteger" ({ cls := "java/math/BigInteger", name := "javaIncrement", desc := "([I)[I" } : Jvm.MethodName) ({ cls := "java/math/BigInteger", name := "javaIncrement", desc := "([I)[I" } : Jvm.MethodName)) ∈ lw_all := lw_g (lw_at lw_m5 23 rfl) rfl
theorem q1053 : (Jvm.Cond.code ({ cls := "java/math/BigInteger", name := "javaIncrement", desc := "([I)[I" } : Jvm.MethodName) prog_32_method_107_code (4 : Nat) (Option.some (Jvm.ClassFile.FieldType.array Jvm.ClassFile.FieldType.int))) ∈ lw_all := lw_g (lw_at lw_m5 24 rfl) rfl
theorem q1054 : (Jvm.Cond.methodLink "java/math/BigInteger" (239 : Nat) ({ cls := "java/math/BigInteger", name := "add", desc := "(Ljava/math/BigInteger;)Ljava/math/BigInteger;" } : Jvm.MethodName)) ∈ lw_all := lw_g (lw_at lw_m5 25 rfl) rfl
theorem q1055 : (Jvm.Cond.methodLink "java/math/BigInteger" (272 : Nat) ({ cls := "java/math/BigInteger", name := "subtract", desc := "(Ljava/math/BigInteger;)Ljava/math/BigInteger;" } : Jvm.MethodName)) ∈ lw_all := lw_g (lw_at lw_m5 26 rfl) rfl
theorem q1056 : (Jvm.Cond.instanceMethod ({ cls := "java/math/BigInteger", name := "subtract", desc := "(Ljava/math/BigInteger;)Ljava/math/BigInteger;" } : Jvm.MethodName)) ∈ lw_all := lw_g (lw_at lw_m5 27 rfl) rfl
theorem q1057 : (Jvm.Cond.selects "java/math/BigInteger" ({ cls := "java/math/BigInteger", name := "subtract", desc := "(Ljava/math/BigInteger;)Ljava/math/BigInteger;" } : Jvm.MethodName) ({ cls := "java/math/BigInteger", name := "subtract", desc := "(Ljava/math/BigInteger;)Ljava/math/BigInteger;" } : Jvm.MethodName)) ∈ lw_all := lw_g (lw_at lw_m5 28 rfl) rfl
theorem q1058 : (Jvm.Cond.code ({ cls := "java/math/BigInteger", name := "subtract", desc := "(Ljava/math/BigInteger;)Ljava/math/BigInteger;" } : Jvm.MethodName) prog_32_method_38_code (4 : Nat) (Option.some (Jvm.ClassFile.FieldType.object "java/math/BigInteger"))) ∈ lw_all := lw_g (lw_at lw_m5 29 rfl) rfl
theorem q1059 : (Jvm.Cond.methodLink "java/math/BigInteger" (403 : Nat) ({ cls := "java/math/BigInteger", name := "multiplyByInt", desc := "([III)Ljava/math/BigInteger;" } : Jvm.MethodName)) ∈ lw_all := lw_g (lw_at lw_m5 30 rfl) rfl
theorem q1060 : (Jvm.Cond.static ({ cls := "java/math/BigInteger", name := "multiplyByInt", desc := "([III)Ljava/math/BigInteger;" } : Jvm.MethodName)) ∈ lw_all := lw_g (lw_at lw_m5 31 rfl) rfl
theorem q1061 : (Jvm.Cond.code ({ cls := "java/math/BigInteger", name := "multiplyByInt", desc := "([III)Ljava/math/BigInteger;" } : Jvm.MethodName) prog_32_method_43_code (13 : Nat) (Option.some (Jvm.ClassFile.FieldType.object "java/math/BigInteger"))) ∈ lw_all := lw_g (lw_at lw_m5 32 rfl) rfl
theorem q1062 : (Jvm.Cond.methodLink "java/math/BigInteger" (423 : Nat) ({ cls := "java/lang/Integer", name := "bitCount", desc := "(I)I" } : Jvm.MethodName)) ∈ lw_all := lw_g (lw_at lw_m5 33 rfl) rfl
theorem q1068 : (Jvm.Cond.methodLink "java/math/BigInteger" (426 : Nat) ({ cls := "java/lang/Integer", name := "numberOfTrailingZeros", desc := "(I)I" } : Jvm.MethodName)) ∈ lw_all := lw_g (lw_at lw_m5 39 rfl) rfl
theorem q1072 : (Jvm.Cond.methodLink "java/math/BigInteger" (407 : Nat) ({ cls := "java/math/BigInteger", name := "multiplyToLen", desc := "([II[II[I)[I" } : Jvm.MethodName)) ∈ lw_all := lw_g (lw_at lw_m5 43 rfl) rfl
theorem q1073 : (Jvm.Cond.static ({ cls := "java/math/BigInteger", name := "multiplyToLen", desc := "([II[II[I)[I" } : Jvm.MethodName)) ∈ lw_all := lw_g (lw_at lw_m5 44 rfl) rfl
theorem q1074 : (Jvm.Cond.code ({ cls := "java/math/BigInteger", name := "multiplyToLen", desc := "([II[II[I)[I" } : Jvm.MethodName) prog_32_method_45_code (5 : Nat) (Option.some (Jvm.ClassFile.FieldType.array Jvm.ClassFile.FieldType.int))) ∈ lw_all := lw_g (lw_at lw_m5 45 rfl) rfl
theorem q1075 : (Jvm.Cond.methodLink "java/math/BigInteger" (441 : Nat) ({ cls := "java/math/BigInteger", name := "multiplyToLenCheck", desc := "([II)V" } : Jvm.MethodName)) ∈ lw_all := lw_g (lw_at lw_m5 46 rfl) rfl
theorem q1076 : (Jvm.Cond.static ({ cls := "java/math/BigInteger", name := "multiplyToLenCheck", desc := "([II)V" } : Jvm.MethodName)) ∈ lw_all := lw_g (lw_at lw_m5 47 rfl) rfl
theorem q1077 : (Jvm.Cond.code ({ cls := "java/math/BigInteger", name := "multiplyToLenCheck", desc := "([II)V" } : Jvm.MethodName) prog_32_method_47_code (2 : Nat) (Option.none : Option Jvm.ClassFile.FieldType)) ∈ lw_all := lw_g (lw_at lw_m5 48 rfl) rfl
theorem q1078 : (Jvm.Cond.methodLink "java/math/BigInteger" (447 : Nat) ({ cls := "java/util/Objects", name := "requireNonNull", desc := "(Ljava/lang/Object;)Ljava/lang/Object;" } : Jvm.MethodName)) ∈ lw_all := lw_g (lw_at lw_m5 49 rfl) rfl
theorem q1081 : (Jvm.Cond.classLink "java/math/BigInteger" (451 : Nat) "java/lang/ArrayIndexOutOfBoundsException") ∈ lw_all := lw_g (lw_at lw_m5 52 rfl) rfl
theorem q1082 : (Jvm.Cond.methodLink "java/math/BigInteger" (453 : Nat) ({ cls := "java/lang/ArrayIndexOutOfBoundsException", name := "<init>", desc := "(I)V" } : Jvm.MethodName)) ∈ lw_all := lw_g (lw_at lw_m5 53 rfl) rfl
theorem q1091 : (Jvm.Cond.methodLink "java/math/BigInteger" (444 : Nat) ({ cls := "java/math/BigInteger", name := "implMultiplyToLen", desc := "([II[II[I)[I" } : Jvm.MethodName)) ∈ lw_all := lw_g (lw_at lw_m5 62 rfl) rfl
theorem q1092 : (Jvm.Cond.static ({ cls := "java/math/BigInteger", name := "implMultiplyToLen", desc := "([II[II[I)[I" } : Jvm.MethodName)) ∈ lw_all := lw_g (lw_at lw_m5 63 rfl) rfl
theorem q1093 : (Jvm.Cond.code ({ cls := "java/math/BigInteger", name := "implMultiplyToLen", desc := "([II[II[I)[I" } : Jvm.MethodName) prog_32_method_46_code (14 : Nat) (Option.some (Jvm.ClassFile.FieldType.array Jvm.ClassFile.FieldType.int))) ∈ lw_all := lw_g (lw_at lw_m5 64 rfl) rfl
theorem q1094 : (Jvm.Cond.methodLink "java/math/BigInteger" (411 : Nat) ({ cls := "java/math/BigInteger", name := "multiplyKaratsuba", desc := "(Ljava/math/BigInteger;Ljava/math/BigInteger;)Ljava/math/BigInteger;" } : Jvm.MethodName)) ∈ lw_all := lw_g (lw_at lw_m5 65 rfl) rfl
theorem q1095 : (Jvm.Cond.static ({ cls := "java/math/BigInteger", name := "multiplyKaratsuba", desc := "(Ljava/math/BigInteger;Ljava/math/BigInteger;)Ljava/math/BigInteger;" } : Jvm.MethodName)) ∈ lw_all := lw_g (lw_at lw_m5 66 rfl) rfl
theorem q1096 : (Jvm.Cond.code ({ cls := "java/math/BigInteger", name := "multiplyKaratsuba", desc := "(Ljava/math/BigInteger;Ljava/math/BigInteger;)Ljava/math/BigInteger;" } : Jvm.MethodName) prog_32_method_48_code (13 : Nat) (Option.some (Jvm.ClassFile.FieldType.object "java/math/BigInteger"))) ∈ lw_all := lw_g (lw_at lw_m5 67 rfl) rfl
theorem q1097 : (Jvm.Cond.methodLink "java/math/BigInteger" (456 : Nat) ({ cls := "java/lang/Math", name := "max", desc := "(II)I" } : Jvm.MethodName)) ∈ lw_all := lw_g (lw_at lw_m5 68 rfl) rfl
theorem q1098 : (Jvm.Cond.methodLink "java/math/BigInteger" (316 : Nat) ({ cls := "java/math/BigInteger", name := "multiply", desc := "(Ljava/math/BigInteger;)Ljava/math/BigInteger;" } : Jvm.MethodName)) ∈ lw_all := lw_g (lw_at lw_m5 69 rfl) rfl
theorem q1158 : (Jvm.Cond.instanceMethod ({ cls := "java/math/BigInteger", name := "equals", desc := "(Ljava/lang/Object;)Z" } : Jvm.MethodName)) ∈ lw_all := lw_g (lw_at lw_m5 129 rfl) rfl
theorem q1159 : (Jvm.Cond.selects "java/math/BigInteger" ({ cls := "java/math/BigInteger", name := "equals", desc := "(Ljava/lang/Object;)Z" } : Jvm.MethodName) ({ cls := "java/math/BigInteger", name := "equals", desc := "(Ljava/lang/Object;)Z" } : Jvm.MethodName)) ∈ lw_all := lw_g (lw_at lw_m5 130 rfl) rfl
theorem q1160 : (Jvm.Cond.code ({ cls := "java/math/BigInteger", name := "equals", desc := "(Ljava/lang/Object;)Z" } : Jvm.MethodName) prog_32_method_124_code (7 : Nat) (Option.some Jvm.ClassFile.FieldType.boolean)) ∈ lw_all := lw_g (lw_at lw_m5 131 rfl) rfl
theorem q1162 : (Jvm.Cond.instanceMethod ({ cls := "java/math/BigInteger", name := "gcd", desc := "(Ljava/math/BigInteger;)Ljava/math/BigInteger;" } : Jvm.MethodName)) ∈ lw_all := lw_g (lw_at lw_m5 133 rfl) rfl
theorem q1163 : (Jvm.Cond.selects "java/math/BigInteger" ({ cls := "java/math/BigInteger", name := "gcd", desc := "(Ljava/math/BigInteger;)Ljava/math/BigInteger;" } : Jvm.MethodName) ({ cls := "java/math/BigInteger", name := "gcd", desc := "(Ljava/math/BigInteger;)Ljava/math/BigInteger;" } : Jvm.MethodName)) ∈ lw_all := lw_g (lw_at lw_m5 134 rfl) rfl
theorem q1164 : (Jvm.Cond.code ({ cls := "java/math/BigInteger", name := "gcd", desc := "(Ljava/math/BigInteger;)Ljava/math/BigInteger;" } : Jvm.MethodName) prog_32_method_73_code (5 : Nat) (Option.some (Jvm.ClassFile.FieldType.object "java/math/BigInteger"))) ∈ lw_all := lw_g (lw_at lw_m5 135 rfl) rfl
theorem q1165 : (Jvm.Cond.classLink "java/math/BigInteger" (541 : Nat) "java/math/MutableBigInteger") ∈ lw_all := lw_g (lw_at lw_m5 136 rfl) rfl
theorem q1167 : (Jvm.Cond.methodLink "java/math/BigInteger" (567 : Nat) ({ cls := "java/math/MutableBigInteger", name := "<init>", desc := "(Ljava/math/BigInteger;)V" } : Jvm.MethodName)) ∈ lw_all := lw_g (lw_at lw_m5 138 rfl) rfl
theorem q1182 : (Jvm.Cond.methodLink "java/math/BigInteger" (598 : Nat) ({ cls := "java/math/MutableBigInteger", name := "hybridGCD", desc := "(Ljava/math/MutableBigInteger;)Ljava/math/MutableBigInteger;" } : Jvm.MethodName)) ∈ lw_all := lw_g (lw_at lw_m5 153 rfl) rfl
theorem q1207 : (Jvm.Cond.static ({ cls := "java/math/BigInteger", name := "bitLengthForInt", desc := "(I)I" } : Jvm.MethodName)) ∈ lw_all := lw_g (lw_at lw_m5 178 rfl) rfl
theorem q1208 : (Jvm.Cond.code ({ cls := "java/math/BigInteger", name := "bitLengthForInt", desc := "(I)I" } : Jvm.MethodName) prog_32_method_74_code (1 : Nat) (Option.some Jvm.ClassFile.FieldType.int)) ∈ lw_all := lw_g (lw_at lw_m5 179 rfl) rfl
theorem q1209 : (Jvm.Cond.methodLink "java/math/BigInteger" (602 : Nat) ({ cls := "java/lang/Integer", name := "numberOfLeadingZeros", desc := "(I)I" } : Jvm.MethodName)) ∈ lw_all := lw_g (lw_at lw_m5 180 rfl) rfl
theorem q1421 : (Jvm.Cond.methodLink "java/math/BigInteger" (548 : Nat) ({ cls := "java/math/MutableBigInteger", name := "toBigInteger", desc := "(I)Ljava/math/BigInteger;" } : Jvm.MethodName)) ∈ lw_all := lw_g (lw_at lw_m6 152 rfl) rfl
theorem q1423 : (Jvm.Cond.instanceMethod ({ cls := "java/math/BigInteger", name := "divide", desc := "(Ljava/math/BigInteger;)Ljava/math/BigInteger;" } : Jvm.MethodName)) ∈ lw_all := lw_g (lw_at lw_m6 154 rfl) rfl
theorem q1424 : (Jvm.Cond.selects "java/math/BigInteger" ({ cls := "java/math/BigInteger", name := "divide", desc := "(Ljava/math/BigInteger;)Ljava/math/BigInteger;" } : Jvm.MethodName) ({ cls := "java/math/BigInteger", name := "divide", desc := "(Ljava/math/BigInteger;)Ljava/math/BigInteger;" } : Jvm.MethodName)) ∈ lw_all := lw_g (lw_at lw_m6 155 rfl) rfl
theorem q1425 : (Jvm.Cond.code ({ cls := "java/math/BigInteger", name := "divide", desc := "(Ljava/math/BigInteger;)Ljava/math/BigInteger;" } : Jvm.MethodName) prog_32_method_61_code (2 : Nat) (Option.some (Jvm.ClassFile.FieldType.object "java/math/BigInteger"))) ∈ lw_all := lw_g (lw_at lw_m6 156 rfl) rfl
theorem q1426 : (Jvm.Cond.methodLink "java/math/BigInteger" (535 : Nat) ({ cls := "java/math/BigInteger", name := "divideKnuth", desc := "(Ljava/math/BigInteger;)Ljava/math/BigInteger;" } : Jvm.MethodName)) ∈ lw_all := lw_g (lw_at lw_m6 157 rfl) rfl
theorem q1427 : (Jvm.Cond.privateMethod ({ cls := "java/math/BigInteger", name := "divideKnuth", desc := "(Ljava/math/BigInteger;)Ljava/math/BigInteger;" } : Jvm.MethodName)) ∈ lw_tbl := lw_at lw_m6 158 rfl
theorem q1428 : (Jvm.Cond.instanceMethod ({ cls := "java/math/BigInteger", name := "divideKnuth", desc := "(Ljava/math/BigInteger;)Ljava/math/BigInteger;" } : Jvm.MethodName)) ∈ lw_all := lw_g (lw_at lw_m6 159 rfl) rfl
theorem q1429 : (Jvm.Cond.code ({ cls := "java/math/BigInteger", name := "divideKnuth", desc := "(Ljava/math/BigInteger;)Ljava/math/BigInteger;" } : Jvm.MethodName) prog_32_method_62_code (5 : Nat) (Option.some (Jvm.ClassFile.FieldType.object "java/math/BigInteger"))) ∈ lw_all := lw_g (lw_at lw_m6 160 rfl) rfl
theorem q1430 : (Jvm.Cond.methodLink "java/math/BigInteger" (543 : Nat) ({ cls := "java/math/MutableBigInteger", name := "<init>", desc := "()V" } : Jvm.MethodName)) ∈ lw_all := lw_g (lw_at lw_m6 161 rfl) rfl
theorem q1431 : (Jvm.Cond.methodLink "java/math/BigInteger" (544 : Nat) ({ cls := "java/math/MutableBigInteger", name := "<init>", desc := "([I)V" } : Jvm.MethodName)) ∈ lw_all := lw_g (lw_at lw_m6 162 rfl) rfl
theorem q1432 : (Jvm.Cond.methodLink "java/math/BigInteger" (545 : Nat) ({ cls := "java/math/MutableBigInteger", name := "divideKnuth", desc := "(Ljava/math/MutableBigInteger;Ljava/math/MutableBigInteger;Z)Ljava/math/MutableBigInteger;" } : Jvm.MethodName)) ∈ lw_all := lw_g (lw_at lw_m6 163 rfl) rfl
theorem q1433 : (Jvm.Cond.methodLink "java/math/BigInteger" (538 : Nat) ({ cls := "java/math/BigInteger", name := "divideBurnikelZiegler", desc := "(Ljava/math/BigInteger;)Ljava/math/BigInteger;" } : Jvm.MethodName)) ∈ lw_all := lw_g (lw_at lw_m6 164 rfl) rfl
theorem q1434 : (Jvm.Cond.privateMethod ({ cls := "java/math/BigInteger", name := "divideBurnikelZiegler", desc := "(Ljava/math/BigInteger;)Ljava/math/BigInteger;" } : Jvm.MethodName)) ∈ lw_tbl := lw_at lw_m6 165 rfl
theorem q1435 : (Jvm.Cond.instanceMethod ({ cls := "java/math/BigInteger", name := "divideBurnikelZiegler", desc := "(Ljava/math/BigInteger;)Ljava/math/BigInteger;" } : Jvm.MethodName)) ∈ lw_all := lw_g (lw_at lw_m6 166 rfl) rfl
theorem q1436 : (Jvm.Cond.code ({ cls := "java/math/BigInteger", name := "divideBurnikelZiegler", desc := "(Ljava/math/BigInteger;)Ljava/math/BigInteger;" } : Jvm.MethodName) prog_32_method_67_code (2 : Nat) (Option.some (Jvm.ClassFile.FieldType.object "java/math/BigInteger"))) ∈ lw_all := lw_g (lw_at lw_m6 167 rfl) rfl
theorem q1437 : (Jvm.Cond.methodLink "java/math/BigInteger" (555 : Nat) ({ cls := "java/math/BigInteger", name := "divideAndRemainderBurnikelZiegler", desc := "(Ljava/math/BigInteger;)[Ljava/math/BigInteger;" } : Jvm.MethodName)) ∈ lw_all := lw_g (lw_at lw_m6 168 rfl) rfl
theorem q1438 : (Jvm.Cond.privateMethod ({ cls := "java/math/BigInteger", name := "divideAndRemainderBurnikelZiegler", desc := "(Ljava/math/BigInteger;)[Ljava/math/BigInteger;" } : Jvm.MethodName)) ∈ lw_tbl := lw_at lw_m6 169 rfl
theorem q1439 : (Jvm.Cond.instanceMethod ({ cls := "java/math/BigInteger", name := "divideAndRemainderBurnikelZiegler", desc := "(Ljava/math/BigInteger;)[Ljava/math/BigInteger;" } : Jvm.MethodName)) ∈ lw_all := lw_g (lw_at lw_m6 170 rfl) rfl
theorem q1440 : (Jvm.Cond.code ({ cls := "java/math/BigInteger", name := "divideAndRemainderBurnikelZiegler", desc := "(Ljava/math/BigInteger;)[Ljava/math/BigInteger;" } : Jvm.MethodName) prog_32_method_69_code (6 : Nat) (Option.some (Jvm.ClassFile.FieldType.array (Jvm.ClassFile.FieldType.object "java/math/BigInteger")))) ∈ lw_all := lw_g (lw_at lw_m6 171 rfl) rfl
theorem q1441 : (Jvm.Cond.methodLink "java/math/BigInteger" (570 : Nat) ({ cls := "java/math/MutableBigInteger", name := "divideAndRemainderBurnikelZiegler", desc := "(Ljava/math/MutableBigInteger;Ljava/math/MutableBigInteger;)Ljava/math/MutableBigInteger;" } : Jvm.MethodName)) ∈ lw_all := lw_g (lw_at lw_m6 172 rfl) rfl
theorem q1442 : (Jvm.Cond.methodLink "java/math/BigInteger" (572 : Nat) ({ cls := "java/math/MutableBigInteger", name := "isZero", desc := "()Z" } : Jvm.MethodName)) ∈ lw_all := lw_g (lw_at lw_m6 173 rfl) rfl
theorem q1591 : (Jvm.Cond.instanceMethod ({ cls := "java/math/BigInteger", name := "max", desc := "(Ljava/math/BigInteger;)Ljava/math/BigInteger;" } : Jvm.MethodName)) ∈ lw_all := lw_g (lw_at lw_m7 82 rfl) rfl
theorem q1592 : (Jvm.Cond.selects "java/math/BigInteger" ({ cls := "java/math/BigInteger", name := "max", desc := "(Ljava/math/BigInteger;)Ljava/math/BigInteger;" } : Jvm.MethodName) ({ cls := "java/math/BigInteger", name := "max", desc := "(Ljava/math/BigInteger;)Ljava/math/BigInteger;" } : Jvm.MethodName)) ∈ lw_all := lw_g (lw_at lw_m7 83 rfl) rfl
theorem q1593 : (Jvm.Cond.code ({ cls := "java/math/BigInteger", name := "max", desc := "(Ljava/math/BigInteger;)Ljava/math/BigInteger;" } : Jvm.MethodName) prog_32_method_126_code (2 : Nat) (Option.some (Jvm.ClassFile.FieldType.object "java/math/BigInteger"))) ∈ lw_all := lw_g (lw_at lw_m7 84 rfl) rfl
theorem q1594 : (Jvm.Cond.methodLink "java/math/BigInteger" (335 : Nat) ({ cls := "java/math/BigInteger", name := "compareTo", desc := "(Ljava/math/BigInteger;)I" } : Jvm.MethodName)) ∈ lw_all := lw_g (lw_at lw_m7 85 rfl) rfl
theorem q2170 : (Jvm.Cond.castable "java/math/BigInteger" "java/lang/Object") ∈ lw_tbl := lw_at lw_m9 181 rfl
theorem in_J16 : ∀ w ∈ wsJ160, w ∈ lw_all := lw_in wsJ160 [498, 500, 502, 504, 506, 508] (by decide +kernel) (by decide +kernel)
/-! java/util/ArrayList$Itr -/
set_option maxRecDepth 100000
def RJ17 : String := "java/util/ArrayList$Itr"
def TJ17 : u_T := fun k => match k with
  | 0 => ("java/util/ArrayList$Itr", "cursor", "I", false)
  | 1 => ("java/util/ArrayList$Itr", "lastRet", "I", false)
  | 2 => ("java/util/ArrayList$Itr", "expectedModCount", "I", false)
  | _ => ("java/util/ArrayList$Itr", "this$0", "Ljava/util/ArrayList;", true)
def tyJ17 : Nat → FieldType := fun k => match k with
  | 0 => .int
  | 1 => .int
  | 2 => .int
  | _ => .object "java/util/ArrayList"
abbrev wsJ170 : List Cond := u_ws RJ17 TJ17 4
theorem nmJ17 : ∀ a, a < 4 → ∀ b, b < 4 → a ≠ b → (TJ17 a).2.1 ≠ (TJ17 b).2.1 := by decide +kernel
theorem tyJ17_ok : ∀ k, k < 4 → parseFieldDescriptor (TJ17 k).2.2.1 = some (tyJ17 k) := by decide +kernel
abbrev cJ17_init : ByteArray := prog_37_method_1_code
def yJ17_init : MethodName := ⟨RJ17, "<init>", "(Ljava/util/ArrayList;)V"⟩
def dkwJ17_init_1 : List UInt8 := [181, 0, 22, 177]
abbrev dktJ17_init_1 : List UInt8 := dkwJ17_init_1 ++ []
def dkwJ17_init_0 : List UInt8 := [42, 43, 181, 0, 1, 42, 183, 0, 7, 42, 2, 181, 0, 13, 42, 42, 180, 0, 1, 180, 0, 17]
abbrev dktJ17_init_0 : List UInt8 := dkwJ17_init_0 ++ dktJ17_init_1
theorem dksJ17_init_0 : cJ17_init.data.toList.drop 0 = dktJ17_init_0 := by decide +kernel
theorem dksJ17_init_1 : cJ17_init.data.toList.drop 22 = dktJ17_init_1 := dk_seg dksJ17_init_0 22 rfl rfl
theorem dJ17_init_0 : decode cJ17_init 0 = .ok (.aload_n 0, 1) := dk_42 (dk_at dksJ17_init_0 0 rfl rfl)
theorem dJ17_init_1 : decode cJ17_init 1 = .ok (.aload_n 1, 1) := dk_43 (dk_at dksJ17_init_0 1 rfl rfl)
theorem dJ17_init_2 : decode cJ17_init 2 = .ok (.putfield 1, 3) := dk_181 0 1 (dk_at dksJ17_init_0 2 rfl rfl)
theorem dJ17_init_5 : decode cJ17_init 5 = .ok (.aload_n 0, 1) := dk_42 (dk_at dksJ17_init_0 5 rfl rfl)
theorem dJ17_init_6 : decode cJ17_init 6 = .ok (.invokespecial 7, 3) := dk_183 0 7 (dk_at dksJ17_init_0 6 rfl rfl)
theorem dJ17_init_9 : decode cJ17_init 9 = .ok (.aload_n 0, 1) := dk_42 (dk_at dksJ17_init_0 9 rfl rfl)
theorem dJ17_init_10 : decode cJ17_init 10 = .ok (.iconst (-1), 1) := dk_2 (dk_at dksJ17_init_0 10 rfl rfl)
theorem dJ17_init_11 : decode cJ17_init 11 = .ok (.putfield 13, 3) := dk_181 0 13 (dk_at dksJ17_init_0 11 rfl rfl)
theorem dJ17_init_14 : decode cJ17_init 14 = .ok (.aload_n 0, 1) := dk_42 (dk_at dksJ17_init_0 14 rfl rfl)
theorem dJ17_init_15 : decode cJ17_init 15 = .ok (.aload_n 0, 1) := dk_42 (dk_at dksJ17_init_0 15 rfl rfl)
theorem dJ17_init_16 : decode cJ17_init 16 = .ok (.getfield 1, 3) := dk_180 0 1 (dk_at dksJ17_init_0 16 rfl rfl)
theorem dJ17_init_19 : decode cJ17_init 19 = .ok (.getfield 17, 3) := dk_180 0 17 (dk_at dksJ17_init_0 19 rfl rfl)
theorem dJ17_init_22 : decode cJ17_init 22 = .ok (.putfield 22, 3) := dk_181 0 22 (dk_at dksJ17_init_1 0 rfl rfl)
theorem dJ17_init_25 : decode cJ17_init 25 = .ok (.return_, 1) := dk_177 (dk_at dksJ17_init_1 3 rfl rfl)
abbrev cJ17_hasNext : ByteArray := prog_37_method_2_code
def yJ17_hasNext : MethodName := ⟨RJ17, "hasNext", "()Z"⟩
def dkwJ17_hasNext_0 : List UInt8 := [42, 180, 0, 25, 42, 180, 0, 1, 180, 0, 28, 159, 0, 7, 4, 167, 0, 4, 3, 172]
abbrev dktJ17_hasNext_0 : List UInt8 := dkwJ17_hasNext_0 ++ []
theorem dksJ17_hasNext_0 : cJ17_hasNext.data.toList.drop 0 = dktJ17_hasNext_0 := by decide +kernel
theorem dJ17_hasNext_0 : decode cJ17_hasNext 0 = .ok (.aload_n 0, 1) := dk_42 (dk_at dksJ17_hasNext_0 0 rfl rfl)
theorem dJ17_hasNext_1 : decode cJ17_hasNext 1 = .ok (.getfield 25, 3) := dk_180 0 25 (dk_at dksJ17_hasNext_0 1 rfl rfl)
theorem dJ17_hasNext_4 : decode cJ17_hasNext 4 = .ok (.aload_n 0, 1) := dk_42 (dk_at dksJ17_hasNext_0 4 rfl rfl)
theorem dJ17_hasNext_5 : decode cJ17_hasNext 5 = .ok (.getfield 1, 3) := dk_180 0 1 (dk_at dksJ17_hasNext_0 5 rfl rfl)
theorem dJ17_hasNext_8 : decode cJ17_hasNext 8 = .ok (.getfield 28, 3) := dk_180 0 28 (dk_at dksJ17_hasNext_0 8 rfl rfl)
theorem dJ17_hasNext_11 : decode cJ17_hasNext 11 = .ok (.if_icmp .eq 7, 3) := dk_159 0 7 (dk_at dksJ17_hasNext_0 11 rfl rfl)
theorem dJ17_hasNext_14 : decode cJ17_hasNext 14 = .ok (.iconst 1, 1) := dk_4 (dk_at dksJ17_hasNext_0 14 rfl rfl)
theorem dJ17_hasNext_15 : decode cJ17_hasNext 15 = .ok (.goto 4, 3) := dk_167 0 4 (dk_at dksJ17_hasNext_0 15 rfl rfl)
theorem dJ17_hasNext_18 : decode cJ17_hasNext 18 = .ok (.iconst 0, 1) := dk_3 (dk_at dksJ17_hasNext_0 18 rfl rfl)
theorem dJ17_hasNext_19 : decode cJ17_hasNext 19 = .ok (.ireturn, 1) := dk_172 (dk_at dksJ17_hasNext_0 19 rfl rfl)
abbrev cJ17_next : ByteArray := prog_37_method_3_code
def yJ17_next : MethodName := ⟨RJ17, "next", "()Ljava/lang/Object;"⟩
def dkwJ17_next_2 : List UInt8 := [183, 0, 43, 191, 42, 27, 4, 96, 181, 0, 25, 44, 42, 27, 90, 181, 0, 13, 50, 176]
abbrev dktJ17_next_2 : List UInt8 := dkwJ17_next_2 ++ []
def dkwJ17_next_1 : List UInt8 := [183, 0, 36, 191, 42, 180, 0, 1, 180, 0, 37, 77, 27, 44, 190, 161, 0, 11, 187, 0, 41, 89]
abbrev dktJ17_next_1 : List UInt8 := dkwJ17_next_1 ++ dktJ17_next_2
def dkwJ17_next_0 : List UInt8 := [42, 182, 0, 31, 42, 180, 0, 25, 60, 27, 42, 180, 0, 1, 180, 0, 28, 161, 0, 11, 187, 0, 34, 89]
abbrev dktJ17_next_0 : List UInt8 := dkwJ17_next_0 ++ dktJ17_next_1
theorem dksJ17_next_0 : cJ17_next.data.toList.drop 0 = dktJ17_next_0 := by decide +kernel
theorem dksJ17_next_1 : cJ17_next.data.toList.drop 24 = dktJ17_next_1 := dk_seg dksJ17_next_0 24 rfl rfl
theorem dksJ17_next_2 : cJ17_next.data.toList.drop 46 = dktJ17_next_2 := dk_seg dksJ17_next_1 22 rfl rfl
theorem dJ17_next_0 : decode cJ17_next 0 = .ok (.aload_n 0, 1) := dk_42 (dk_at dksJ17_next_0 0 rfl rfl)
theorem dJ17_next_1 : decode cJ17_next 1 = .ok (.invokevirtual 31, 3) := dk_182 0 31 (dk_at dksJ17_next_0 1 rfl rfl)
theorem dJ17_next_4 : decode cJ17_next 4 = .ok (.aload_n 0, 1) := dk_42 (dk_at dksJ17_next_0 4 rfl rfl)
theorem dJ17_next_5 : decode cJ17_next 5 = .ok (.getfield 25, 3) := dk_180 0 25 (dk_at dksJ17_next_0 5 rfl rfl)
theorem dJ17_next_8 : decode cJ17_next 8 = .ok (.istore_n 1, 1) := dk_60 (dk_at dksJ17_next_0 8 rfl rfl)
theorem dJ17_next_9 : decode cJ17_next 9 = .ok (.iload_n 1, 1) := dk_27 (dk_at dksJ17_next_0 9 rfl rfl)
theorem dJ17_next_10 : decode cJ17_next 10 = .ok (.aload_n 0, 1) := dk_42 (dk_at dksJ17_next_0 10 rfl rfl)
theorem dJ17_next_11 : decode cJ17_next 11 = .ok (.getfield 1, 3) := dk_180 0 1 (dk_at dksJ17_next_0 11 rfl rfl)
theorem dJ17_next_14 : decode cJ17_next 14 = .ok (.getfield 28, 3) := dk_180 0 28 (dk_at dksJ17_next_0 14 rfl rfl)
theorem dJ17_next_17 : decode cJ17_next 17 = .ok (.if_icmp .lt 11, 3) := dk_161 0 11 (dk_at dksJ17_next_0 17 rfl rfl)
theorem dJ17_next_20 : decode cJ17_next 20 = .ok (.new 34, 3) := dk_187 0 34 (dk_at dksJ17_next_0 20 rfl rfl)
theorem dJ17_next_23 : decode cJ17_next 23 = .ok (.dup, 1) := dk_89 (dk_at dksJ17_next_0 23 rfl rfl)
theorem dJ17_next_24 : decode cJ17_next 24 = .ok (.invokespecial 36, 3) := dk_183 0 36 (dk_at dksJ17_next_1 0 rfl rfl)
theorem dJ17_next_27 : decode cJ17_next 27 = .ok (.athrow, 1) := dk_191 (dk_at dksJ17_next_1 3 rfl rfl)
theorem dJ17_next_28 : decode cJ17_next 28 = .ok (.aload_n 0, 1) := dk_42 (dk_at dksJ17_next_1 4 rfl rfl)
theorem dJ17_next_29 : decode cJ17_next 29 = .ok (.getfield 1, 3) := dk_180 0 1 (dk_at dksJ17_next_1 5 rfl rfl)
theorem dJ17_next_32 : decode cJ17_next 32 = .ok (.getfield 37, 3) := dk_180 0 37 (dk_at dksJ17_next_1 8 rfl rfl)
theorem dJ17_next_35 : decode cJ17_next 35 = .ok (.astore_n 2, 1) := dk_77 (dk_at dksJ17_next_1 11 rfl rfl)
theorem dJ17_next_36 : decode cJ17_next 36 = .ok (.iload_n 1, 1) := dk_27 (dk_at dksJ17_next_1 12 rfl rfl)
theorem dJ17_next_37 : decode cJ17_next 37 = .ok (.aload_n 2, 1) := dk_44 (dk_at dksJ17_next_1 13 rfl rfl)
theorem dJ17_next_38 : decode cJ17_next 38 = .ok (.arraylength, 1) := dk_190 (dk_at dksJ17_next_1 14 rfl rfl)
theorem dJ17_next_39 : decode cJ17_next 39 = .ok (.if_icmp .lt 11, 3) := dk_161 0 11 (dk_at dksJ17_next_1 15 rfl rfl)
theorem dJ17_next_42 : decode cJ17_next 42 = .ok (.new 41, 3) := dk_187 0 41 (dk_at dksJ17_next_1 18 rfl rfl)
theorem dJ17_next_45 : decode cJ17_next 45 = .ok (.dup, 1) := dk_89 (dk_at dksJ17_next_1 21 rfl rfl)
theorem dJ17_next_46 : decode cJ17_next 46 = .ok (.invokespecial 43, 3) := dk_183 0 43 (dk_at dksJ17_next_2 0 rfl rfl)
theorem dJ17_next_49 : decode cJ17_next 49 = .ok (.athrow, 1) := dk_191 (dk_at dksJ17_next_2 3 rfl rfl)
theorem dJ17_next_50 : decode cJ17_next 50 = .ok (.aload_n 0, 1) := dk_42 (dk_at dksJ17_next_2 4 rfl rfl)
theorem dJ17_next_51 : decode cJ17_next 51 = .ok (.iload_n 1, 1) := dk_27 (dk_at dksJ17_next_2 5 rfl rfl)
theorem dJ17_next_52 : decode cJ17_next 52 = .ok (.iconst 1, 1) := dk_4 (dk_at dksJ17_next_2 6 rfl rfl)
theorem dJ17_next_53 : decode cJ17_next 53 = .ok (.iadd, 1) := dk_96 (dk_at dksJ17_next_2 7 rfl rfl)
theorem dJ17_next_54 : decode cJ17_next 54 = .ok (.putfield 25, 3) := dk_181 0 25 (dk_at dksJ17_next_2 8 rfl rfl)
theorem dJ17_next_57 : decode cJ17_next 57 = .ok (.aload_n 2, 1) := dk_44 (dk_at dksJ17_next_2 11 rfl rfl)
theorem dJ17_next_58 : decode cJ17_next 58 = .ok (.aload_n 0, 1) := dk_42 (dk_at dksJ17_next_2 12 rfl rfl)
theorem dJ17_next_59 : decode cJ17_next 59 = .ok (.iload_n 1, 1) := dk_27 (dk_at dksJ17_next_2 13 rfl rfl)
theorem dJ17_next_60 : decode cJ17_next 60 = .ok (.dup_x1, 1) := dk_90 (dk_at dksJ17_next_2 14 rfl rfl)
theorem dJ17_next_61 : decode cJ17_next 61 = .ok (.putfield 13, 3) := dk_181 0 13 (dk_at dksJ17_next_2 15 rfl rfl)
theorem dJ17_next_64 : decode cJ17_next 64 = .ok (.aaload, 1) := dk_50 (dk_at dksJ17_next_2 18 rfl rfl)
theorem dJ17_next_65 : decode cJ17_next 65 = .ok (.areturn, 1) := dk_176 (dk_at dksJ17_next_2 19 rfl rfl)
abbrev cJ17_checkForComodification : ByteArray := prog_37_method_6_code
def yJ17_checkForComodification : MethodName := ⟨RJ17, "checkForComodification", "()V"⟩
def dkwJ17_checkForComodification_0 : List UInt8 := [42, 180, 0, 1, 180, 0, 17, 42, 180, 0, 22, 159, 0, 11, 187, 0, 41, 89, 183, 0, 43, 191, 177]
abbrev dktJ17_checkForComodification_0 : List UInt8 := dkwJ17_checkForComodification_0 ++ []
theorem dksJ17_checkForComodification_0 : cJ17_checkForComodification.data.toList.drop 0 = dktJ17_checkForComodification_0 := by decide +kernel
theorem dJ17_checkForComodification_0 : decode cJ17_checkForComodification 0 = .ok (.aload_n 0, 1) := dk_42 (dk_at dksJ17_checkForComodification_0 0 rfl rfl)
theorem dJ17_checkForComodification_1 : decode cJ17_checkForComodification 1 = .ok (.getfield 1, 3) := dk_180 0 1 (dk_at dksJ17_checkForComodification_0 1 rfl rfl)
theorem dJ17_checkForComodification_4 : decode cJ17_checkForComodification 4 = .ok (.getfield 17, 3) := dk_180 0 17 (dk_at dksJ17_checkForComodification_0 4 rfl rfl)
theorem dJ17_checkForComodification_7 : decode cJ17_checkForComodification 7 = .ok (.aload_n 0, 1) := dk_42 (dk_at dksJ17_checkForComodification_0 7 rfl rfl)
theorem dJ17_checkForComodification_8 : decode cJ17_checkForComodification 8 = .ok (.getfield 22, 3) := dk_180 0 22 (dk_at dksJ17_checkForComodification_0 8 rfl rfl)
theorem dJ17_checkForComodification_11 : decode cJ17_checkForComodification 11 = .ok (.if_icmp .eq 11, 3) := dk_159 0 11 (dk_at dksJ17_checkForComodification_0 11 rfl rfl)
theorem dJ17_checkForComodification_14 : decode cJ17_checkForComodification 14 = .ok (.new 41, 3) := dk_187 0 41 (dk_at dksJ17_checkForComodification_0 14 rfl rfl)
theorem dJ17_checkForComodification_17 : decode cJ17_checkForComodification 17 = .ok (.dup, 1) := dk_89 (dk_at dksJ17_checkForComodification_0 17 rfl rfl)
theorem dJ17_checkForComodification_18 : decode cJ17_checkForComodification 18 = .ok (.invokespecial 43, 3) := dk_183 0 43 (dk_at dksJ17_checkForComodification_0 18 rfl rfl)
theorem dJ17_checkForComodification_21 : decode cJ17_checkForComodification 21 = .ok (.athrow, 1) := dk_191 (dk_at dksJ17_checkForComodification_0 21 rfl rfl)
theorem dJ17_checkForComodification_22 : decode cJ17_checkForComodification 22 = .ok (.return_, 1) := dk_177 (dk_at dksJ17_checkForComodification_0 22 rfl rfl)
abbrev cJ17_remove : ByteArray := prog_37_method_4_code
def yJ17_remove : MethodName := ⟨RJ17, "remove", "()V"⟩
def dkwJ17_remove_2 : List UInt8 := [180, 0, 1, 180, 0, 17, 181, 0, 22, 167, 0, 12, 76, 187, 0, 41, 89, 183, 0, 43, 191, 177]
abbrev dktJ17_remove_2 : List UInt8 := dkwJ17_remove_2 ++ []
def dkwJ17_remove_1 : List UInt8 := [180, 0, 13, 182, 0, 47, 87, 42, 42, 180, 0, 13, 181, 0, 25, 42, 2, 181, 0, 13, 42, 42]
abbrev dktJ17_remove_1 : List UInt8 := dkwJ17_remove_1 ++ dktJ17_remove_2
def dkwJ17_remove_0 : List UInt8 := [42, 180, 0, 13, 156, 0, 11, 187, 0, 44, 89, 183, 0, 46, 191, 42, 182, 0, 31, 42, 180, 0, 1, 42]
abbrev dktJ17_remove_0 : List UInt8 := dkwJ17_remove_0 ++ dktJ17_remove_1
theorem dksJ17_remove_0 : cJ17_remove.data.toList.drop 0 = dktJ17_remove_0 := by decide +kernel
theorem dksJ17_remove_1 : cJ17_remove.data.toList.drop 24 = dktJ17_remove_1 := dk_seg dksJ17_remove_0 24 rfl rfl
theorem dksJ17_remove_2 : cJ17_remove.data.toList.drop 46 = dktJ17_remove_2 := dk_seg dksJ17_remove_1 22 rfl rfl
theorem dJ17_remove_0 : decode cJ17_remove 0 = .ok (.aload_n 0, 1) := dk_42 (dk_at dksJ17_remove_0 0 rfl rfl)
theorem dJ17_remove_1 : decode cJ17_remove 1 = .ok (.getfield 13, 3) := dk_180 0 13 (dk_at dksJ17_remove_0 1 rfl rfl)
theorem dJ17_remove_4 : decode cJ17_remove 4 = .ok (.ifCond .ge 11, 3) := dk_156 0 11 (dk_at dksJ17_remove_0 4 rfl rfl)
theorem dJ17_remove_7 : decode cJ17_remove 7 = .ok (.new 44, 3) := dk_187 0 44 (dk_at dksJ17_remove_0 7 rfl rfl)
theorem dJ17_remove_10 : decode cJ17_remove 10 = .ok (.dup, 1) := dk_89 (dk_at dksJ17_remove_0 10 rfl rfl)
theorem dJ17_remove_11 : decode cJ17_remove 11 = .ok (.invokespecial 46, 3) := dk_183 0 46 (dk_at dksJ17_remove_0 11 rfl rfl)
theorem dJ17_remove_14 : decode cJ17_remove 14 = .ok (.athrow, 1) := dk_191 (dk_at dksJ17_remove_0 14 rfl rfl)
theorem dJ17_remove_15 : decode cJ17_remove 15 = .ok (.aload_n 0, 1) := dk_42 (dk_at dksJ17_remove_0 15 rfl rfl)
theorem dJ17_remove_16 : decode cJ17_remove 16 = .ok (.invokevirtual 31, 3) := dk_182 0 31 (dk_at dksJ17_remove_0 16 rfl rfl)
theorem dJ17_remove_19 : decode cJ17_remove 19 = .ok (.aload_n 0, 1) := dk_42 (dk_at dksJ17_remove_0 19 rfl rfl)
theorem dJ17_remove_20 : decode cJ17_remove 20 = .ok (.getfield 1, 3) := dk_180 0 1 (dk_at dksJ17_remove_0 20 rfl rfl)
theorem dJ17_remove_23 : decode cJ17_remove 23 = .ok (.aload_n 0, 1) := dk_42 (dk_at dksJ17_remove_0 23 rfl rfl)
theorem dJ17_remove_24 : decode cJ17_remove 24 = .ok (.getfield 13, 3) := dk_180 0 13 (dk_at dksJ17_remove_1 0 rfl rfl)
theorem dJ17_remove_27 : decode cJ17_remove 27 = .ok (.invokevirtual 47, 3) := dk_182 0 47 (dk_at dksJ17_remove_1 3 rfl rfl)
theorem dJ17_remove_30 : decode cJ17_remove 30 = .ok (.pop, 1) := dk_87 (dk_at dksJ17_remove_1 6 rfl rfl)
theorem dJ17_remove_31 : decode cJ17_remove 31 = .ok (.aload_n 0, 1) := dk_42 (dk_at dksJ17_remove_1 7 rfl rfl)
theorem dJ17_remove_32 : decode cJ17_remove 32 = .ok (.aload_n 0, 1) := dk_42 (dk_at dksJ17_remove_1 8 rfl rfl)
theorem dJ17_remove_33 : decode cJ17_remove 33 = .ok (.getfield 13, 3) := dk_180 0 13 (dk_at dksJ17_remove_1 9 rfl rfl)
theorem dJ17_remove_36 : decode cJ17_remove 36 = .ok (.putfield 25, 3) := dk_181 0 25 (dk_at dksJ17_remove_1 12 rfl rfl)
theorem dJ17_remove_39 : decode cJ17_remove 39 = .ok (.aload_n 0, 1) := dk_42 (dk_at dksJ17_remove_1 15 rfl rfl)
theorem dJ17_remove_40 : decode cJ17_remove 40 = .ok (.iconst (-1), 1) := dk_2 (dk_at dksJ17_remove_1 16 rfl rfl)
theorem dJ17_remove_41 : decode cJ17_remove 41 = .ok (.putfield 13, 3) := dk_181 0 13 (dk_at dksJ17_remove_1 17 rfl rfl)
theorem dJ17_remove_44 : decode cJ17_remove 44 = .ok (.aload_n 0, 1) := dk_42 (dk_at dksJ17_remove_1 20 rfl rfl)
theorem dJ17_remove_45 : decode cJ17_remove 45 = .ok (.aload_n 0, 1) := dk_42 (dk_at dksJ17_remove_1 21 rfl rfl)
theorem dJ17_remove_46 : decode cJ17_remove 46 = .ok (.getfield 1, 3) := dk_180 0 1 (dk_at dksJ17_remove_2 0 rfl rfl)
theorem dJ17_remove_49 : decode cJ17_remove 49 = .ok (.getfield 17, 3) := dk_180 0 17 (dk_at dksJ17_remove_2 3 rfl rfl)
theorem dJ17_remove_52 : decode cJ17_remove 52 = .ok (.putfield 22, 3) := dk_181 0 22 (dk_at dksJ17_remove_2 6 rfl rfl)
theorem dJ17_remove_55 : decode cJ17_remove 55 = .ok (.goto 12, 3) := dk_167 0 12 (dk_at dksJ17_remove_2 9 rfl rfl)
theorem dJ17_remove_58 : decode cJ17_remove 58 = .ok (.astore_n 1, 1) := dk_76 (dk_at dksJ17_remove_2 12 rfl rfl)
theorem dJ17_remove_59 : decode cJ17_remove 59 = .ok (.new 41, 3) := dk_187 0 41 (dk_at dksJ17_remove_2 13 rfl rfl)
theorem dJ17_remove_62 : decode cJ17_remove 62 = .ok (.dup, 1) := dk_89 (dk_at dksJ17_remove_2 16 rfl rfl)
theorem dJ17_remove_63 : decode cJ17_remove 63 = .ok (.invokespecial 43, 3) := dk_183 0 43 (dk_at dksJ17_remove_2 17 rfl rfl)
theorem dJ17_remove_66 : decode cJ17_remove 66 = .ok (.athrow, 1) := dk_191 (dk_at dksJ17_remove_2 20 rfl rfl)
theorem dJ17_remove_67 : decode cJ17_remove 67 = .ok (.return_, 1) := dk_177 (dk_at dksJ17_remove_2 21 rfl rfl)
theorem q92 : (Jvm.Cond.initialized "java/util/ArrayList$Itr") ∈ lw_all := lw_g (lw_at lw_m1 23 rfl) rfl
theorem q128 : (Jvm.Cond.fieldLink "java/util/ArrayList$Itr" (37 : Nat) "java/util/ArrayList" "elementData" "[Ljava/lang/Object;") ∈ lw_all := lw_g (lw_at lw_m1 59 rfl) rfl
theorem q129 : (Jvm.Cond.fieldLinkNest "java/util/ArrayList$Itr" (28 : Nat) "java/util/ArrayList" "size" "I" "java/util/ArrayList") ∈ lw_tbl := lw_at lw_m1 60 rfl
theorem q132 : (Jvm.Cond.fieldLink "java/util/ArrayList$Itr" (17 : Nat) "java/util/ArrayList" "modCount" "I") ∈ lw_all := lw_g (lw_at lw_m1 63 rfl) rfl
theorem q255 : (Jvm.Cond.selects "java/util/ArrayList$Itr" ({ cls := "java/lang/Object", name := "getClass", desc := "()Ljava/lang/Class;" } : Jvm.MethodName) ({ cls := "java/lang/Object", name := "getClass", desc := "()Ljava/lang/Class;" } : Jvm.MethodName)) ∈ lw_all := lw_g (lw_at lw_m1 186 rfl) rfl
theorem q296 : (Jvm.Cond.instantiable "java/util/ArrayList$Itr" (4 : Nat)) ∈ lw_all := lw_g (lw_at lw_m1 227 rfl) rfl
theorem q298 : (Jvm.Cond.instanceMethod ({ cls := "java/util/ArrayList$Itr", name := "<init>", desc := "(Ljava/util/ArrayList;)V" } : Jvm.MethodName)) ∈ lw_all := lw_g (lw_at lw_m1 229 rfl) rfl
theorem q299 : (Jvm.Cond.code ({ cls := "java/util/ArrayList$Itr", name := "<init>", desc := "(Ljava/util/ArrayList;)V" } : Jvm.MethodName) prog_37_method_1_code (2 : Nat) (Option.none : Option Jvm.ClassFile.FieldType)) ∈ lw_all := lw_g (lw_at lw_m1 230 rfl) rfl
theorem q300 : (Jvm.Cond.methodLink "java/util/ArrayList$Itr" (7 : Nat) ({ cls := "java/lang/Object", name := "<init>", desc := "()V" } : Jvm.MethodName)) ∈ lw_all := lw_g (lw_at lw_m1 231 rfl) rfl
theorem q303 : (Jvm.Cond.fieldLink "java/util/ArrayList$Itr" (25 : Nat) "java/util/ArrayList$Itr" "cursor" "I") ∈ lw_all := lw_g (lw_at lw_m1 234 rfl) rfl
theorem q304 : (Jvm.Cond.fieldLink "java/util/ArrayList$Itr" (13 : Nat) "java/util/ArrayList$Itr" "lastRet" "I") ∈ lw_all := lw_g (lw_at lw_m1 235 rfl) rfl
theorem q307 : (Jvm.Cond.fieldLink "java/util/ArrayList$Itr" (22 : Nat) "java/util/ArrayList$Itr" "expectedModCount" "I") ∈ lw_all := lw_g (lw_at lw_m1 238 rfl) rfl
theorem q310 : (Jvm.Cond.fieldLink "java/util/ArrayList$Itr" (1 : Nat) "java/util/ArrayList$Itr" "this$0" "Ljava/util/ArrayList;") ∈ lw_all := lw_g (lw_at lw_m2 1 rfl) rfl
theorem q311 : (Jvm.Cond.lays "java/util/ArrayList$Itr" "java/util/ArrayList$Itr" "cursor" "I") ∈ lw_all := lw_g (lw_at lw_m2 2 rfl) rfl
theorem q312 : (Jvm.Cond.soleField "java/util/ArrayList$Itr" "cursor") ∈ lw_all := lw_g (lw_at lw_m2 3 rfl) rfl
theorem q313 : (Jvm.Cond.lays "java/util/ArrayList$Itr" "java/util/ArrayList$Itr" "lastRet" "I") ∈ lw_all := lw_g (lw_at lw_m2 4 rfl) rfl
theorem q314 : (Jvm.Cond.soleField "java/util/ArrayList$Itr" "lastRet") ∈ lw_all := lw_g (lw_at lw_m2 5 rfl) rfl
theorem q315 : (Jvm.Cond.lays "java/util/ArrayList$Itr" "java/util/ArrayList$Itr" "expectedModCount" "I") ∈ lw_all := lw_g (lw_at lw_m2 6 rfl) rfl
theorem q316 : (Jvm.Cond.soleField "java/util/ArrayList$Itr" "expectedModCount") ∈ lw_all := lw_g (lw_at lw_m2 7 rfl) rfl
theorem q317 : (Jvm.Cond.laysFinal "java/util/ArrayList$Itr" "java/util/ArrayList$Itr" "this$0" "Ljava/util/ArrayList;") ∈ lw_all := lw_g (lw_at lw_m2 8 rfl) rfl
theorem q318 : (Jvm.Cond.soleField "java/util/ArrayList$Itr" "this$0") ∈ lw_all := lw_g (lw_at lw_m2 9 rfl) rfl
theorem q319 : (Jvm.Cond.superclass "java/util/ArrayList$Itr" "java/lang/Object") ∈ lw_all := lw_g (lw_at lw_m2 10 rfl) rfl
theorem q324 : (Jvm.Cond.castable "java/util/ArrayList$Itr" "java/util/Iterator") ∈ lw_tbl := lw_at lw_m2 15 rfl
theorem q325 : (Jvm.Cond.selects "java/util/ArrayList$Itr" ({ cls := "java/util/Iterator", name := "hasNext", desc := "()Z" } : Jvm.MethodName) ({ cls := "java/util/ArrayList$Itr", name := "hasNext", desc := "()Z" } : Jvm.MethodName)) ∈ lw_all := lw_g (lw_at lw_m2 16 rfl) rfl
theorem q326 : (Jvm.Cond.unhidden "java/util/ArrayList$Itr" "hasNext" "()Z") ∈ lw_tbl := lw_at lw_m2 17 rfl
theorem q327 : (Jvm.Cond.instanceMethod ({ cls := "java/util/ArrayList$Itr", name := "hasNext", desc := "()Z" } : Jvm.MethodName)) ∈ lw_all := lw_g (lw_at lw_m2 18 rfl) rfl
theorem q328 : (Jvm.Cond.publicMethod ({ cls := "java/util/ArrayList$Itr", name := "hasNext", desc := "()Z" } : Jvm.MethodName)) ∈ lw_tbl := lw_at lw_m2 19 rfl
theorem q329 : (Jvm.Cond.code ({ cls := "java/util/ArrayList$Itr", name := "hasNext", desc := "()Z" } : Jvm.MethodName) prog_37_method_2_code (1 : Nat) (Option.some Jvm.ClassFile.FieldType.boolean)) ∈ lw_all := lw_g (lw_at lw_m2 20 rfl) rfl
theorem q337 : (Jvm.Cond.selects "java/util/ArrayList$Itr" ({ cls := "java/util/Iterator", name := "next", desc := "()Ljava/lang/Object;" } : Jvm.MethodName) ({ cls := "java/util/ArrayList$Itr", name := "next", desc := "()Ljava/lang/Object;" } : Jvm.MethodName)) ∈ lw_all := lw_g (lw_at lw_m2 28 rfl) rfl
theorem q338 : (Jvm.Cond.unhidden "java/util/ArrayList$Itr" "next" "()Ljava/lang/Object;") ∈ lw_tbl := lw_at lw_m2 29 rfl
theorem q339 : (Jvm.Cond.instanceMethod ({ cls := "java/util/ArrayList$Itr", name := "next", desc := "()Ljava/lang/Object;" } : Jvm.MethodName)) ∈ lw_all := lw_g (lw_at lw_m2 30 rfl) rfl
theorem q340 : (Jvm.Cond.publicMethod ({ cls := "java/util/ArrayList$Itr", name := "next", desc := "()Ljava/lang/Object;" } : Jvm.MethodName)) ∈ lw_tbl := lw_at lw_m2 31 rfl
theorem q341 : (Jvm.Cond.code ({ cls := "java/util/ArrayList$Itr", name := "next", desc := "()Ljava/lang/Object;" } : Jvm.MethodName) prog_37_method_3_code (3 : Nat) (Option.some (Jvm.ClassFile.FieldType.object "java/lang/Object"))) ∈ lw_all := lw_g (lw_at lw_m2 32 rfl) rfl
theorem q342 : (Jvm.Cond.methodLink "java/util/ArrayList$Itr" (31 : Nat) ({ cls := "java/util/ArrayList$Itr", name := "checkForComodification", desc := "()V" } : Jvm.MethodName)) ∈ lw_all := lw_g (lw_at lw_m2 33 rfl) rfl
theorem q343 : (Jvm.Cond.instanceMethod ({ cls := "java/util/ArrayList$Itr", name := "checkForComodification", desc := "()V" } : Jvm.MethodName)) ∈ lw_all := lw_g (lw_at lw_m2 34 rfl) rfl
theorem q344 : (Jvm.Cond.selects "java/util/ArrayList$Itr" ({ cls := "java/util/ArrayList$Itr", name := "checkForComodification", desc := "()V" } : Jvm.MethodName) ({ cls := "java/util/ArrayList$Itr", name := "checkForComodification", desc := "()V" } : Jvm.MethodName)) ∈ lw_all := lw_g (lw_at lw_m2 35 rfl) rfl
theorem q345 : (Jvm.Cond.sameMethod "java/util/ArrayList$Itr" "java/util/ArrayList$Itr" "checkForComodification" "()V") ∈ lw_all := lw_g (lw_at lw_m2 36 rfl) rfl
theorem q347 : (Jvm.Cond.code ({ cls := "java/util/ArrayList$Itr", name := "checkForComodification", desc := "()V" } : Jvm.MethodName) prog_37_method_6_code (1 : Nat) (Option.none : Option Jvm.ClassFile.FieldType)) ∈ lw_all := lw_g (lw_at lw_m2 38 rfl) rfl
theorem q348 : (Jvm.Cond.classLink "java/util/ArrayList$Itr" (34 : Nat) "java/util/NoSuchElementException") ∈ lw_all := lw_g (lw_at lw_m2 39 rfl) rfl
theorem q393 : (Jvm.Cond.methodLink "java/util/ArrayList$Itr" (36 : Nat) ({ cls := "java/util/NoSuchElementException", name := "<init>", desc := "()V" } : Jvm.MethodName)) ∈ lw_all := lw_g (lw_at lw_m2 84 rfl) rfl
theorem q423 : (Jvm.Cond.selects "java/util/ArrayList$Itr" ({ cls := "java/util/Iterator", name := "remove", desc := "()V" } : Jvm.MethodName) ({ cls := "java/util/ArrayList$Itr", name := "remove", desc := "()V" } : Jvm.MethodName)) ∈ lw_all := lw_g (lw_at lw_m2 114 rfl) rfl
theorem q424 : (Jvm.Cond.unhidden "java/util/ArrayList$Itr" "remove" "()V") ∈ lw_tbl := lw_at lw_m2 115 rfl
theorem q425 : (Jvm.Cond.instanceMethod ({ cls := "java/util/ArrayList$Itr", name := "remove", desc := "()V" } : Jvm.MethodName)) ∈ lw_all := lw_g (lw_at lw_m2 116 rfl) rfl
theorem q426 : (Jvm.Cond.publicMethod ({ cls := "java/util/ArrayList$Itr", name := "remove", desc := "()V" } : Jvm.MethodName)) ∈ lw_tbl := lw_at lw_m2 117 rfl
theorem q427 : (Jvm.Cond.codeWith ({ cls := "java/util/ArrayList$Itr", name := "remove", desc := "()V" } : Jvm.MethodName) prog_37_method_4_code (2 : Nat) (Option.none : Option Jvm.ClassFile.FieldType) [((19 : Nat), (55 : Nat), (58 : Nat), (51 : Nat))]) ∈ lw_all := lw_g (lw_at lw_m2 118 rfl) rfl
theorem q428 : (Jvm.Cond.classLink "java/util/ArrayList$Itr" (44 : Nat) "java/lang/IllegalStateException") ∈ lw_all := lw_g (lw_at lw_m2 119 rfl) rfl
theorem q437 : (Jvm.Cond.methodLink "java/util/ArrayList$Itr" (46 : Nat) ({ cls := "java/lang/IllegalStateException", name := "<init>", desc := "()V" } : Jvm.MethodName)) ∈ lw_all := lw_g (lw_at lw_m2 128 rfl) rfl
theorem q443 : (Jvm.Cond.methodLink "java/util/ArrayList$Itr" (47 : Nat) ({ cls := "java/util/ArrayList", name := "remove", desc := "(I)Ljava/lang/Object;" } : Jvm.MethodName)) ∈ lw_all := lw_g (lw_at lw_m2 134 rfl) rfl
theorem q444 : (Jvm.Cond.classLink "java/util/ArrayList$Itr" (41 : Nat) "java/util/ConcurrentModificationException") ∈ lw_all := lw_g (lw_at lw_m2 135 rfl) rfl
theorem q453 : (Jvm.Cond.methodLink "java/util/ArrayList$Itr" (43 : Nat) ({ cls := "java/util/ConcurrentModificationException", name := "<init>", desc := "()V" } : Jvm.MethodName)) ∈ lw_all := lw_g (lw_at lw_m2 144 rfl) rfl
theorem q1689 : (Jvm.Cond.declares ({ cls := "java/util/ArrayList$Itr", name := "checkForComodification", desc := "()V" } : Jvm.MethodName)) ∈ lw_tbl := lw_at lw_m7 180 rfl
theorem q2179 : (Jvm.Cond.castable "java/util/ArrayList$Itr" "java/lang/Object") ∈ lw_tbl := lw_at lw_m9 190 rfl
theorem in_J17 : ∀ w ∈ wsJ170, w ∈ lw_all := lw_in wsJ170 [311, 313, 315, 317] (by decide +kernel) (by decide +kernel)
/-! java/util/ArrayList$ListItr -/
set_option maxRecDepth 100000
def RJ27 : String := "java/util/ArrayList$ListItr"
def TJ27 : u_T := fun k => match k with
  | 0 => ("java/util/ArrayList$Itr", "cursor", "I", false)
  | 1 => ("java/util/ArrayList$Itr", "lastRet", "I", false)
  | 2 => ("java/util/ArrayList$Itr", "expectedModCount", "I", false)
  | 3 => ("java/util/ArrayList$Itr", "this$0", "Ljava/util/ArrayList;", true)
  | _ => ("java/util/ArrayList$ListItr", "this$0", "Ljava/util/ArrayList;", true)
def tyJ27 : Nat → FieldType := fun k => match k with
  | 0 => .int
  | 1 => .int
  | 2 => .int
  | 3 => .object "java/util/ArrayList"
  | _ => .object "java/util/ArrayList"
abbrev wsJ270 : List Cond := u_ws RJ27 TJ27 5
-- two fields of one name: no nmJ27
theorem tyJ27_ok : ∀ k, k < 5 → parseFieldDescriptor (TJ27 k).2.2.1 = some (tyJ27 k) := by decide +kernel
abbrev cJ27_init : ByteArray := prog_38_method_1_code
def yJ27_init : MethodName := ⟨RJ27, "<init>", "(Ljava/util/ArrayList;I)V"⟩
def dkwJ27_init_0 : List UInt8 := [42, 43, 181, 0, 1, 42, 43, 183, 0, 7, 42, 28, 181, 0, 13, 177]
abbrev dktJ27_init_0 : List UInt8 := dkwJ27_init_0 ++ []
theorem dksJ27_init_0 : cJ27_init.data.toList.drop 0 = dktJ27_init_0 := by decide +kernel
theorem dJ27_init_0 : decode cJ27_init 0 = .ok (.aload_n 0, 1) := dk_42 (dk_at dksJ27_init_0 0 rfl rfl)
theorem dJ27_init_1 : decode cJ27_init 1 = .ok (.aload_n 1, 1) := dk_43 (dk_at dksJ27_init_0 1 rfl rfl)
theorem dJ27_init_2 : decode cJ27_init 2 = .ok (.putfield 1, 3) := dk_181 0 1 (dk_at dksJ27_init_0 2 rfl rfl)
theorem dJ27_init_5 : decode cJ27_init 5 = .ok (.aload_n 0, 1) := dk_42 (dk_at dksJ27_init_0 5 rfl rfl)
theorem dJ27_init_6 : decode cJ27_init 6 = .ok (.aload_n 1, 1) := dk_43 (dk_at dksJ27_init_0 6 rfl rfl)
theorem dJ27_init_7 : decode cJ27_init 7 = .ok (.invokespecial 7, 3) := dk_183 0 7 (dk_at dksJ27_init_0 7 rfl rfl)
theorem dJ27_init_10 : decode cJ27_init 10 = .ok (.aload_n 0, 1) := dk_42 (dk_at dksJ27_init_0 10 rfl rfl)
theorem dJ27_init_11 : decode cJ27_init 11 = .ok (.iload_n 2, 1) := dk_28 (dk_at dksJ27_init_0 11 rfl rfl)
theorem dJ27_init_12 : decode cJ27_init 12 = .ok (.putfield 13, 3) := dk_181 0 13 (dk_at dksJ27_init_0 12 rfl rfl)
theorem dJ27_init_15 : decode cJ27_init 15 = .ok (.return_, 1) := dk_177 (dk_at dksJ27_init_0 15 rfl rfl)
abbrev cJ27_set : ByteArray := prog_38_method_6_code
def yJ27_set : MethodName := ⟨RJ27, "set", "(Ljava/lang/Object;)V"⟩
def dkwJ27_set_1 : List UInt8 := [180, 0, 34, 43, 182, 0, 40, 87, 167, 0, 12, 77, 187, 0, 31, 89, 183, 0, 33, 191, 177]
abbrev dktJ27_set_1 : List UInt8 := dkwJ27_set_1 ++ []
def dkwJ27_set_0 : List UInt8 := [42, 180, 0, 34, 156, 0, 11, 187, 0, 37, 89, 183, 0, 39, 191, 42, 182, 0, 17, 42, 180, 0, 1, 42]
abbrev dktJ27_set_0 : List UInt8 := dkwJ27_set_0 ++ dktJ27_set_1
theorem dksJ27_set_0 : cJ27_set.data.toList.drop 0 = dktJ27_set_0 := by decide +kernel
theorem dksJ27_set_1 : cJ27_set.data.toList.drop 24 = dktJ27_set_1 := dk_seg dksJ27_set_0 24 rfl rfl
theorem dJ27_set_0 : decode cJ27_set 0 = .ok (.aload_n 0, 1) := dk_42 (dk_at dksJ27_set_0 0 rfl rfl)
theorem dJ27_set_1 : decode cJ27_set 1 = .ok (.getfield 34, 3) := dk_180 0 34 (dk_at dksJ27_set_0 1 rfl rfl)
theorem dJ27_set_4 : decode cJ27_set 4 = .ok (.ifCond .ge 11, 3) := dk_156 0 11 (dk_at dksJ27_set_0 4 rfl rfl)
theorem dJ27_set_7 : decode cJ27_set 7 = .ok (.new 37, 3) := dk_187 0 37 (dk_at dksJ27_set_0 7 rfl rfl)
theorem dJ27_set_10 : decode cJ27_set 10 = .ok (.dup, 1) := dk_89 (dk_at dksJ27_set_0 10 rfl rfl)
theorem dJ27_set_11 : decode cJ27_set 11 = .ok (.invokespecial 39, 3) := dk_183 0 39 (dk_at dksJ27_set_0 11 rfl rfl)
theorem dJ27_set_14 : decode cJ27_set 14 = .ok (.athrow, 1) := dk_191 (dk_at dksJ27_set_0 14 rfl rfl)
theorem dJ27_set_15 : decode cJ27_set 15 = .ok (.aload_n 0, 1) := dk_42 (dk_at dksJ27_set_0 15 rfl rfl)
theorem dJ27_set_16 : decode cJ27_set 16 = .ok (.invokevirtual 17, 3) := dk_182 0 17 (dk_at dksJ27_set_0 16 rfl rfl)
theorem dJ27_set_19 : decode cJ27_set 19 = .ok (.aload_n 0, 1) := dk_42 (dk_at dksJ27_set_0 19 rfl rfl)
theorem dJ27_set_20 : decode cJ27_set 20 = .ok (.getfield 1, 3) := dk_180 0 1 (dk_at dksJ27_set_0 20 rfl rfl)
theorem dJ27_set_23 : decode cJ27_set 23 = .ok (.aload_n 0, 1) := dk_42 (dk_at dksJ27_set_0 23 rfl rfl)
theorem dJ27_set_24 : decode cJ27_set 24 = .ok (.getfield 34, 3) := dk_180 0 34 (dk_at dksJ27_set_1 0 rfl rfl)
theorem dJ27_set_27 : decode cJ27_set 27 = .ok (.aload_n 1, 1) := dk_43 (dk_at dksJ27_set_1 3 rfl rfl)
theorem dJ27_set_28 : decode cJ27_set 28 = .ok (.invokevirtual 40, 3) := dk_182 0 40 (dk_at dksJ27_set_1 4 rfl rfl)
theorem dJ27_set_31 : decode cJ27_set 31 = .ok (.pop, 1) := dk_87 (dk_at dksJ27_set_1 7 rfl rfl)
theorem dJ27_set_32 : decode cJ27_set 32 = .ok (.goto 12, 3) := dk_167 0 12 (dk_at dksJ27_set_1 8 rfl rfl)
theorem dJ27_set_35 : decode cJ27_set 35 = .ok (.astore_n 2, 1) := dk_77 (dk_at dksJ27_set_1 11 rfl rfl)
theorem dJ27_set_36 : decode cJ27_set 36 = .ok (.new 31, 3) := dk_187 0 31 (dk_at dksJ27_set_1 12 rfl rfl)
theorem dJ27_set_39 : decode cJ27_set 39 = .ok (.dup, 1) := dk_89 (dk_at dksJ27_set_1 15 rfl rfl)
theorem dJ27_set_40 : decode cJ27_set 40 = .ok (.invokespecial 33, 3) := dk_183 0 33 (dk_at dksJ27_set_1 16 rfl rfl)
theorem dJ27_set_43 : decode cJ27_set 43 = .ok (.athrow, 1) := dk_191 (dk_at dksJ27_set_1 19 rfl rfl)
theorem dJ27_set_44 : decode cJ27_set 44 = .ok (.return_, 1) := dk_177 (dk_at dksJ27_set_1 20 rfl rfl)
abbrev cJ27_add : ByteArray := prog_38_method_7_code
def yJ27_add : MethodName := ⟨RJ27, "add", "(Ljava/lang/Object;)V"⟩
def dkwJ27_add_2 : List UInt8 := [187, 0, 31, 89, 183, 0, 33, 191, 177]
abbrev dktJ27_add_2 : List UInt8 := dkwJ27_add_2 ++ []
def dkwJ27_add_1 : List UInt8 := [181, 0, 13, 42, 2, 181, 0, 34, 42, 42, 180, 0, 1, 180, 0, 50, 181, 0, 53, 167, 0, 12, 77]
abbrev dktJ27_add_1 : List UInt8 := dkwJ27_add_1 ++ dktJ27_add_2
def dkwJ27_add_0 : List UInt8 := [42, 182, 0, 17, 42, 180, 0, 13, 61, 42, 180, 0, 1, 28, 43, 182, 0, 46, 42, 28, 4, 96]
abbrev dktJ27_add_0 : List UInt8 := dkwJ27_add_0 ++ dktJ27_add_1
theorem dksJ27_add_0 : cJ27_add.data.toList.drop 0 = dktJ27_add_0 := by decide +kernel
theorem dksJ27_add_1 : cJ27_add.data.toList.drop 22 = dktJ27_add_1 := dk_seg dksJ27_add_0 22 rfl rfl
theorem dksJ27_add_2 : cJ27_add.data.toList.drop 45 = dktJ27_add_2 := dk_seg dksJ27_add_1 23 rfl rfl
theorem dJ27_add_0 : decode cJ27_add 0 = .ok (.aload_n 0, 1) := dk_42 (dk_at dksJ27_add_0 0 rfl rfl)
theorem dJ27_add_1 : decode cJ27_add 1 = .ok (.invokevirtual 17, 3) := dk_182 0 17 (dk_at dksJ27_add_0 1 rfl rfl)
theorem dJ27_add_4 : decode cJ27_add 4 = .ok (.aload_n 0, 1) := dk_42 (dk_at dksJ27_add_0 4 rfl rfl)
theorem dJ27_add_5 : decode cJ27_add 5 = .ok (.getfield 13, 3) := dk_180 0 13 (dk_at dksJ27_add_0 5 rfl rfl)
theorem dJ27_add_8 : decode cJ27_add 8 = .ok (.istore_n 2, 1) := dk_61 (dk_at dksJ27_add_0 8 rfl rfl)
theorem dJ27_add_9 : decode cJ27_add 9 = .ok (.aload_n 0, 1) := dk_42 (dk_at dksJ27_add_0 9 rfl rfl)
theorem dJ27_add_10 : decode cJ27_add 10 = .ok (.getfield 1, 3) := dk_180 0 1 (dk_at dksJ27_add_0 10 rfl rfl)
theorem dJ27_add_13 : decode cJ27_add 13 = .ok (.iload_n 2, 1) := dk_28 (dk_at dksJ27_add_0 13 rfl rfl)
theorem dJ27_add_14 : decode cJ27_add 14 = .ok (.aload_n 1, 1) := dk_43 (dk_at dksJ27_add_0 14 rfl rfl)
theorem dJ27_add_15 : decode cJ27_add 15 = .ok (.invokevirtual 46, 3) := dk_182 0 46 (dk_at dksJ27_add_0 15 rfl rfl)
theorem dJ27_add_18 : decode cJ27_add 18 = .ok (.aload_n 0, 1) := dk_42 (dk_at dksJ27_add_0 18 rfl rfl)
theorem dJ27_add_19 : decode cJ27_add 19 = .ok (.iload_n 2, 1) := dk_28 (dk_at dksJ27_add_0 19 rfl rfl)
theorem dJ27_add_20 : decode cJ27_add 20 = .ok (.iconst 1, 1) := dk_4 (dk_at dksJ27_add_0 20 rfl rfl)
theorem dJ27_add_21 : decode cJ27_add 21 = .ok (.iadd, 1) := dk_96 (dk_at dksJ27_add_0 21 rfl rfl)
theorem dJ27_add_22 : decode cJ27_add 22 = .ok (.putfield 13, 3) := dk_181 0 13 (dk_at dksJ27_add_1 0 rfl rfl)
theorem dJ27_add_25 : decode cJ27_add 25 = .ok (.aload_n 0, 1) := dk_42 (dk_at dksJ27_add_1 3 rfl rfl)
theorem dJ27_add_26 : decode cJ27_add 26 = .ok (.iconst (-1), 1) := dk_2 (dk_at dksJ27_add_1 4 rfl rfl)
theorem dJ27_add_27 : decode cJ27_add 27 = .ok (.putfield 34, 3) := dk_181 0 34 (dk_at dksJ27_add_1 5 rfl rfl)
theorem dJ27_add_30 : decode cJ27_add 30 = .ok (.aload_n 0, 1) := dk_42 (dk_at dksJ27_add_1 8 rfl rfl)
theorem dJ27_add_31 : decode cJ27_add 31 = .ok (.aload_n 0, 1) := dk_42 (dk_at dksJ27_add_1 9 rfl rfl)
theorem dJ27_add_32 : decode cJ27_add 32 = .ok (.getfield 1, 3) := dk_180 0 1 (dk_at dksJ27_add_1 10 rfl rfl)
theorem dJ27_add_35 : decode cJ27_add 35 = .ok (.getfield 50, 3) := dk_180 0 50 (dk_at dksJ27_add_1 13 rfl rfl)
theorem dJ27_add_38 : decode cJ27_add 38 = .ok (.putfield 53, 3) := dk_181 0 53 (dk_at dksJ27_add_1 16 rfl rfl)
theorem dJ27_add_41 : decode cJ27_add 41 = .ok (.goto 12, 3) := dk_167 0 12 (dk_at dksJ27_add_1 19 rfl rfl)
theorem dJ27_add_44 : decode cJ27_add 44 = .ok (.astore_n 2, 1) := dk_77 (dk_at dksJ27_add_1 22 rfl rfl)
theorem dJ27_add_45 : decode cJ27_add 45 = .ok (.new 31, 3) := dk_187 0 31 (dk_at dksJ27_add_2 0 rfl rfl)
theorem dJ27_add_48 : decode cJ27_add 48 = .ok (.dup, 1) := dk_89 (dk_at dksJ27_add_2 3 rfl rfl)
theorem dJ27_add_49 : decode cJ27_add 49 = .ok (.invokespecial 33, 3) := dk_183 0 33 (dk_at dksJ27_add_2 4 rfl rfl)
theorem dJ27_add_52 : decode cJ27_add 52 = .ok (.athrow, 1) := dk_191 (dk_at dksJ27_add_2 7 rfl rfl)
theorem dJ27_add_53 : decode cJ27_add 53 = .ok (.return_, 1) := dk_177 (dk_at dksJ27_add_2 8 rfl rfl)
theorem q103 : (Jvm.Cond.initialized "java/util/ArrayList$ListItr") ∈ lw_all := lw_g (lw_at lw_m1 34 rfl) rfl
theorem q134 : (Jvm.Cond.fieldLink "java/util/ArrayList$ListItr" (50 : Nat) "java/util/ArrayList" "modCount" "I") ∈ lw_all := lw_g (lw_at lw_m1 65 rfl) rfl
theorem q256 : (Jvm.Cond.selects "java/util/ArrayList$ListItr" ({ cls := "java/lang/Object", name := "getClass", desc := "()Ljava/lang/Class;" } : Jvm.MethodName) ({ cls := "java/lang/Object", name := "getClass", desc := "()Ljava/lang/Class;" } : Jvm.MethodName)) ∈ lw_all := lw_g (lw_at lw_m1 187 rfl) rfl
theorem q301 : (Jvm.Cond.fieldLink "java/util/ArrayList$ListItr" (13 : Nat) "java/util/ArrayList$ListItr" "cursor" "I") ∈ lw_all := lw_g (lw_at lw_m1 232 rfl) rfl
theorem q302 : (Jvm.Cond.sameField "java/util/ArrayList$ListItr" "java/util/ArrayList$Itr" "cursor" "I") ∈ lw_all := lw_g (lw_at lw_m1 233 rfl) rfl
theorem q305 : (Jvm.Cond.fieldLink "java/util/ArrayList$ListItr" (34 : Nat) "java/util/ArrayList$ListItr" "lastRet" "I") ∈ lw_all := lw_g (lw_at lw_m1 236 rfl) rfl
theorem q306 : (Jvm.Cond.sameField "java/util/ArrayList$ListItr" "java/util/ArrayList$Itr" "lastRet" "I") ∈ lw_all := lw_g (lw_at lw_m1 237 rfl) rfl
theorem q308 : (Jvm.Cond.fieldLink "java/util/ArrayList$ListItr" (53 : Nat) "java/util/ArrayList$ListItr" "expectedModCount" "I") ∈ lw_all := lw_g (lw_at lw_m1 239 rfl) rfl
theorem q309 : (Jvm.Cond.sameField "java/util/ArrayList$ListItr" "java/util/ArrayList$Itr" "expectedModCount" "I") ∈ lw_all := lw_g (lw_at lw_m2 0 rfl) rfl
theorem q330 : (Jvm.Cond.castable "java/util/ArrayList$ListItr" "java/util/Iterator") ∈ lw_tbl := lw_at lw_m2 21 rfl
theorem q331 : (Jvm.Cond.selects "java/util/ArrayList$ListItr" ({ cls := "java/util/Iterator", name := "hasNext", desc := "()Z" } : Jvm.MethodName) ({ cls := "java/util/ArrayList$Itr", name := "hasNext", desc := "()Z" } : Jvm.MethodName)) ∈ lw_all := lw_g (lw_at lw_m2 22 rfl) rfl
theorem q332 : (Jvm.Cond.unhidden "java/util/ArrayList$ListItr" "hasNext" "()Z") ∈ lw_tbl := lw_at lw_m2 23 rfl
theorem q346 : (Jvm.Cond.selects "java/util/ArrayList$ListItr" ({ cls := "java/util/ArrayList$Itr", name := "checkForComodification", desc := "()V" } : Jvm.MethodName) ({ cls := "java/util/ArrayList$Itr", name := "checkForComodification", desc := "()V" } : Jvm.MethodName)) ∈ lw_all := lw_g (lw_at lw_m2 37 rfl) rfl
theorem q416 : (Jvm.Cond.selects "java/util/ArrayList$ListItr" ({ cls := "java/util/Iterator", name := "next", desc := "()Ljava/lang/Object;" } : Jvm.MethodName) ({ cls := "java/util/ArrayList$Itr", name := "next", desc := "()Ljava/lang/Object;" } : Jvm.MethodName)) ∈ lw_all := lw_g (lw_at lw_m2 107 rfl) rfl
theorem q417 : (Jvm.Cond.unhidden "java/util/ArrayList$ListItr" "next" "()Ljava/lang/Object;") ∈ lw_tbl := lw_at lw_m2 108 rfl
theorem q459 : (Jvm.Cond.selects "java/util/ArrayList$ListItr" ({ cls := "java/util/Iterator", name := "remove", desc := "()V" } : Jvm.MethodName) ({ cls := "java/util/ArrayList$Itr", name := "remove", desc := "()V" } : Jvm.MethodName)) ∈ lw_all := lw_g (lw_at lw_m2 150 rfl) rfl
theorem q460 : (Jvm.Cond.unhidden "java/util/ArrayList$ListItr" "remove" "()V") ∈ lw_tbl := lw_at lw_m2 151 rfl
theorem q1657 : (Jvm.Cond.instantiable "java/util/ArrayList$ListItr" (5 : Nat)) ∈ lw_all := lw_g (lw_at lw_m7 148 rfl) rfl
theorem q1659 : (Jvm.Cond.instanceMethod ({ cls := "java/util/ArrayList$ListItr", name := "<init>", desc := "(Ljava/util/ArrayList;I)V" } : Jvm.MethodName)) ∈ lw_all := lw_g (lw_at lw_m7 150 rfl) rfl
theorem q1660 : (Jvm.Cond.code ({ cls := "java/util/ArrayList$ListItr", name := "<init>", desc := "(Ljava/util/ArrayList;I)V" } : Jvm.MethodName) prog_38_method_1_code (3 : Nat) (Option.none : Option Jvm.ClassFile.FieldType)) ∈ lw_all := lw_g (lw_at lw_m7 151 rfl) rfl
theorem q1661 : (Jvm.Cond.methodLink "java/util/ArrayList$ListItr" (7 : Nat) ({ cls := "java/util/ArrayList$Itr", name := "<init>", desc := "(Ljava/util/ArrayList;)V" } : Jvm.MethodName)) ∈ lw_all := lw_g (lw_at lw_m7 152 rfl) rfl
theorem q1662 : (Jvm.Cond.fieldLink "java/util/ArrayList$ListItr" (1 : Nat) "java/util/ArrayList$ListItr" "this$0" "Ljava/util/ArrayList;") ∈ lw_all := lw_g (lw_at lw_m7 153 rfl) rfl
theorem q1663 : (Jvm.Cond.laysFinal "java/util/ArrayList$ListItr" "java/util/ArrayList$ListItr" "this$0" "Ljava/util/ArrayList;") ∈ lw_all := lw_g (lw_at lw_m7 154 rfl) rfl
theorem q1664 : (Jvm.Cond.soleField "java/util/ArrayList$ListItr" "this$0") ∈ lw_all := lw_g (lw_at lw_m7 155 rfl) rfl
theorem q1665 : (Jvm.Cond.lays "java/util/ArrayList$ListItr" "java/util/ArrayList$Itr" "cursor" "I") ∈ lw_all := lw_g (lw_at lw_m7 156 rfl) rfl
theorem q1666 : (Jvm.Cond.lays "java/util/ArrayList$ListItr" "java/util/ArrayList$Itr" "lastRet" "I") ∈ lw_all := lw_g (lw_at lw_m7 157 rfl) rfl
theorem q1667 : (Jvm.Cond.lays "java/util/ArrayList$ListItr" "java/util/ArrayList$Itr" "expectedModCount" "I") ∈ lw_all := lw_g (lw_at lw_m7 158 rfl) rfl
theorem q1668 : (Jvm.Cond.laysFinal "java/util/ArrayList$ListItr" "java/util/ArrayList$Itr" "this$0" "Ljava/util/ArrayList;") ∈ lw_all := lw_g (lw_at lw_m7 159 rfl) rfl
theorem q1669 : (Jvm.Cond.superclass "java/util/ArrayList$ListItr" "java/util/ArrayList$Itr") ∈ lw_all := lw_g (lw_at lw_m7 160 rfl) rfl
theorem q1674 : (Jvm.Cond.castable "java/util/ArrayList$ListItr" "java/util/ListIterator") ∈ lw_tbl := lw_at lw_m7 165 rfl
theorem q1675 : (Jvm.Cond.selects "java/util/ArrayList$ListItr" ({ cls := "java/util/ListIterator", name := "next", desc := "()Ljava/lang/Object;" } : Jvm.MethodName) ({ cls := "java/util/ArrayList$Itr", name := "next", desc := "()Ljava/lang/Object;" } : Jvm.MethodName)) ∈ lw_all := lw_g (lw_at lw_m7 166 rfl) rfl
theorem q1680 : (Jvm.Cond.selects "java/util/ArrayList$ListItr" ({ cls := "java/util/ListIterator", name := "set", desc := "(Ljava/lang/Object;)V" } : Jvm.MethodName) ({ cls := "java/util/ArrayList$ListItr", name := "set", desc := "(Ljava/lang/Object;)V" } : Jvm.MethodName)) ∈ lw_all := lw_g (lw_at lw_m7 171 rfl) rfl
theorem q1681 : (Jvm.Cond.unhidden "java/util/ArrayList$ListItr" "set" "(Ljava/lang/Object;)V") ∈ lw_tbl := lw_at lw_m7 172 rfl
theorem q1682 : (Jvm.Cond.instanceMethod ({ cls := "java/util/ArrayList$ListItr", name := "set", desc := "(Ljava/lang/Object;)V" } : Jvm.MethodName)) ∈ lw_all := lw_g (lw_at lw_m7 173 rfl) rfl
theorem q1683 : (Jvm.Cond.publicMethod ({ cls := "java/util/ArrayList$ListItr", name := "set", desc := "(Ljava/lang/Object;)V" } : Jvm.MethodName)) ∈ lw_tbl := lw_at lw_m7 174 rfl
theorem q1684 : (Jvm.Cond.codeWith ({ cls := "java/util/ArrayList$ListItr", name := "set", desc := "(Ljava/lang/Object;)V" } : Jvm.MethodName) prog_38_method_6_code (3 : Nat) (Option.none : Option Jvm.ClassFile.FieldType) [((19 : Nat), (32 : Nat), (35 : Nat), (44 : Nat))]) ∈ lw_all := lw_g (lw_at lw_m7 175 rfl) rfl
theorem q1685 : (Jvm.Cond.classLink "java/util/ArrayList$ListItr" (37 : Nat) "java/lang/IllegalStateException") ∈ lw_all := lw_g (lw_at lw_m7 176 rfl) rfl
theorem q1686 : (Jvm.Cond.methodLink "java/util/ArrayList$ListItr" (39 : Nat) ({ cls := "java/lang/IllegalStateException", name := "<init>", desc := "()V" } : Jvm.MethodName)) ∈ lw_all := lw_g (lw_at lw_m7 177 rfl) rfl
theorem q1687 : (Jvm.Cond.methodLink "java/util/ArrayList$ListItr" (17 : Nat) ({ cls := "java/util/ArrayList$ListItr", name := "checkForComodification", desc := "()V" } : Jvm.MethodName)) ∈ lw_all := lw_g (lw_at lw_m7 178 rfl) rfl
theorem q1688 : (Jvm.Cond.sameMethod "java/util/ArrayList$ListItr" "java/util/ArrayList$Itr" "checkForComodification" "()V") ∈ lw_all := lw_g (lw_at lw_m7 179 rfl) rfl
theorem q1690 : (Jvm.Cond.selects "java/util/ArrayList$ListItr" ({ cls := "java/util/ArrayList$ListItr", name := "checkForComodification", desc := "()V" } : Jvm.MethodName) ({ cls := "java/util/ArrayList$Itr", name := "checkForComodification", desc := "()V" } : Jvm.MethodName)) ∈ lw_all := lw_g (lw_at lw_m7 181 rfl) rfl
theorem q1691 : (Jvm.Cond.methodLink "java/util/ArrayList$ListItr" (40 : Nat) ({ cls := "java/util/ArrayList", name := "set", desc := "(ILjava/lang/Object;)Ljava/lang/Object;" } : Jvm.MethodName)) ∈ lw_all := lw_g (lw_at lw_m7 182 rfl) rfl
theorem q1692 : (Jvm.Cond.classLink "java/util/ArrayList$ListItr" (31 : Nat) "java/util/ConcurrentModificationException") ∈ lw_all := lw_g (lw_at lw_m7 183 rfl) rfl
theorem q1693 : (Jvm.Cond.methodLink "java/util/ArrayList$ListItr" (33 : Nat) ({ cls := "java/util/ConcurrentModificationException", name := "<init>", desc := "()V" } : Jvm.MethodName)) ∈ lw_all := lw_g (lw_at lw_m7 184 rfl) rfl
theorem q1698 : (Jvm.Cond.selects "java/util/ArrayList$ListItr" ({ cls := "java/util/ListIterator", name := "add", desc := "(Ljava/lang/Object;)V" } : Jvm.MethodName) ({ cls := "java/util/ArrayList$ListItr", name := "add", desc := "(Ljava/lang/Object;)V" } : Jvm.MethodName)) ∈ lw_all := lw_g (lw_at lw_m7 189 rfl) rfl
theorem q1699 : (Jvm.Cond.unhidden "java/util/ArrayList$ListItr" "add" "(Ljava/lang/Object;)V") ∈ lw_tbl := lw_at lw_m7 190 rfl
theorem q1700 : (Jvm.Cond.instanceMethod ({ cls := "java/util/ArrayList$ListItr", name := "add", desc := "(Ljava/lang/Object;)V" } : Jvm.MethodName)) ∈ lw_all := lw_g (lw_at lw_m7 191 rfl) rfl
theorem q1701 : (Jvm.Cond.publicMethod ({ cls := "java/util/ArrayList$ListItr", name := "add", desc := "(Ljava/lang/Object;)V" } : Jvm.MethodName)) ∈ lw_tbl := lw_at lw_m7 192 rfl
theorem q1702 : (Jvm.Cond.codeWith ({ cls := "java/util/ArrayList$ListItr", name := "add", desc := "(Ljava/lang/Object;)V" } : Jvm.MethodName) prog_38_method_7_code (3 : Nat) (Option.none : Option Jvm.ClassFile.FieldType) [((4 : Nat), (41 : Nat), (44 : Nat), (44 : Nat))]) ∈ lw_all := lw_g (lw_at lw_m7 193 rfl) rfl
theorem q1703 : (Jvm.Cond.methodLink "java/util/ArrayList$ListItr" (46 : Nat) ({ cls := "java/util/ArrayList", name := "add", desc := "(ILjava/lang/Object;)V" } : Jvm.MethodName)) ∈ lw_all := lw_g (lw_at lw_m7 194 rfl) rfl
theorem q2187 : (Jvm.Cond.castable "java/util/ArrayList$ListItr" "java/lang/Object") ∈ lw_tbl := lw_at lw_m9 198 rfl
theorem in_J27 : ∀ w ∈ wsJ270, w ∈ lw_all := lw_in wsJ270 [1665, 1666, 1667, 1668, 1663] (by decide +kernel) (by decide +kernel)
/-! java/math/MutableBigInteger -/
set_option maxRecDepth 100000
def RJ26 : String := "java/math/MutableBigInteger"
def TJ26 : u_T := fun k => match k with
  | 0 => ("java/math/MutableBigInteger", "value", "[I", false)
  | 1 => ("java/math/MutableBigInteger", "intLen", "I", false)
  | _ => ("java/math/MutableBigInteger", "offset", "I", false)
def tyJ26 : Nat → FieldType := fun k => match k with
  | 0 => .array .int
  | 1 => .int
  | _ => .int
abbrev wsJ260 : List Cond := u_ws RJ26 TJ26 3
theorem nmJ26 : ∀ a, a < 3 → ∀ b, b < 3 → a ≠ b → (TJ26 a).2.1 ≠ (TJ26 b).2.1 := by decide +kernel
theorem tyJ26_ok : ∀ k, k < 3 → parseFieldDescriptor (TJ26 k).2.2.1 = some (tyJ26 k) := by decide +kernel
abbrev cJ26_init : ByteArray := prog_33_method_4_code
def yJ26_init : MethodName := ⟨RJ26, "<init>", "(Ljava/math/BigInteger;)V"⟩
def dkwJ26_init_1 : List UInt8 := [180, 0, 21, 184, 0, 27, 181, 0, 17, 177]
abbrev dktJ26_init_1 : List UInt8 := dkwJ26_init_1 ++ []
def dkwJ26_init_0 : List UInt8 := [42, 183, 0, 5, 42, 3, 181, 0, 11, 42, 43, 180, 0, 24, 190, 181, 0, 21, 42, 43, 180, 0, 24, 42]
abbrev dktJ26_init_0 : List UInt8 := dkwJ26_init_0 ++ dktJ26_init_1
theorem dksJ26_init_0 : cJ26_init.data.toList.drop 0 = dktJ26_init_0 := by decide +kernel
theorem dksJ26_init_1 : cJ26_init.data.toList.drop 24 = dktJ26_init_1 := dk_seg dksJ26_init_0 24 rfl rfl
theorem dJ26_init_0 : decode cJ26_init 0 = .ok (.aload_n 0, 1) := dk_42 (dk_at dksJ26_init_0 0 rfl rfl)
theorem dJ26_init_1 : decode cJ26_init 1 = .ok (.invokespecial 5, 3) := dk_183 0 5 (dk_at dksJ26_init_0 1 rfl rfl)
theorem dJ26_init_4 : decode cJ26_init 4 = .ok (.aload_n 0, 1) := dk_42 (dk_at dksJ26_init_0 4 rfl rfl)
theorem dJ26_init_5 : decode cJ26_init 5 = .ok (.iconst 0, 1) := dk_3 (dk_at dksJ26_init_0 5 rfl rfl)
theorem dJ26_init_6 : decode cJ26_init 6 = .ok (.putfield 11, 3) := dk_181 0 11 (dk_at dksJ26_init_0 6 rfl rfl)
theorem dJ26_init_9 : decode cJ26_init 9 = .ok (.aload_n 0, 1) := dk_42 (dk_at dksJ26_init_0 9 rfl rfl)
theorem dJ26_init_10 : decode cJ26_init 10 = .ok (.aload_n 1, 1) := dk_43 (dk_at dksJ26_init_0 10 rfl rfl)
theorem dJ26_init_11 : decode cJ26_init 11 = .ok (.getfield 24, 3) := dk_180 0 24 (dk_at dksJ26_init_0 11 rfl rfl)
theorem dJ26_init_14 : decode cJ26_init 14 = .ok (.arraylength, 1) := dk_190 (dk_at dksJ26_init_0 14 rfl rfl)
theorem dJ26_init_15 : decode cJ26_init 15 = .ok (.putfield 21, 3) := dk_181 0 21 (dk_at dksJ26_init_0 15 rfl rfl)
theorem dJ26_init_18 : decode cJ26_init 18 = .ok (.aload_n 0, 1) := dk_42 (dk_at dksJ26_init_0 18 rfl rfl)
theorem dJ26_init_19 : decode cJ26_init 19 = .ok (.aload_n 1, 1) := dk_43 (dk_at dksJ26_init_0 19 rfl rfl)
theorem dJ26_init_20 : decode cJ26_init 20 = .ok (.getfield 24, 3) := dk_180 0 24 (dk_at dksJ26_init_0 20 rfl rfl)
theorem dJ26_init_23 : decode cJ26_init 23 = .ok (.aload_n 0, 1) := dk_42 (dk_at dksJ26_init_0 23 rfl rfl)
theorem dJ26_init_24 : decode cJ26_init 24 = .ok (.getfield 21, 3) := dk_180 0 21 (dk_at dksJ26_init_1 0 rfl rfl)
theorem dJ26_init_27 : decode cJ26_init 27 = .ok (.invokestatic 27, 3) := dk_184 0 27 (dk_at dksJ26_init_1 3 rfl rfl)
theorem dJ26_init_30 : decode cJ26_init 30 = .ok (.putfield 17, 3) := dk_181 0 17 (dk_at dksJ26_init_1 6 rfl rfl)
theorem dJ26_init_33 : decode cJ26_init 33 = .ok (.return_, 1) := dk_177 (dk_at dksJ26_init_1 9 rfl rfl)
abbrev cJ26_hybridGCD : ByteArray := prog_33_method_72_code
def yJ26_hybridGCD : MethodName := ⟨RJ26, "hybridGCD", "(Ljava/math/MutableBigInteger;)Ljava/math/MutableBigInteger;"⟩
def dkwJ26_hybridGCD_2 : List UInt8 := [58, 4, 43, 77, 25, 4, 76, 167, 255, 214, 44, 176]
abbrev dktJ26_hybridGCD_2 : List UInt8 := dkwJ26_hybridGCD_2 ++ []
def dkwJ26_hybridGCD_1 : List UInt8 := [180, 0, 21, 100, 184, 1, 73, 5, 162, 0, 9, 44, 43, 182, 1, 76, 176, 44, 43, 45, 182, 1, 80]
abbrev dktJ26_hybridGCD_1 : List UInt8 := dkwJ26_hybridGCD_1 ++ dktJ26_hybridGCD_2
def dkwJ26_hybridGCD_0 : List UInt8 := [42, 77, 187, 0, 12, 89, 183, 0, 177, 78, 43, 180, 0, 21, 153, 0, 41, 44, 180, 0, 21, 43]
abbrev dktJ26_hybridGCD_0 : List UInt8 := dkwJ26_hybridGCD_0 ++ dktJ26_hybridGCD_1
theorem dksJ26_hybridGCD_0 : cJ26_hybridGCD.data.toList.drop 0 = dktJ26_hybridGCD_0 := by decide +kernel
theorem dksJ26_hybridGCD_1 : cJ26_hybridGCD.data.toList.drop 22 = dktJ26_hybridGCD_1 := dk_seg dksJ26_hybridGCD_0 22 rfl rfl
theorem dksJ26_hybridGCD_2 : cJ26_hybridGCD.data.toList.drop 45 = dktJ26_hybridGCD_2 := dk_seg dksJ26_hybridGCD_1 23 rfl rfl
theorem dJ26_hybridGCD_0 : decode cJ26_hybridGCD 0 = .ok (.aload_n 0, 1) := dk_42 (dk_at dksJ26_hybridGCD_0 0 rfl rfl)
theorem dJ26_hybridGCD_1 : decode cJ26_hybridGCD 1 = .ok (.astore_n 2, 1) := dk_77 (dk_at dksJ26_hybridGCD_0 1 rfl rfl)
theorem dJ26_hybridGCD_2 : decode cJ26_hybridGCD 2 = .ok (.new 12, 3) := dk_187 0 12 (dk_at dksJ26_hybridGCD_0 2 rfl rfl)
theorem dJ26_hybridGCD_5 : decode cJ26_hybridGCD 5 = .ok (.dup, 1) := dk_89 (dk_at dksJ26_hybridGCD_0 5 rfl rfl)
theorem dJ26_hybridGCD_6 : decode cJ26_hybridGCD 6 = .ok (.invokespecial 177, 3) := dk_183 0 177 (dk_at dksJ26_hybridGCD_0 6 rfl rfl)
theorem dJ26_hybridGCD_9 : decode cJ26_hybridGCD 9 = .ok (.astore_n 3, 1) := dk_78 (dk_at dksJ26_hybridGCD_0 9 rfl rfl)
theorem dJ26_hybridGCD_10 : decode cJ26_hybridGCD 10 = .ok (.aload_n 1, 1) := dk_43 (dk_at dksJ26_hybridGCD_0 10 rfl rfl)
theorem dJ26_hybridGCD_11 : decode cJ26_hybridGCD 11 = .ok (.getfield 21, 3) := dk_180 0 21 (dk_at dksJ26_hybridGCD_0 11 rfl rfl)
theorem dJ26_hybridGCD_14 : decode cJ26_hybridGCD 14 = .ok (.ifCond .eq 41, 3) := dk_153 0 41 (dk_at dksJ26_hybridGCD_0 14 rfl rfl)
theorem dJ26_hybridGCD_17 : decode cJ26_hybridGCD 17 = .ok (.aload_n 2, 1) := dk_44 (dk_at dksJ26_hybridGCD_0 17 rfl rfl)
theorem dJ26_hybridGCD_18 : decode cJ26_hybridGCD 18 = .ok (.getfield 21, 3) := dk_180 0 21 (dk_at dksJ26_hybridGCD_0 18 rfl rfl)
theorem dJ26_hybridGCD_21 : decode cJ26_hybridGCD 21 = .ok (.aload_n 1, 1) := dk_43 (dk_at dksJ26_hybridGCD_0 21 rfl rfl)
theorem dJ26_hybridGCD_22 : decode cJ26_hybridGCD 22 = .ok (.getfield 21, 3) := dk_180 0 21 (dk_at dksJ26_hybridGCD_1 0 rfl rfl)
theorem dJ26_hybridGCD_25 : decode cJ26_hybridGCD 25 = .ok (.isub, 1) := dk_100 (dk_at dksJ26_hybridGCD_1 3 rfl rfl)
theorem dJ26_hybridGCD_26 : decode cJ26_hybridGCD 26 = .ok (.invokestatic 329, 3) := dk_184 1 73 (dk_at dksJ26_hybridGCD_1 4 rfl rfl)
theorem dJ26_hybridGCD_29 : decode cJ26_hybridGCD 29 = .ok (.iconst 2, 1) := dk_5 (dk_at dksJ26_hybridGCD_1 7 rfl rfl)
theorem dJ26_hybridGCD_30 : decode cJ26_hybridGCD 30 = .ok (.if_icmp .ge 9, 3) := dk_162 0 9 (dk_at dksJ26_hybridGCD_1 8 rfl rfl)
theorem dJ26_hybridGCD_33 : decode cJ26_hybridGCD 33 = .ok (.aload_n 2, 1) := dk_44 (dk_at dksJ26_hybridGCD_1 11 rfl rfl)
theorem dJ26_hybridGCD_34 : decode cJ26_hybridGCD 34 = .ok (.aload_n 1, 1) := dk_43 (dk_at dksJ26_hybridGCD_1 12 rfl rfl)
theorem dJ26_hybridGCD_35 : decode cJ26_hybridGCD 35 = .ok (.invokevirtual 332, 3) := dk_182 1 76 (dk_at dksJ26_hybridGCD_1 13 rfl rfl)
theorem dJ26_hybridGCD_38 : decode cJ26_hybridGCD 38 = .ok (.areturn, 1) := dk_176 (dk_at dksJ26_hybridGCD_1 16 rfl rfl)
theorem dJ26_hybridGCD_39 : decode cJ26_hybridGCD 39 = .ok (.aload_n 2, 1) := dk_44 (dk_at dksJ26_hybridGCD_1 17 rfl rfl)
theorem dJ26_hybridGCD_40 : decode cJ26_hybridGCD 40 = .ok (.aload_n 1, 1) := dk_43 (dk_at dksJ26_hybridGCD_1 18 rfl rfl)
theorem dJ26_hybridGCD_41 : decode cJ26_hybridGCD 41 = .ok (.aload_n 3, 1) := dk_45 (dk_at dksJ26_hybridGCD_1 19 rfl rfl)
theorem dJ26_hybridGCD_42 : decode cJ26_hybridGCD 42 = .ok (.invokevirtual 336, 3) := dk_182 1 80 (dk_at dksJ26_hybridGCD_1 20 rfl rfl)
theorem dJ26_hybridGCD_45 : decode cJ26_hybridGCD 45 = .ok (.astore 4, 2) := dk_58 4 (dk_at dksJ26_hybridGCD_2 0 rfl rfl)
theorem dJ26_hybridGCD_47 : decode cJ26_hybridGCD 47 = .ok (.aload_n 1, 1) := dk_43 (dk_at dksJ26_hybridGCD_2 2 rfl rfl)
theorem dJ26_hybridGCD_48 : decode cJ26_hybridGCD 48 = .ok (.astore_n 2, 1) := dk_77 (dk_at dksJ26_hybridGCD_2 3 rfl rfl)
theorem dJ26_hybridGCD_49 : decode cJ26_hybridGCD 49 = .ok (.aload 4, 2) := dk_25 4 (dk_at dksJ26_hybridGCD_2 4 rfl rfl)
theorem dJ26_hybridGCD_51 : decode cJ26_hybridGCD 51 = .ok (.astore_n 1, 1) := dk_76 (dk_at dksJ26_hybridGCD_2 6 rfl rfl)
theorem dJ26_hybridGCD_52 : decode cJ26_hybridGCD 52 = .ok (.goto (-42), 3) := dk_167 255 214 (dk_at dksJ26_hybridGCD_2 7 rfl rfl)
theorem dJ26_hybridGCD_55 : decode cJ26_hybridGCD 55 = .ok (.aload_n 2, 1) := dk_44 (dk_at dksJ26_hybridGCD_2 10 rfl rfl)
theorem dJ26_hybridGCD_56 : decode cJ26_hybridGCD 56 = .ok (.areturn, 1) := dk_176 (dk_at dksJ26_hybridGCD_2 11 rfl rfl)
abbrev cJ26_init_2 : ByteArray := prog_33_method_1_code
def yJ26_init_2 : MethodName := ⟨RJ26, "<init>", "()V"⟩
def dkwJ26_init_2_0 : List UInt8 := [42, 183, 0, 5, 42, 3, 181, 0, 11, 42, 4, 188, 10, 181, 0, 17, 42, 3, 181, 0, 21, 177]
abbrev dktJ26_init_2_0 : List UInt8 := dkwJ26_init_2_0 ++ []
theorem dksJ26_init_2_0 : cJ26_init_2.data.toList.drop 0 = dktJ26_init_2_0 := by decide +kernel
theorem dJ26_init_2_0 : decode cJ26_init_2 0 = .ok (.aload_n 0, 1) := dk_42 (dk_at dksJ26_init_2_0 0 rfl rfl)
theorem dJ26_init_2_1 : decode cJ26_init_2 1 = .ok (.invokespecial 5, 3) := dk_183 0 5 (dk_at dksJ26_init_2_0 1 rfl rfl)
theorem dJ26_init_2_4 : decode cJ26_init_2 4 = .ok (.aload_n 0, 1) := dk_42 (dk_at dksJ26_init_2_0 4 rfl rfl)
theorem dJ26_init_2_5 : decode cJ26_init_2 5 = .ok (.iconst 0, 1) := dk_3 (dk_at dksJ26_init_2_0 5 rfl rfl)
theorem dJ26_init_2_6 : decode cJ26_init_2 6 = .ok (.putfield 11, 3) := dk_181 0 11 (dk_at dksJ26_init_2_0 6 rfl rfl)
theorem dJ26_init_2_9 : decode cJ26_init_2 9 = .ok (.aload_n 0, 1) := dk_42 (dk_at dksJ26_init_2_0 9 rfl rfl)
theorem dJ26_init_2_10 : decode cJ26_init_2 10 = .ok (.iconst 1, 1) := dk_4 (dk_at dksJ26_init_2_0 10 rfl rfl)
theorem dJ26_init_2_11 : decode cJ26_init_2 11 = .ok (.newarray .int, 2) := dk_188_10 (dk_at dksJ26_init_2_0 11 rfl rfl)
theorem dJ26_init_2_13 : decode cJ26_init_2 13 = .ok (.putfield 17, 3) := dk_181 0 17 (dk_at dksJ26_init_2_0 13 rfl rfl)
theorem dJ26_init_2_16 : decode cJ26_init_2 16 = .ok (.aload_n 0, 1) := dk_42 (dk_at dksJ26_init_2_0 16 rfl rfl)
theorem dJ26_init_2_17 : decode cJ26_init_2 17 = .ok (.iconst 0, 1) := dk_3 (dk_at dksJ26_init_2_0 17 rfl rfl)
theorem dJ26_init_2_18 : decode cJ26_init_2 18 = .ok (.putfield 21, 3) := dk_181 0 21 (dk_at dksJ26_init_2_0 18 rfl rfl)
theorem dJ26_init_2_21 : decode cJ26_init_2 21 = .ok (.return_, 1) := dk_177 (dk_at dksJ26_init_2_0 21 rfl rfl)
abbrev cJ26_binaryGCD : ByteArray := prog_33_method_73_code
def yJ26_binaryGCD : MethodName := ⟨RJ26, "binaryGCD", "(Ljava/math/MutableBigInteger;)Ljava/math/MutableBigInteger;"⟩
def dkwJ26_binaryGCD_10 : List UInt8 := [21, 6, 158, 0, 9, 44, 21, 6, 182, 0, 121, 44, 176]
abbrev dktJ26_binaryGCD_10 : List UInt8 := dkwJ26_binaryGCD_10 ++ []
def dkwJ26_binaryGCD_9 : List UInt8 := [54, 9, 154, 0, 6, 167, 0, 18, 21, 9, 155, 0, 7, 44, 167, 0, 4, 43, 58, 8, 167, 255, 120]
abbrev dktJ26_binaryGCD_9 : List UInt8 := dkwJ26_binaryGCD_9 ++ dktJ26_binaryGCD_10
def dkwJ26_binaryGCD_8 : List UInt8 := [45, 3, 181, 0, 11, 21, 6, 158, 0, 9, 45, 21, 6, 182, 0, 121, 45, 176, 44, 43, 182, 1, 85, 89]
abbrev dktJ26_binaryGCD_8 : List UInt8 := dkwJ26_binaryGCD_8 ++ dktJ26_binaryGCD_9
def dkwJ26_binaryGCD_7 : List UInt8 := [54, 12, 21, 11, 21, 12, 184, 1, 82, 54, 11, 45, 180, 0, 17, 3, 21, 11, 79, 45, 4, 181, 0, 21]
abbrev dktJ26_binaryGCD_7 : List UInt8 := dkwJ26_binaryGCD_7 ++ dktJ26_binaryGCD_8
def dkwJ26_binaryGCD_6 : List UInt8 := [162, 0, 65, 44, 180, 0, 17, 44, 180, 0, 11, 46, 54, 11, 43, 180, 0, 17, 43, 180, 0, 11, 46]
abbrev dktJ26_binaryGCD_6 : List UInt8 := dkwJ26_binaryGCD_6 ++ dktJ26_binaryGCD_7
def dkwJ26_binaryGCD_5 : List UInt8 := [25, 8, 77, 167, 0, 6, 25, 8, 76, 44, 180, 0, 21, 5, 162, 0, 73, 43, 180, 0, 21, 5]
abbrev dktJ26_binaryGCD_5 : List UInt8 := dkwJ26_binaryGCD_5 ++ dktJ26_binaryGCD_6
def dkwJ26_binaryGCD_4 : List UInt8 := [25, 8, 182, 0, 184, 89, 54, 10, 155, 0, 131, 25, 8, 21, 10, 182, 0, 108, 21, 9, 158, 0, 9]
abbrev dktJ26_binaryGCD_4 : List UInt8 := dkwJ26_binaryGCD_4 ++ dktJ26_binaryGCD_5
def dkwJ26_binaryGCD_3 : List UInt8 := [21, 7, 153, 0, 7, 43, 167, 0, 4, 44, 58, 8, 21, 7, 153, 0, 7, 2, 167, 0, 4, 4, 54, 9]
abbrev dktJ26_binaryGCD_3 : List UInt8 := dkwJ26_binaryGCD_3 ++ dktJ26_binaryGCD_4
def dkwJ26_binaryGCD_2 : List UInt8 := [182, 0, 108, 43, 21, 6, 182, 0, 108, 21, 6, 21, 4, 160, 0, 7, 4, 167, 0, 4, 3, 54, 7]
abbrev dktJ26_binaryGCD_2 : List UInt8 := dkwJ26_binaryGCD_2 ++ dktJ26_binaryGCD_3
def dkwJ26_binaryGCD_1 : List UInt8 := [21, 5, 162, 0, 8, 21, 4, 167, 0, 5, 21, 5, 54, 6, 21, 6, 153, 0, 15, 44, 21, 6]
abbrev dktJ26_binaryGCD_1 : List UInt8 := dkwJ26_binaryGCD_1 ++ dktJ26_binaryGCD_2
def dkwJ26_binaryGCD_0 : List UInt8 := [42, 77, 187, 0, 12, 89, 183, 0, 177, 78, 44, 182, 0, 184, 54, 4, 43, 182, 0, 184, 54, 5, 21, 4]
abbrev dktJ26_binaryGCD_0 : List UInt8 := dkwJ26_binaryGCD_0 ++ dktJ26_binaryGCD_1
theorem dksJ26_binaryGCD_0 : cJ26_binaryGCD.data.toList.drop 0 = dktJ26_binaryGCD_0 := by decide +kernel
theorem dksJ26_binaryGCD_1 : cJ26_binaryGCD.data.toList.drop 24 = dktJ26_binaryGCD_1 := dk_seg dksJ26_binaryGCD_0 24 rfl rfl
theorem dksJ26_binaryGCD_2 : cJ26_binaryGCD.data.toList.drop 46 = dktJ26_binaryGCD_2 := dk_seg dksJ26_binaryGCD_1 22 rfl rfl
theorem dksJ26_binaryGCD_3 : cJ26_binaryGCD.data.toList.drop 69 = dktJ26_binaryGCD_3 := dk_seg dksJ26_binaryGCD_2 23 rfl rfl
theorem dksJ26_binaryGCD_4 : cJ26_binaryGCD.data.toList.drop 93 = dktJ26_binaryGCD_4 := dk_seg dksJ26_binaryGCD_3 24 rfl rfl
theorem dksJ26_binaryGCD_5 : cJ26_binaryGCD.data.toList.drop 116 = dktJ26_binaryGCD_5 := dk_seg dksJ26_binaryGCD_4 23 rfl rfl
theorem dksJ26_binaryGCD_6 : cJ26_binaryGCD.data.toList.drop 138 = dktJ26_binaryGCD_6 := dk_seg dksJ26_binaryGCD_5 22 rfl rfl
theorem dksJ26_binaryGCD_7 : cJ26_binaryGCD.data.toList.drop 161 = dktJ26_binaryGCD_7 := dk_seg dksJ26_binaryGCD_6 23 rfl rfl
theorem dksJ26_binaryGCD_8 : cJ26_binaryGCD.data.toList.drop 185 = dktJ26_binaryGCD_8 := dk_seg dksJ26_binaryGCD_7 24 rfl rfl
theorem dksJ26_binaryGCD_9 : cJ26_binaryGCD.data.toList.drop 209 = dktJ26_binaryGCD_9 := dk_seg dksJ26_binaryGCD_8 24 rfl rfl
theorem dksJ26_binaryGCD_10 : cJ26_binaryGCD.data.toList.drop 232 = dktJ26_binaryGCD_10 := dk_seg dksJ26_binaryGCD_9 23 rfl rfl
theorem dJ26_binaryGCD_0 : decode cJ26_binaryGCD 0 = .ok (.aload_n 0, 1) := dk_42 (dk_at dksJ26_binaryGCD_0 0 rfl rfl)
theorem dJ26_binaryGCD_1 : decode cJ26_binaryGCD 1 = .ok (.astore_n 2, 1) := dk_77 (dk_at dksJ26_binaryGCD_0 1 rfl rfl)
theorem dJ26_binaryGCD_2 : decode cJ26_binaryGCD 2 = .ok (.new 12, 3) := dk_187 0 12 (dk_at dksJ26_binaryGCD_0 2 rfl rfl)
theorem dJ26_binaryGCD_5 : decode cJ26_binaryGCD 5 = .ok (.dup, 1) := dk_89 (dk_at dksJ26_binaryGCD_0 5 rfl rfl)
theorem dJ26_binaryGCD_6 : decode cJ26_binaryGCD 6 = .ok (.invokespecial 177, 3) := dk_183 0 177 (dk_at dksJ26_binaryGCD_0 6 rfl rfl)
theorem dJ26_binaryGCD_9 : decode cJ26_binaryGCD 9 = .ok (.astore_n 3, 1) := dk_78 (dk_at dksJ26_binaryGCD_0 9 rfl rfl)
theorem dJ26_binaryGCD_10 : decode cJ26_binaryGCD 10 = .ok (.aload_n 2, 1) := dk_44 (dk_at dksJ26_binaryGCD_0 10 rfl rfl)
theorem dJ26_binaryGCD_11 : decode cJ26_binaryGCD 11 = .ok (.invokevirtual 184, 3) := dk_182 0 184 (dk_at dksJ26_binaryGCD_0 11 rfl rfl)
theorem dJ26_binaryGCD_14 : decode cJ26_binaryGCD 14 = .ok (.istore 4, 2) := dk_54 4 (dk_at dksJ26_binaryGCD_0 14 rfl rfl)
theorem dJ26_binaryGCD_16 : decode cJ26_binaryGCD 16 = .ok (.aload_n 1, 1) := dk_43 (dk_at dksJ26_binaryGCD_0 16 rfl rfl)
theorem dJ26_binaryGCD_17 : decode cJ26_binaryGCD 17 = .ok (.invokevirtual 184, 3) := dk_182 0 184 (dk_at dksJ26_binaryGCD_0 17 rfl rfl)
theorem dJ26_binaryGCD_20 : decode cJ26_binaryGCD 20 = .ok (.istore 5, 2) := dk_54 5 (dk_at dksJ26_binaryGCD_0 20 rfl rfl)
theorem dJ26_binaryGCD_22 : decode cJ26_binaryGCD 22 = .ok (.iload 4, 2) := dk_21 4 (dk_at dksJ26_binaryGCD_0 22 rfl rfl)
theorem dJ26_binaryGCD_24 : decode cJ26_binaryGCD 24 = .ok (.iload 5, 2) := dk_21 5 (dk_at dksJ26_binaryGCD_1 0 rfl rfl)
theorem dJ26_binaryGCD_26 : decode cJ26_binaryGCD 26 = .ok (.if_icmp .ge 8, 3) := dk_162 0 8 (dk_at dksJ26_binaryGCD_1 2 rfl rfl)
theorem dJ26_binaryGCD_29 : decode cJ26_binaryGCD 29 = .ok (.iload 4, 2) := dk_21 4 (dk_at dksJ26_binaryGCD_1 5 rfl rfl)
theorem dJ26_binaryGCD_31 : decode cJ26_binaryGCD 31 = .ok (.goto 5, 3) := dk_167 0 5 (dk_at dksJ26_binaryGCD_1 7 rfl rfl)
theorem dJ26_binaryGCD_34 : decode cJ26_binaryGCD 34 = .ok (.iload 5, 2) := dk_21 5 (dk_at dksJ26_binaryGCD_1 10 rfl rfl)
theorem dJ26_binaryGCD_36 : decode cJ26_binaryGCD 36 = .ok (.istore 6, 2) := dk_54 6 (dk_at dksJ26_binaryGCD_1 12 rfl rfl)
theorem dJ26_binaryGCD_38 : decode cJ26_binaryGCD 38 = .ok (.iload 6, 2) := dk_21 6 (dk_at dksJ26_binaryGCD_1 14 rfl rfl)
theorem dJ26_binaryGCD_40 : decode cJ26_binaryGCD 40 = .ok (.ifCond .eq 15, 3) := dk_153 0 15 (dk_at dksJ26_binaryGCD_1 16 rfl rfl)
theorem dJ26_binaryGCD_43 : decode cJ26_binaryGCD 43 = .ok (.aload_n 2, 1) := dk_44 (dk_at dksJ26_binaryGCD_1 19 rfl rfl)
theorem dJ26_binaryGCD_44 : decode cJ26_binaryGCD 44 = .ok (.iload 6, 2) := dk_21 6 (dk_at dksJ26_binaryGCD_1 20 rfl rfl)
theorem dJ26_binaryGCD_46 : decode cJ26_binaryGCD 46 = .ok (.invokevirtual 108, 3) := dk_182 0 108 (dk_at dksJ26_binaryGCD_2 0 rfl rfl)
theorem dJ26_binaryGCD_49 : decode cJ26_binaryGCD 49 = .ok (.aload_n 1, 1) := dk_43 (dk_at dksJ26_binaryGCD_2 3 rfl rfl)
theorem dJ26_binaryGCD_50 : decode cJ26_binaryGCD 50 = .ok (.iload 6, 2) := dk_21 6 (dk_at dksJ26_binaryGCD_2 4 rfl rfl)
theorem dJ26_binaryGCD_52 : decode cJ26_binaryGCD 52 = .ok (.invokevirtual 108, 3) := dk_182 0 108 (dk_at dksJ26_binaryGCD_2 6 rfl rfl)
theorem dJ26_binaryGCD_55 : decode cJ26_binaryGCD 55 = .ok (.iload 6, 2) := dk_21 6 (dk_at dksJ26_binaryGCD_2 9 rfl rfl)
theorem dJ26_binaryGCD_57 : decode cJ26_binaryGCD 57 = .ok (.iload 4, 2) := dk_21 4 (dk_at dksJ26_binaryGCD_2 11 rfl rfl)
theorem dJ26_binaryGCD_59 : decode cJ26_binaryGCD 59 = .ok (.if_icmp .ne 7, 3) := dk_160 0 7 (dk_at dksJ26_binaryGCD_2 13 rfl rfl)
theorem dJ26_binaryGCD_62 : decode cJ26_binaryGCD 62 = .ok (.iconst 1, 1) := dk_4 (dk_at dksJ26_binaryGCD_2 16 rfl rfl)
theorem dJ26_binaryGCD_63 : decode cJ26_binaryGCD 63 = .ok (.goto 4, 3) := dk_167 0 4 (dk_at dksJ26_binaryGCD_2 17 rfl rfl)
theorem dJ26_binaryGCD_66 : decode cJ26_binaryGCD 66 = .ok (.iconst 0, 1) := dk_3 (dk_at dksJ26_binaryGCD_2 20 rfl rfl)
theorem dJ26_binaryGCD_67 : decode cJ26_binaryGCD 67 = .ok (.istore 7, 2) := dk_54 7 (dk_at dksJ26_binaryGCD_2 21 rfl rfl)
theorem dJ26_binaryGCD_69 : decode cJ26_binaryGCD 69 = .ok (.iload 7, 2) := dk_21 7 (dk_at dksJ26_binaryGCD_3 0 rfl rfl)
theorem dJ26_binaryGCD_71 : decode cJ26_binaryGCD 71 = .ok (.ifCond .eq 7, 3) := dk_153 0 7 (dk_at dksJ26_binaryGCD_3 2 rfl rfl)
theorem dJ26_binaryGCD_74 : decode cJ26_binaryGCD 74 = .ok (.aload_n 1, 1) := dk_43 (dk_at dksJ26_binaryGCD_3 5 rfl rfl)
theorem dJ26_binaryGCD_75 : decode cJ26_binaryGCD 75 = .ok (.goto 4, 3) := dk_167 0 4 (dk_at dksJ26_binaryGCD_3 6 rfl rfl)
theorem dJ26_binaryGCD_78 : decode cJ26_binaryGCD 78 = .ok (.aload_n 2, 1) := dk_44 (dk_at dksJ26_binaryGCD_3 9 rfl rfl)
theorem dJ26_binaryGCD_79 : decode cJ26_binaryGCD 79 = .ok (.astore 8, 2) := dk_58 8 (dk_at dksJ26_binaryGCD_3 10 rfl rfl)
theorem dJ26_binaryGCD_81 : decode cJ26_binaryGCD 81 = .ok (.iload 7, 2) := dk_21 7 (dk_at dksJ26_binaryGCD_3 12 rfl rfl)
theorem dJ26_binaryGCD_83 : decode cJ26_binaryGCD 83 = .ok (.ifCond .eq 7, 3) := dk_153 0 7 (dk_at dksJ26_binaryGCD_3 14 rfl rfl)
theorem dJ26_binaryGCD_86 : decode cJ26_binaryGCD 86 = .ok (.iconst (-1), 1) := dk_2 (dk_at dksJ26_binaryGCD_3 17 rfl rfl)
theorem dJ26_binaryGCD_87 : decode cJ26_binaryGCD 87 = .ok (.goto 4, 3) := dk_167 0 4 (dk_at dksJ26_binaryGCD_3 18 rfl rfl)
theorem dJ26_binaryGCD_90 : decode cJ26_binaryGCD 90 = .ok (.iconst 1, 1) := dk_4 (dk_at dksJ26_binaryGCD_3 21 rfl rfl)
theorem dJ26_binaryGCD_91 : decode cJ26_binaryGCD 91 = .ok (.istore 9, 2) := dk_54 9 (dk_at dksJ26_binaryGCD_3 22 rfl rfl)
theorem dJ26_binaryGCD_93 : decode cJ26_binaryGCD 93 = .ok (.aload 8, 2) := dk_25 8 (dk_at dksJ26_binaryGCD_4 0 rfl rfl)
theorem dJ26_binaryGCD_95 : decode cJ26_binaryGCD 95 = .ok (.invokevirtual 184, 3) := dk_182 0 184 (dk_at dksJ26_binaryGCD_4 2 rfl rfl)
theorem dJ26_binaryGCD_98 : decode cJ26_binaryGCD 98 = .ok (.dup, 1) := dk_89 (dk_at dksJ26_binaryGCD_4 5 rfl rfl)
theorem dJ26_binaryGCD_99 : decode cJ26_binaryGCD 99 = .ok (.istore 10, 2) := dk_54 10 (dk_at dksJ26_binaryGCD_4 6 rfl rfl)
theorem dJ26_binaryGCD_101 : decode cJ26_binaryGCD 101 = .ok (.ifCond .lt 131, 3) := dk_155 0 131 (dk_at dksJ26_binaryGCD_4 8 rfl rfl)
theorem dJ26_binaryGCD_104 : decode cJ26_binaryGCD 104 = .ok (.aload 8, 2) := dk_25 8 (dk_at dksJ26_binaryGCD_4 11 rfl rfl)
theorem dJ26_binaryGCD_106 : decode cJ26_binaryGCD 106 = .ok (.iload 10, 2) := dk_21 10 (dk_at dksJ26_binaryGCD_4 13 rfl rfl)
theorem dJ26_binaryGCD_108 : decode cJ26_binaryGCD 108 = .ok (.invokevirtual 108, 3) := dk_182 0 108 (dk_at dksJ26_binaryGCD_4 15 rfl rfl)
theorem dJ26_binaryGCD_111 : decode cJ26_binaryGCD 111 = .ok (.iload 9, 2) := dk_21 9 (dk_at dksJ26_binaryGCD_4 18 rfl rfl)
theorem dJ26_binaryGCD_113 : decode cJ26_binaryGCD 113 = .ok (.ifCond .le 9, 3) := dk_158 0 9 (dk_at dksJ26_binaryGCD_4 20 rfl rfl)
theorem dJ26_binaryGCD_116 : decode cJ26_binaryGCD 116 = .ok (.aload 8, 2) := dk_25 8 (dk_at dksJ26_binaryGCD_5 0 rfl rfl)
theorem dJ26_binaryGCD_118 : decode cJ26_binaryGCD 118 = .ok (.astore_n 2, 1) := dk_77 (dk_at dksJ26_binaryGCD_5 2 rfl rfl)
theorem dJ26_binaryGCD_119 : decode cJ26_binaryGCD 119 = .ok (.goto 6, 3) := dk_167 0 6 (dk_at dksJ26_binaryGCD_5 3 rfl rfl)
theorem dJ26_binaryGCD_122 : decode cJ26_binaryGCD 122 = .ok (.aload 8, 2) := dk_25 8 (dk_at dksJ26_binaryGCD_5 6 rfl rfl)
theorem dJ26_binaryGCD_124 : decode cJ26_binaryGCD 124 = .ok (.astore_n 1, 1) := dk_76 (dk_at dksJ26_binaryGCD_5 8 rfl rfl)
theorem dJ26_binaryGCD_125 : decode cJ26_binaryGCD 125 = .ok (.aload_n 2, 1) := dk_44 (dk_at dksJ26_binaryGCD_5 9 rfl rfl)
theorem dJ26_binaryGCD_126 : decode cJ26_binaryGCD 126 = .ok (.getfield 21, 3) := dk_180 0 21 (dk_at dksJ26_binaryGCD_5 10 rfl rfl)
theorem dJ26_binaryGCD_129 : decode cJ26_binaryGCD 129 = .ok (.iconst 2, 1) := dk_5 (dk_at dksJ26_binaryGCD_5 13 rfl rfl)
theorem dJ26_binaryGCD_130 : decode cJ26_binaryGCD 130 = .ok (.if_icmp .ge 73, 3) := dk_162 0 73 (dk_at dksJ26_binaryGCD_5 14 rfl rfl)
theorem dJ26_binaryGCD_133 : decode cJ26_binaryGCD 133 = .ok (.aload_n 1, 1) := dk_43 (dk_at dksJ26_binaryGCD_5 17 rfl rfl)
theorem dJ26_binaryGCD_134 : decode cJ26_binaryGCD 134 = .ok (.getfield 21, 3) := dk_180 0 21 (dk_at dksJ26_binaryGCD_5 18 rfl rfl)
theorem dJ26_binaryGCD_137 : decode cJ26_binaryGCD 137 = .ok (.iconst 2, 1) := dk_5 (dk_at dksJ26_binaryGCD_5 21 rfl rfl)
theorem dJ26_binaryGCD_138 : decode cJ26_binaryGCD 138 = .ok (.if_icmp .ge 65, 3) := dk_162 0 65 (dk_at dksJ26_binaryGCD_6 0 rfl rfl)
theorem dJ26_binaryGCD_141 : decode cJ26_binaryGCD 141 = .ok (.aload_n 2, 1) := dk_44 (dk_at dksJ26_binaryGCD_6 3 rfl rfl)
theorem dJ26_binaryGCD_142 : decode cJ26_binaryGCD 142 = .ok (.getfield 17, 3) := dk_180 0 17 (dk_at dksJ26_binaryGCD_6 4 rfl rfl)
theorem dJ26_binaryGCD_145 : decode cJ26_binaryGCD 145 = .ok (.aload_n 2, 1) := dk_44 (dk_at dksJ26_binaryGCD_6 7 rfl rfl)
theorem dJ26_binaryGCD_146 : decode cJ26_binaryGCD 146 = .ok (.getfield 11, 3) := dk_180 0 11 (dk_at dksJ26_binaryGCD_6 8 rfl rfl)
theorem dJ26_binaryGCD_149 : decode cJ26_binaryGCD 149 = .ok (.iaload, 1) := dk_46 (dk_at dksJ26_binaryGCD_6 11 rfl rfl)
theorem dJ26_binaryGCD_150 : decode cJ26_binaryGCD 150 = .ok (.istore 11, 2) := dk_54 11 (dk_at dksJ26_binaryGCD_6 12 rfl rfl)
theorem dJ26_binaryGCD_152 : decode cJ26_binaryGCD 152 = .ok (.aload_n 1, 1) := dk_43 (dk_at dksJ26_binaryGCD_6 14 rfl rfl)
theorem dJ26_binaryGCD_153 : decode cJ26_binaryGCD 153 = .ok (.getfield 17, 3) := dk_180 0 17 (dk_at dksJ26_binaryGCD_6 15 rfl rfl)
theorem dJ26_binaryGCD_156 : decode cJ26_binaryGCD 156 = .ok (.aload_n 1, 1) := dk_43 (dk_at dksJ26_binaryGCD_6 18 rfl rfl)
theorem dJ26_binaryGCD_157 : decode cJ26_binaryGCD 157 = .ok (.getfield 11, 3) := dk_180 0 11 (dk_at dksJ26_binaryGCD_6 19 rfl rfl)
theorem dJ26_binaryGCD_160 : decode cJ26_binaryGCD 160 = .ok (.iaload, 1) := dk_46 (dk_at dksJ26_binaryGCD_6 22 rfl rfl)
theorem dJ26_binaryGCD_161 : decode cJ26_binaryGCD 161 = .ok (.istore 12, 2) := dk_54 12 (dk_at dksJ26_binaryGCD_7 0 rfl rfl)
theorem dJ26_binaryGCD_163 : decode cJ26_binaryGCD 163 = .ok (.iload 11, 2) := dk_21 11 (dk_at dksJ26_binaryGCD_7 2 rfl rfl)
theorem dJ26_binaryGCD_165 : decode cJ26_binaryGCD 165 = .ok (.iload 12, 2) := dk_21 12 (dk_at dksJ26_binaryGCD_7 4 rfl rfl)
theorem dJ26_binaryGCD_167 : decode cJ26_binaryGCD 167 = .ok (.invokestatic 338, 3) := dk_184 1 82 (dk_at dksJ26_binaryGCD_7 6 rfl rfl)
theorem dJ26_binaryGCD_170 : decode cJ26_binaryGCD 170 = .ok (.istore 11, 2) := dk_54 11 (dk_at dksJ26_binaryGCD_7 9 rfl rfl)
theorem dJ26_binaryGCD_172 : decode cJ26_binaryGCD 172 = .ok (.aload_n 3, 1) := dk_45 (dk_at dksJ26_binaryGCD_7 11 rfl rfl)
theorem dJ26_binaryGCD_173 : decode cJ26_binaryGCD 173 = .ok (.getfield 17, 3) := dk_180 0 17 (dk_at dksJ26_binaryGCD_7 12 rfl rfl)
theorem dJ26_binaryGCD_176 : decode cJ26_binaryGCD 176 = .ok (.iconst 0, 1) := dk_3 (dk_at dksJ26_binaryGCD_7 15 rfl rfl)
theorem dJ26_binaryGCD_177 : decode cJ26_binaryGCD 177 = .ok (.iload 11, 2) := dk_21 11 (dk_at dksJ26_binaryGCD_7 16 rfl rfl)
theorem dJ26_binaryGCD_179 : decode cJ26_binaryGCD 179 = .ok (.iastore, 1) := dk_79 (dk_at dksJ26_binaryGCD_7 18 rfl rfl)
theorem dJ26_binaryGCD_180 : decode cJ26_binaryGCD 180 = .ok (.aload_n 3, 1) := dk_45 (dk_at dksJ26_binaryGCD_7 19 rfl rfl)
theorem dJ26_binaryGCD_181 : decode cJ26_binaryGCD 181 = .ok (.iconst 1, 1) := dk_4 (dk_at dksJ26_binaryGCD_7 20 rfl rfl)
theorem dJ26_binaryGCD_182 : decode cJ26_binaryGCD 182 = .ok (.putfield 21, 3) := dk_181 0 21 (dk_at dksJ26_binaryGCD_7 21 rfl rfl)
theorem dJ26_binaryGCD_185 : decode cJ26_binaryGCD 185 = .ok (.aload_n 3, 1) := dk_45 (dk_at dksJ26_binaryGCD_8 0 rfl rfl)
theorem dJ26_binaryGCD_186 : decode cJ26_binaryGCD 186 = .ok (.iconst 0, 1) := dk_3 (dk_at dksJ26_binaryGCD_8 1 rfl rfl)
theorem dJ26_binaryGCD_187 : decode cJ26_binaryGCD 187 = .ok (.putfield 11, 3) := dk_181 0 11 (dk_at dksJ26_binaryGCD_8 2 rfl rfl)
theorem dJ26_binaryGCD_190 : decode cJ26_binaryGCD 190 = .ok (.iload 6, 2) := dk_21 6 (dk_at dksJ26_binaryGCD_8 5 rfl rfl)
theorem dJ26_binaryGCD_192 : decode cJ26_binaryGCD 192 = .ok (.ifCond .le 9, 3) := dk_158 0 9 (dk_at dksJ26_binaryGCD_8 7 rfl rfl)
theorem dJ26_binaryGCD_195 : decode cJ26_binaryGCD 195 = .ok (.aload_n 3, 1) := dk_45 (dk_at dksJ26_binaryGCD_8 10 rfl rfl)
theorem dJ26_binaryGCD_196 : decode cJ26_binaryGCD 196 = .ok (.iload 6, 2) := dk_21 6 (dk_at dksJ26_binaryGCD_8 11 rfl rfl)
theorem dJ26_binaryGCD_198 : decode cJ26_binaryGCD 198 = .ok (.invokevirtual 121, 3) := dk_182 0 121 (dk_at dksJ26_binaryGCD_8 13 rfl rfl)
theorem dJ26_binaryGCD_201 : decode cJ26_binaryGCD 201 = .ok (.aload_n 3, 1) := dk_45 (dk_at dksJ26_binaryGCD_8 16 rfl rfl)
theorem dJ26_binaryGCD_202 : decode cJ26_binaryGCD 202 = .ok (.areturn, 1) := dk_176 (dk_at dksJ26_binaryGCD_8 17 rfl rfl)
theorem dJ26_binaryGCD_203 : decode cJ26_binaryGCD 203 = .ok (.aload_n 2, 1) := dk_44 (dk_at dksJ26_binaryGCD_8 18 rfl rfl)
theorem dJ26_binaryGCD_204 : decode cJ26_binaryGCD 204 = .ok (.aload_n 1, 1) := dk_43 (dk_at dksJ26_binaryGCD_8 19 rfl rfl)
theorem dJ26_binaryGCD_205 : decode cJ26_binaryGCD 205 = .ok (.invokevirtual 341, 3) := dk_182 1 85 (dk_at dksJ26_binaryGCD_8 20 rfl rfl)
theorem dJ26_binaryGCD_208 : decode cJ26_binaryGCD 208 = .ok (.dup, 1) := dk_89 (dk_at dksJ26_binaryGCD_8 23 rfl rfl)
theorem dJ26_binaryGCD_209 : decode cJ26_binaryGCD 209 = .ok (.istore 9, 2) := dk_54 9 (dk_at dksJ26_binaryGCD_9 0 rfl rfl)
theorem dJ26_binaryGCD_211 : decode cJ26_binaryGCD 211 = .ok (.ifCond .ne 6, 3) := dk_154 0 6 (dk_at dksJ26_binaryGCD_9 2 rfl rfl)
theorem dJ26_binaryGCD_214 : decode cJ26_binaryGCD 214 = .ok (.goto 18, 3) := dk_167 0 18 (dk_at dksJ26_binaryGCD_9 5 rfl rfl)
theorem dJ26_binaryGCD_217 : decode cJ26_binaryGCD 217 = .ok (.iload 9, 2) := dk_21 9 (dk_at dksJ26_binaryGCD_9 8 rfl rfl)
theorem dJ26_binaryGCD_219 : decode cJ26_binaryGCD 219 = .ok (.ifCond .lt 7, 3) := dk_155 0 7 (dk_at dksJ26_binaryGCD_9 10 rfl rfl)
theorem dJ26_binaryGCD_222 : decode cJ26_binaryGCD 222 = .ok (.aload_n 2, 1) := dk_44 (dk_at dksJ26_binaryGCD_9 13 rfl rfl)
theorem dJ26_binaryGCD_223 : decode cJ26_binaryGCD 223 = .ok (.goto 4, 3) := dk_167 0 4 (dk_at dksJ26_binaryGCD_9 14 rfl rfl)
theorem dJ26_binaryGCD_226 : decode cJ26_binaryGCD 226 = .ok (.aload_n 1, 1) := dk_43 (dk_at dksJ26_binaryGCD_9 17 rfl rfl)
theorem dJ26_binaryGCD_227 : decode cJ26_binaryGCD 227 = .ok (.astore 8, 2) := dk_58 8 (dk_at dksJ26_binaryGCD_9 18 rfl rfl)
theorem dJ26_binaryGCD_229 : decode cJ26_binaryGCD 229 = .ok (.goto (-136), 3) := dk_167 255 120 (dk_at dksJ26_binaryGCD_9 20 rfl rfl)
theorem dJ26_binaryGCD_232 : decode cJ26_binaryGCD 232 = .ok (.iload 6, 2) := dk_21 6 (dk_at dksJ26_binaryGCD_10 0 rfl rfl)
theorem dJ26_binaryGCD_234 : decode cJ26_binaryGCD 234 = .ok (.ifCond .le 9, 3) := dk_158 0 9 (dk_at dksJ26_binaryGCD_10 2 rfl rfl)
theorem dJ26_binaryGCD_237 : decode cJ26_binaryGCD 237 = .ok (.aload_n 2, 1) := dk_44 (dk_at dksJ26_binaryGCD_10 5 rfl rfl)
theorem dJ26_binaryGCD_238 : decode cJ26_binaryGCD 238 = .ok (.iload 6, 2) := dk_21 6 (dk_at dksJ26_binaryGCD_10 6 rfl rfl)
theorem dJ26_binaryGCD_240 : decode cJ26_binaryGCD 240 = .ok (.invokevirtual 121, 3) := dk_182 0 121 (dk_at dksJ26_binaryGCD_10 8 rfl rfl)
theorem dJ26_binaryGCD_243 : decode cJ26_binaryGCD 243 = .ok (.aload_n 2, 1) := dk_44 (dk_at dksJ26_binaryGCD_10 11 rfl rfl)
theorem dJ26_binaryGCD_244 : decode cJ26_binaryGCD 244 = .ok (.areturn, 1) := dk_176 (dk_at dksJ26_binaryGCD_10 12 rfl rfl)
abbrev cJ26_getLowestSetBit : ByteArray := prog_33_method_18_code
def yJ26_getLowestSetBit : MethodName := ⟨RJ26, "getLowestSetBit", "()I"⟩
def dkwJ26_getLowestSetBit_3 : List UInt8 := [184, 0, 89, 96, 172]
abbrev dktJ26_getLowestSetBit_3 : List UInt8 := dkwJ26_getLowestSetBit_3 ++ []
def dkwJ26_getLowestSetBit_2 : List UInt8 := [180, 0, 11, 96, 46, 61, 28, 154, 0, 5, 2, 172, 42, 180, 0, 21, 4, 100, 27, 100, 8, 120, 28]
abbrev dktJ26_getLowestSetBit_2 : List UInt8 := dkwJ26_getLowestSetBit_2 ++ dktJ26_getLowestSetBit_3
def dkwJ26_getLowestSetBit_1 : List UInt8 := [27, 42, 180, 0, 11, 96, 46, 154, 0, 9, 132, 1, 255, 167, 255, 235, 42, 180, 0, 17, 27, 42]
abbrev dktJ26_getLowestSetBit_1 : List UInt8 := dkwJ26_getLowestSetBit_1 ++ dktJ26_getLowestSetBit_2
def dkwJ26_getLowestSetBit_0 : List UInt8 := [42, 180, 0, 21, 154, 0, 5, 2, 172, 42, 180, 0, 21, 4, 100, 60, 27, 158, 0, 23, 42, 180, 0, 17]
abbrev dktJ26_getLowestSetBit_0 : List UInt8 := dkwJ26_getLowestSetBit_0 ++ dktJ26_getLowestSetBit_1
theorem dksJ26_getLowestSetBit_0 : cJ26_getLowestSetBit.data.toList.drop 0 = dktJ26_getLowestSetBit_0 := by decide +kernel
theorem dksJ26_getLowestSetBit_1 : cJ26_getLowestSetBit.data.toList.drop 24 = dktJ26_getLowestSetBit_1 := dk_seg dksJ26_getLowestSetBit_0 24 rfl rfl
theorem dksJ26_getLowestSetBit_2 : cJ26_getLowestSetBit.data.toList.drop 46 = dktJ26_getLowestSetBit_2 := dk_seg dksJ26_getLowestSetBit_1 22 rfl rfl
theorem dksJ26_getLowestSetBit_3 : cJ26_getLowestSetBit.data.toList.drop 69 = dktJ26_getLowestSetBit_3 := dk_seg dksJ26_getLowestSetBit_2 23 rfl rfl
theorem dJ26_getLowestSetBit_0 : decode cJ26_getLowestSetBit 0 = .ok (.aload_n 0, 1) := dk_42 (dk_at dksJ26_getLowestSetBit_0 0 rfl rfl)
theorem dJ26_getLowestSetBit_1 : decode cJ26_getLowestSetBit 1 = .ok (.getfield 21, 3) := dk_180 0 21 (dk_at dksJ26_getLowestSetBit_0 1 rfl rfl)
theorem dJ26_getLowestSetBit_4 : decode cJ26_getLowestSetBit 4 = .ok (.ifCond .ne 5, 3) := dk_154 0 5 (dk_at dksJ26_getLowestSetBit_0 4 rfl rfl)
theorem dJ26_getLowestSetBit_7 : decode cJ26_getLowestSetBit 7 = .ok (.iconst (-1), 1) := dk_2 (dk_at dksJ26_getLowestSetBit_0 7 rfl rfl)
theorem dJ26_getLowestSetBit_8 : decode cJ26_getLowestSetBit 8 = .ok (.ireturn, 1) := dk_172 (dk_at dksJ26_getLowestSetBit_0 8 rfl rfl)
theorem dJ26_getLowestSetBit_9 : decode cJ26_getLowestSetBit 9 = .ok (.aload_n 0, 1) := dk_42 (dk_at dksJ26_getLowestSetBit_0 9 rfl rfl)
theorem dJ26_getLowestSetBit_10 : decode cJ26_getLowestSetBit 10 = .ok (.getfield 21, 3) := dk_180 0 21 (dk_at dksJ26_getLowestSetBit_0 10 rfl rfl)
theorem dJ26_getLowestSetBit_13 : decode cJ26_getLowestSetBit 13 = .ok (.iconst 1, 1) := dk_4 (dk_at dksJ26_getLowestSetBit_0 13 rfl rfl)
theorem dJ26_getLowestSetBit_14 : decode cJ26_getLowestSetBit 14 = .ok (.isub, 1) := dk_100 (dk_at dksJ26_getLowestSetBit_0 14 rfl rfl)
theorem dJ26_getLowestSetBit_15 : decode cJ26_getLowestSetBit 15 = .ok (.istore_n 1, 1) := dk_60 (dk_at dksJ26_getLowestSetBit_0 15 rfl rfl)
theorem dJ26_getLowestSetBit_16 : decode cJ26_getLowestSetBit 16 = .ok (.iload_n 1, 1) := dk_27 (dk_at dksJ26_getLowestSetBit_0 16 rfl rfl)
theorem dJ26_getLowestSetBit_17 : decode cJ26_getLowestSetBit 17 = .ok (.ifCond .le 23, 3) := dk_158 0 23 (dk_at dksJ26_getLowestSetBit_0 17 rfl rfl)
theorem dJ26_getLowestSetBit_20 : decode cJ26_getLowestSetBit 20 = .ok (.aload_n 0, 1) := dk_42 (dk_at dksJ26_getLowestSetBit_0 20 rfl rfl)
theorem dJ26_getLowestSetBit_21 : decode cJ26_getLowestSetBit 21 = .ok (.getfield 17, 3) := dk_180 0 17 (dk_at dksJ26_getLowestSetBit_0 21 rfl rfl)
theorem dJ26_getLowestSetBit_24 : decode cJ26_getLowestSetBit 24 = .ok (.iload_n 1, 1) := dk_27 (dk_at dksJ26_getLowestSetBit_1 0 rfl rfl)
theorem dJ26_getLowestSetBit_25 : decode cJ26_getLowestSetBit 25 = .ok (.aload_n 0, 1) := dk_42 (dk_at dksJ26_getLowestSetBit_1 1 rfl rfl)
theorem dJ26_getLowestSetBit_26 : decode cJ26_getLowestSetBit 26 = .ok (.getfield 11, 3) := dk_180 0 11 (dk_at dksJ26_getLowestSetBit_1 2 rfl rfl)
theorem dJ26_getLowestSetBit_29 : decode cJ26_getLowestSetBit 29 = .ok (.iadd, 1) := dk_96 (dk_at dksJ26_getLowestSetBit_1 5 rfl rfl)
theorem dJ26_getLowestSetBit_30 : decode cJ26_getLowestSetBit 30 = .ok (.iaload, 1) := dk_46 (dk_at dksJ26_getLowestSetBit_1 6 rfl rfl)
theorem dJ26_getLowestSetBit_31 : decode cJ26_getLowestSetBit 31 = .ok (.ifCond .ne 9, 3) := dk_154 0 9 (dk_at dksJ26_getLowestSetBit_1 7 rfl rfl)
theorem dJ26_getLowestSetBit_34 : decode cJ26_getLowestSetBit 34 = .ok (.iinc 1 (-1), 3) := dk_132 1 255 (dk_at dksJ26_getLowestSetBit_1 10 rfl rfl)
theorem dJ26_getLowestSetBit_37 : decode cJ26_getLowestSetBit 37 = .ok (.goto (-21), 3) := dk_167 255 235 (dk_at dksJ26_getLowestSetBit_1 13 rfl rfl)
theorem dJ26_getLowestSetBit_40 : decode cJ26_getLowestSetBit 40 = .ok (.aload_n 0, 1) := dk_42 (dk_at dksJ26_getLowestSetBit_1 16 rfl rfl)
theorem dJ26_getLowestSetBit_41 : decode cJ26_getLowestSetBit 41 = .ok (.getfield 17, 3) := dk_180 0 17 (dk_at dksJ26_getLowestSetBit_1 17 rfl rfl)
theorem dJ26_getLowestSetBit_44 : decode cJ26_getLowestSetBit 44 = .ok (.iload_n 1, 1) := dk_27 (dk_at dksJ26_getLowestSetBit_1 20 rfl rfl)
theorem dJ26_getLowestSetBit_45 : decode cJ26_getLowestSetBit 45 = .ok (.aload_n 0, 1) := dk_42 (dk_at dksJ26_getLowestSetBit_1 21 rfl rfl)
theorem dJ26_getLowestSetBit_46 : decode cJ26_getLowestSetBit 46 = .ok (.getfield 11, 3) := dk_180 0 11 (dk_at dksJ26_getLowestSetBit_2 0 rfl rfl)
theorem dJ26_getLowestSetBit_49 : decode cJ26_getLowestSetBit 49 = .ok (.iadd, 1) := dk_96 (dk_at dksJ26_getLowestSetBit_2 3 rfl rfl)
theorem dJ26_getLowestSetBit_50 : decode cJ26_getLowestSetBit 50 = .ok (.iaload, 1) := dk_46 (dk_at dksJ26_getLowestSetBit_2 4 rfl rfl)
theorem dJ26_getLowestSetBit_51 : decode cJ26_getLowestSetBit 51 = .ok (.istore_n 2, 1) := dk_61 (dk_at dksJ26_getLowestSetBit_2 5 rfl rfl)
theorem dJ26_getLowestSetBit_52 : decode cJ26_getLowestSetBit 52 = .ok (.iload_n 2, 1) := dk_28 (dk_at dksJ26_getLowestSetBit_2 6 rfl rfl)
theorem dJ26_getLowestSetBit_53 : decode cJ26_getLowestSetBit 53 = .ok (.ifCond .ne 5, 3) := dk_154 0 5 (dk_at dksJ26_getLowestSetBit_2 7 rfl rfl)
theorem dJ26_getLowestSetBit_56 : decode cJ26_getLowestSetBit 56 = .ok (.iconst (-1), 1) := dk_2 (dk_at dksJ26_getLowestSetBit_2 10 rfl rfl)
theorem dJ26_getLowestSetBit_57 : decode cJ26_getLowestSetBit 57 = .ok (.ireturn, 1) := dk_172 (dk_at dksJ26_getLowestSetBit_2 11 rfl rfl)
theorem dJ26_getLowestSetBit_58 : decode cJ26_getLowestSetBit 58 = .ok (.aload_n 0, 1) := dk_42 (dk_at dksJ26_getLowestSetBit_2 12 rfl rfl)
theorem dJ26_getLowestSetBit_59 : decode cJ26_getLowestSetBit 59 = .ok (.getfield 21, 3) := dk_180 0 21 (dk_at dksJ26_getLowestSetBit_2 13 rfl rfl)
theorem dJ26_getLowestSetBit_62 : decode cJ26_getLowestSetBit 62 = .ok (.iconst 1, 1) := dk_4 (dk_at dksJ26_getLowestSetBit_2 16 rfl rfl)
theorem dJ26_getLowestSetBit_63 : decode cJ26_getLowestSetBit 63 = .ok (.isub, 1) := dk_100 (dk_at dksJ26_getLowestSetBit_2 17 rfl rfl)
theorem dJ26_getLowestSetBit_64 : decode cJ26_getLowestSetBit 64 = .ok (.iload_n 1, 1) := dk_27 (dk_at dksJ26_getLowestSetBit_2 18 rfl rfl)
theorem dJ26_getLowestSetBit_65 : decode cJ26_getLowestSetBit 65 = .ok (.isub, 1) := dk_100 (dk_at dksJ26_getLowestSetBit_2 19 rfl rfl)
theorem dJ26_getLowestSetBit_66 : decode cJ26_getLowestSetBit 66 = .ok (.iconst 5, 1) := dk_8 (dk_at dksJ26_getLowestSetBit_2 20 rfl rfl)
theorem dJ26_getLowestSetBit_67 : decode cJ26_getLowestSetBit 67 = .ok (.ishl, 1) := dk_120 (dk_at dksJ26_getLowestSetBit_2 21 rfl rfl)
theorem dJ26_getLowestSetBit_68 : decode cJ26_getLowestSetBit 68 = .ok (.iload_n 2, 1) := dk_28 (dk_at dksJ26_getLowestSetBit_2 22 rfl rfl)
theorem dJ26_getLowestSetBit_69 : decode cJ26_getLowestSetBit 69 = .ok (.invokestatic 89, 3) := dk_184 0 89 (dk_at dksJ26_getLowestSetBit_3 0 rfl rfl)
theorem dJ26_getLowestSetBit_72 : decode cJ26_getLowestSetBit 72 = .ok (.iadd, 1) := dk_96 (dk_at dksJ26_getLowestSetBit_3 3 rfl rfl)
theorem dJ26_getLowestSetBit_73 : decode cJ26_getLowestSetBit 73 = .ok (.ireturn, 1) := dk_172 (dk_at dksJ26_getLowestSetBit_3 4 rfl rfl)
abbrev cJ26_rightShift : ByteArray := prog_33_method_35_code
def yJ26_rightShift : MethodName := ⟨RJ26, "rightShift", "(I)V"⟩
def dkwJ26_rightShift_3 : List UInt8 := [167, 0, 8, 42, 29, 182, 0, 118, 177]
abbrev dktJ26_rightShift_3 : List UInt8 := dkwJ26_rightShift_3 ++ []
def dkwJ26_rightShift_2 : List UInt8 := [21, 4, 161, 0, 24, 42, 16, 32, 29, 100, 182, 0, 115, 42, 89, 180, 0, 21, 4, 100, 181, 0, 21]
abbrev dktJ26_rightShift_2 : List UInt8 := dkwJ26_rightShift_2 ++ dktJ26_rightShift_3
def dkwJ26_rightShift_1 : List UInt8 := [181, 0, 21, 29, 154, 0, 4, 177, 42, 180, 0, 17, 42, 180, 0, 11, 46, 184, 0, 112, 54, 4, 29]
abbrev dktJ26_rightShift_1 : List UInt8 := dkwJ26_rightShift_1 ++ dktJ26_rightShift_2
def dkwJ26_rightShift_0 : List UInt8 := [42, 180, 0, 21, 154, 0, 4, 177, 27, 8, 124, 61, 27, 16, 31, 126, 62, 42, 89, 180, 0, 21, 28, 100]
abbrev dktJ26_rightShift_0 : List UInt8 := dkwJ26_rightShift_0 ++ dktJ26_rightShift_1
theorem dksJ26_rightShift_0 : cJ26_rightShift.data.toList.drop 0 = dktJ26_rightShift_0 := by decide +kernel
theorem dksJ26_rightShift_1 : cJ26_rightShift.data.toList.drop 24 = dktJ26_rightShift_1 := dk_seg dksJ26_rightShift_0 24 rfl rfl
theorem dksJ26_rightShift_2 : cJ26_rightShift.data.toList.drop 47 = dktJ26_rightShift_2 := dk_seg dksJ26_rightShift_1 23 rfl rfl
theorem dksJ26_rightShift_3 : cJ26_rightShift.data.toList.drop 70 = dktJ26_rightShift_3 := dk_seg dksJ26_rightShift_2 23 rfl rfl
theorem dJ26_rightShift_0 : decode cJ26_rightShift 0 = .ok (.aload_n 0, 1) := dk_42 (dk_at dksJ26_rightShift_0 0 rfl rfl)
theorem dJ26_rightShift_1 : decode cJ26_rightShift 1 = .ok (.getfield 21, 3) := dk_180 0 21 (dk_at dksJ26_rightShift_0 1 rfl rfl)
theorem dJ26_rightShift_4 : decode cJ26_rightShift 4 = .ok (.ifCond .ne 4, 3) := dk_154 0 4 (dk_at dksJ26_rightShift_0 4 rfl rfl)
theorem dJ26_rightShift_7 : decode cJ26_rightShift 7 = .ok (.return_, 1) := dk_177 (dk_at dksJ26_rightShift_0 7 rfl rfl)
theorem dJ26_rightShift_8 : decode cJ26_rightShift 8 = .ok (.iload_n 1, 1) := dk_27 (dk_at dksJ26_rightShift_0 8 rfl rfl)
theorem dJ26_rightShift_9 : decode cJ26_rightShift 9 = .ok (.iconst 5, 1) := dk_8 (dk_at dksJ26_rightShift_0 9 rfl rfl)
theorem dJ26_rightShift_10 : decode cJ26_rightShift 10 = .ok (.iushr, 1) := dk_124 (dk_at dksJ26_rightShift_0 10 rfl rfl)
theorem dJ26_rightShift_11 : decode cJ26_rightShift 11 = .ok (.istore_n 2, 1) := dk_61 (dk_at dksJ26_rightShift_0 11 rfl rfl)
theorem dJ26_rightShift_12 : decode cJ26_rightShift 12 = .ok (.iload_n 1, 1) := dk_27 (dk_at dksJ26_rightShift_0 12 rfl rfl)
theorem dJ26_rightShift_13 : decode cJ26_rightShift 13 = .ok (.bipush 31, 2) := dk_16 31 (dk_at dksJ26_rightShift_0 13 rfl rfl)
theorem dJ26_rightShift_15 : decode cJ26_rightShift 15 = .ok (.iand, 1) := dk_126 (dk_at dksJ26_rightShift_0 15 rfl rfl)
theorem dJ26_rightShift_16 : decode cJ26_rightShift 16 = .ok (.istore_n 3, 1) := dk_62 (dk_at dksJ26_rightShift_0 16 rfl rfl)
theorem dJ26_rightShift_17 : decode cJ26_rightShift 17 = .ok (.aload_n 0, 1) := dk_42 (dk_at dksJ26_rightShift_0 17 rfl rfl)
theorem dJ26_rightShift_18 : decode cJ26_rightShift 18 = .ok (.dup, 1) := dk_89 (dk_at dksJ26_rightShift_0 18 rfl rfl)
theorem dJ26_rightShift_19 : decode cJ26_rightShift 19 = .ok (.getfield 21, 3) := dk_180 0 21 (dk_at dksJ26_rightShift_0 19 rfl rfl)
theorem dJ26_rightShift_22 : decode cJ26_rightShift 22 = .ok (.iload_n 2, 1) := dk_28 (dk_at dksJ26_rightShift_0 22 rfl rfl)
theorem dJ26_rightShift_23 : decode cJ26_rightShift 23 = .ok (.isub, 1) := dk_100 (dk_at dksJ26_rightShift_0 23 rfl rfl)
theorem dJ26_rightShift_24 : decode cJ26_rightShift 24 = .ok (.putfield 21, 3) := dk_181 0 21 (dk_at dksJ26_rightShift_1 0 rfl rfl)
theorem dJ26_rightShift_27 : decode cJ26_rightShift 27 = .ok (.iload_n 3, 1) := dk_29 (dk_at dksJ26_rightShift_1 3 rfl rfl)
theorem dJ26_rightShift_28 : decode cJ26_rightShift 28 = .ok (.ifCond .ne 4, 3) := dk_154 0 4 (dk_at dksJ26_rightShift_1 4 rfl rfl)
theorem dJ26_rightShift_31 : decode cJ26_rightShift 31 = .ok (.return_, 1) := dk_177 (dk_at dksJ26_rightShift_1 7 rfl rfl)
theorem dJ26_rightShift_32 : decode cJ26_rightShift 32 = .ok (.aload_n 0, 1) := dk_42 (dk_at dksJ26_rightShift_1 8 rfl rfl)
theorem dJ26_rightShift_33 : decode cJ26_rightShift 33 = .ok (.getfield 17, 3) := dk_180 0 17 (dk_at dksJ26_rightShift_1 9 rfl rfl)
theorem dJ26_rightShift_36 : decode cJ26_rightShift 36 = .ok (.aload_n 0, 1) := dk_42 (dk_at dksJ26_rightShift_1 12 rfl rfl)
theorem dJ26_rightShift_37 : decode cJ26_rightShift 37 = .ok (.getfield 11, 3) := dk_180 0 11 (dk_at dksJ26_rightShift_1 13 rfl rfl)
theorem dJ26_rightShift_40 : decode cJ26_rightShift 40 = .ok (.iaload, 1) := dk_46 (dk_at dksJ26_rightShift_1 16 rfl rfl)
theorem dJ26_rightShift_41 : decode cJ26_rightShift 41 = .ok (.invokestatic 112, 3) := dk_184 0 112 (dk_at dksJ26_rightShift_1 17 rfl rfl)
theorem dJ26_rightShift_44 : decode cJ26_rightShift 44 = .ok (.istore 4, 2) := dk_54 4 (dk_at dksJ26_rightShift_1 20 rfl rfl)
theorem dJ26_rightShift_46 : decode cJ26_rightShift 46 = .ok (.iload_n 3, 1) := dk_29 (dk_at dksJ26_rightShift_1 22 rfl rfl)
theorem dJ26_rightShift_47 : decode cJ26_rightShift 47 = .ok (.iload 4, 2) := dk_21 4 (dk_at dksJ26_rightShift_2 0 rfl rfl)
theorem dJ26_rightShift_49 : decode cJ26_rightShift 49 = .ok (.if_icmp .lt 24, 3) := dk_161 0 24 (dk_at dksJ26_rightShift_2 2 rfl rfl)
theorem dJ26_rightShift_52 : decode cJ26_rightShift 52 = .ok (.aload_n 0, 1) := dk_42 (dk_at dksJ26_rightShift_2 5 rfl rfl)
theorem dJ26_rightShift_53 : decode cJ26_rightShift 53 = .ok (.bipush 32, 2) := dk_16 32 (dk_at dksJ26_rightShift_2 6 rfl rfl)
theorem dJ26_rightShift_55 : decode cJ26_rightShift 55 = .ok (.iload_n 3, 1) := dk_29 (dk_at dksJ26_rightShift_2 8 rfl rfl)
theorem dJ26_rightShift_56 : decode cJ26_rightShift 56 = .ok (.isub, 1) := dk_100 (dk_at dksJ26_rightShift_2 9 rfl rfl)
theorem dJ26_rightShift_57 : decode cJ26_rightShift 57 = .ok (.invokevirtual 115, 3) := dk_182 0 115 (dk_at dksJ26_rightShift_2 10 rfl rfl)
theorem dJ26_rightShift_60 : decode cJ26_rightShift 60 = .ok (.aload_n 0, 1) := dk_42 (dk_at dksJ26_rightShift_2 13 rfl rfl)
theorem dJ26_rightShift_61 : decode cJ26_rightShift 61 = .ok (.dup, 1) := dk_89 (dk_at dksJ26_rightShift_2 14 rfl rfl)
theorem dJ26_rightShift_62 : decode cJ26_rightShift 62 = .ok (.getfield 21, 3) := dk_180 0 21 (dk_at dksJ26_rightShift_2 15 rfl rfl)
theorem dJ26_rightShift_65 : decode cJ26_rightShift 65 = .ok (.iconst 1, 1) := dk_4 (dk_at dksJ26_rightShift_2 18 rfl rfl)
theorem dJ26_rightShift_66 : decode cJ26_rightShift 66 = .ok (.isub, 1) := dk_100 (dk_at dksJ26_rightShift_2 19 rfl rfl)
theorem dJ26_rightShift_67 : decode cJ26_rightShift 67 = .ok (.putfield 21, 3) := dk_181 0 21 (dk_at dksJ26_rightShift_2 20 rfl rfl)
theorem dJ26_rightShift_70 : decode cJ26_rightShift 70 = .ok (.goto 8, 3) := dk_167 0 8 (dk_at dksJ26_rightShift_3 0 rfl rfl)
theorem dJ26_rightShift_73 : decode cJ26_rightShift 73 = .ok (.aload_n 0, 1) := dk_42 (dk_at dksJ26_rightShift_3 3 rfl rfl)
theorem dJ26_rightShift_74 : decode cJ26_rightShift 74 = .ok (.iload_n 3, 1) := dk_29 (dk_at dksJ26_rightShift_3 4 rfl rfl)
theorem dJ26_rightShift_75 : decode cJ26_rightShift 75 = .ok (.invokevirtual 118, 3) := dk_182 0 118 (dk_at dksJ26_rightShift_3 5 rfl rfl)
theorem dJ26_rightShift_78 : decode cJ26_rightShift 78 = .ok (.return_, 1) := dk_177 (dk_at dksJ26_rightShift_3 8 rfl rfl)
abbrev cJ26_primitiveLeftShift : ByteArray := prog_33_method_42_code
def yJ26_primitiveLeftShift : MethodName := ⟨RJ26, "primitiveLeftShift", "(I)V"⟩
def dkwJ26_primitiveLeftShift_3 : List UInt8 := [42, 180, 0, 11, 42, 180, 0, 21, 96, 4, 100, 92, 46, 27, 120, 79, 177]
abbrev dktJ26_primitiveLeftShift_3 : List UInt8 := dkwJ26_primitiveLeftShift_3 ++ []
def dkwJ26_primitiveLeftShift_2 : List UInt8 := [96, 46, 54, 5, 44, 21, 4, 21, 7, 27, 120, 21, 5, 29, 124, 128, 79, 132, 4, 1, 167, 255, 221, 44]
abbrev dktJ26_primitiveLeftShift_2 : List UInt8 := dkwJ26_primitiveLeftShift_2 ++ dktJ26_primitiveLeftShift_3
def dkwJ26_primitiveLeftShift_1 : List UInt8 := [42, 180, 0, 21, 96, 4, 100, 54, 6, 21, 4, 21, 6, 162, 0, 34, 21, 5, 54, 7, 44, 21, 4, 4]
abbrev dktJ26_primitiveLeftShift_1 : List UInt8 := dkwJ26_primitiveLeftShift_1 ++ dktJ26_primitiveLeftShift_2
def dkwJ26_primitiveLeftShift_0 : List UInt8 := [42, 180, 0, 17, 77, 16, 32, 27, 100, 62, 42, 180, 0, 11, 54, 4, 44, 21, 4, 46, 54, 5, 21, 4]
abbrev dktJ26_primitiveLeftShift_0 : List UInt8 := dkwJ26_primitiveLeftShift_0 ++ dktJ26_primitiveLeftShift_1
theorem dksJ26_primitiveLeftShift_0 : cJ26_primitiveLeftShift.data.toList.drop 0 = dktJ26_primitiveLeftShift_0 := by decide +kernel
theorem dksJ26_primitiveLeftShift_1 : cJ26_primitiveLeftShift.data.toList.drop 24 = dktJ26_primitiveLeftShift_1 := dk_seg dksJ26_primitiveLeftShift_0 24 rfl rfl
theorem dksJ26_primitiveLeftShift_2 : cJ26_primitiveLeftShift.data.toList.drop 48 = dktJ26_primitiveLeftShift_2 := dk_seg dksJ26_primitiveLeftShift_1 24 rfl rfl
theorem dksJ26_primitiveLeftShift_3 : cJ26_primitiveLeftShift.data.toList.drop 72 = dktJ26_primitiveLeftShift_3 := dk_seg dksJ26_primitiveLeftShift_2 24 rfl rfl
theorem dJ26_primitiveLeftShift_0 : decode cJ26_primitiveLeftShift 0 = .ok (.aload_n 0, 1) := dk_42 (dk_at dksJ26_primitiveLeftShift_0 0 rfl rfl)
theorem dJ26_primitiveLeftShift_1 : decode cJ26_primitiveLeftShift 1 = .ok (.getfield 17, 3) := dk_180 0 17 (dk_at dksJ26_primitiveLeftShift_0 1 rfl rfl)
theorem dJ26_primitiveLeftShift_4 : decode cJ26_primitiveLeftShift 4 = .ok (.astore_n 2, 1) := dk_77 (dk_at dksJ26_primitiveLeftShift_0 4 rfl rfl)
theorem dJ26_primitiveLeftShift_5 : decode cJ26_primitiveLeftShift 5 = .ok (.bipush 32, 2) := dk_16 32 (dk_at dksJ26_primitiveLeftShift_0 5 rfl rfl)
theorem dJ26_primitiveLeftShift_7 : decode cJ26_primitiveLeftShift 7 = .ok (.iload_n 1, 1) := dk_27 (dk_at dksJ26_primitiveLeftShift_0 7 rfl rfl)
theorem dJ26_primitiveLeftShift_8 : decode cJ26_primitiveLeftShift 8 = .ok (.isub, 1) := dk_100 (dk_at dksJ26_primitiveLeftShift_0 8 rfl rfl)
theorem dJ26_primitiveLeftShift_9 : decode cJ26_primitiveLeftShift 9 = .ok (.istore_n 3, 1) := dk_62 (dk_at dksJ26_primitiveLeftShift_0 9 rfl rfl)
theorem dJ26_primitiveLeftShift_10 : decode cJ26_primitiveLeftShift 10 = .ok (.aload_n 0, 1) := dk_42 (dk_at dksJ26_primitiveLeftShift_0 10 rfl rfl)
theorem dJ26_primitiveLeftShift_11 : decode cJ26_primitiveLeftShift 11 = .ok (.getfield 11, 3) := dk_180 0 11 (dk_at dksJ26_primitiveLeftShift_0 11 rfl rfl)
theorem dJ26_primitiveLeftShift_14 : decode cJ26_primitiveLeftShift 14 = .ok (.istore 4, 2) := dk_54 4 (dk_at dksJ26_primitiveLeftShift_0 14 rfl rfl)
theorem dJ26_primitiveLeftShift_16 : decode cJ26_primitiveLeftShift 16 = .ok (.aload_n 2, 1) := dk_44 (dk_at dksJ26_primitiveLeftShift_0 16 rfl rfl)
theorem dJ26_primitiveLeftShift_17 : decode cJ26_primitiveLeftShift 17 = .ok (.iload 4, 2) := dk_21 4 (dk_at dksJ26_primitiveLeftShift_0 17 rfl rfl)
theorem dJ26_primitiveLeftShift_19 : decode cJ26_primitiveLeftShift 19 = .ok (.iaload, 1) := dk_46 (dk_at dksJ26_primitiveLeftShift_0 19 rfl rfl)
theorem dJ26_primitiveLeftShift_20 : decode cJ26_primitiveLeftShift 20 = .ok (.istore 5, 2) := dk_54 5 (dk_at dksJ26_primitiveLeftShift_0 20 rfl rfl)
theorem dJ26_primitiveLeftShift_22 : decode cJ26_primitiveLeftShift 22 = .ok (.iload 4, 2) := dk_21 4 (dk_at dksJ26_primitiveLeftShift_0 22 rfl rfl)
theorem dJ26_primitiveLeftShift_24 : decode cJ26_primitiveLeftShift 24 = .ok (.aload_n 0, 1) := dk_42 (dk_at dksJ26_primitiveLeftShift_1 0 rfl rfl)
theorem dJ26_primitiveLeftShift_25 : decode cJ26_primitiveLeftShift 25 = .ok (.getfield 21, 3) := dk_180 0 21 (dk_at dksJ26_primitiveLeftShift_1 1 rfl rfl)
theorem dJ26_primitiveLeftShift_28 : decode cJ26_primitiveLeftShift 28 = .ok (.iadd, 1) := dk_96 (dk_at dksJ26_primitiveLeftShift_1 4 rfl rfl)
theorem dJ26_primitiveLeftShift_29 : decode cJ26_primitiveLeftShift 29 = .ok (.iconst 1, 1) := dk_4 (dk_at dksJ26_primitiveLeftShift_1 5 rfl rfl)
theorem dJ26_primitiveLeftShift_30 : decode cJ26_primitiveLeftShift 30 = .ok (.isub, 1) := dk_100 (dk_at dksJ26_primitiveLeftShift_1 6 rfl rfl)
theorem dJ26_primitiveLeftShift_31 : decode cJ26_primitiveLeftShift 31 = .ok (.istore 6, 2) := dk_54 6 (dk_at dksJ26_primitiveLeftShift_1 7 rfl rfl)
theorem dJ26_primitiveLeftShift_33 : decode cJ26_primitiveLeftShift 33 = .ok (.iload 4, 2) := dk_21 4 (dk_at dksJ26_primitiveLeftShift_1 9 rfl rfl)
theorem dJ26_primitiveLeftShift_35 : decode cJ26_primitiveLeftShift 35 = .ok (.iload 6, 2) := dk_21 6 (dk_at dksJ26_primitiveLeftShift_1 11 rfl rfl)
theorem dJ26_primitiveLeftShift_37 : decode cJ26_primitiveLeftShift 37 = .ok (.if_icmp .ge 34, 3) := dk_162 0 34 (dk_at dksJ26_primitiveLeftShift_1 13 rfl rfl)
theorem dJ26_primitiveLeftShift_40 : decode cJ26_primitiveLeftShift 40 = .ok (.iload 5, 2) := dk_21 5 (dk_at dksJ26_primitiveLeftShift_1 16 rfl rfl)
theorem dJ26_primitiveLeftShift_42 : decode cJ26_primitiveLeftShift 42 = .ok (.istore 7, 2) := dk_54 7 (dk_at dksJ26_primitiveLeftShift_1 18 rfl rfl)
theorem dJ26_primitiveLeftShift_44 : decode cJ26_primitiveLeftShift 44 = .ok (.aload_n 2, 1) := dk_44 (dk_at dksJ26_primitiveLeftShift_1 20 rfl rfl)
theorem dJ26_primitiveLeftShift_45 : decode cJ26_primitiveLeftShift 45 = .ok (.iload 4, 2) := dk_21 4 (dk_at dksJ26_primitiveLeftShift_1 21 rfl rfl)
theorem dJ26_primitiveLeftShift_47 : decode cJ26_primitiveLeftShift 47 = .ok (.iconst 1, 1) := dk_4 (dk_at dksJ26_primitiveLeftShift_1 23 rfl rfl)
theorem dJ26_primitiveLeftShift_48 : decode cJ26_primitiveLeftShift 48 = .ok (.iadd, 1) := dk_96 (dk_at dksJ26_primitiveLeftShift_2 0 rfl rfl)
theorem dJ26_primitiveLeftShift_49 : decode cJ26_primitiveLeftShift 49 = .ok (.iaload, 1) := dk_46 (dk_at dksJ26_primitiveLeftShift_2 1 rfl rfl)
theorem dJ26_primitiveLeftShift_50 : decode cJ26_primitiveLeftShift 50 = .ok (.istore 5, 2) := dk_54 5 (dk_at dksJ26_primitiveLeftShift_2 2 rfl rfl)
theorem dJ26_primitiveLeftShift_52 : decode cJ26_primitiveLeftShift 52 = .ok (.aload_n 2, 1) := dk_44 (dk_at dksJ26_primitiveLeftShift_2 4 rfl rfl)
theorem dJ26_primitiveLeftShift_53 : decode cJ26_primitiveLeftShift 53 = .ok (.iload 4, 2) := dk_21 4 (dk_at dksJ26_primitiveLeftShift_2 5 rfl rfl)
theorem dJ26_primitiveLeftShift_55 : decode cJ26_primitiveLeftShift 55 = .ok (.iload 7, 2) := dk_21 7 (dk_at dksJ26_primitiveLeftShift_2 7 rfl rfl)
theorem dJ26_primitiveLeftShift_57 : decode cJ26_primitiveLeftShift 57 = .ok (.iload_n 1, 1) := dk_27 (dk_at dksJ26_primitiveLeftShift_2 9 rfl rfl)
theorem dJ26_primitiveLeftShift_58 : decode cJ26_primitiveLeftShift 58 = .ok (.ishl, 1) := dk_120 (dk_at dksJ26_primitiveLeftShift_2 10 rfl rfl)
theorem dJ26_primitiveLeftShift_59 : decode cJ26_primitiveLeftShift 59 = .ok (.iload 5, 2) := dk_21 5 (dk_at dksJ26_primitiveLeftShift_2 11 rfl rfl)
theorem dJ26_primitiveLeftShift_61 : decode cJ26_primitiveLeftShift 61 = .ok (.iload_n 3, 1) := dk_29 (dk_at dksJ26_primitiveLeftShift_2 13 rfl rfl)
theorem dJ26_primitiveLeftShift_62 : decode cJ26_primitiveLeftShift 62 = .ok (.iushr, 1) := dk_124 (dk_at dksJ26_primitiveLeftShift_2 14 rfl rfl)
theorem dJ26_primitiveLeftShift_63 : decode cJ26_primitiveLeftShift 63 = .ok (.ior, 1) := dk_128 (dk_at dksJ26_primitiveLeftShift_2 15 rfl rfl)
theorem dJ26_primitiveLeftShift_64 : decode cJ26_primitiveLeftShift 64 = .ok (.iastore, 1) := dk_79 (dk_at dksJ26_primitiveLeftShift_2 16 rfl rfl)
theorem dJ26_primitiveLeftShift_65 : decode cJ26_primitiveLeftShift 65 = .ok (.iinc 4 1, 3) := dk_132 4 1 (dk_at dksJ26_primitiveLeftShift_2 17 rfl rfl)
theorem dJ26_primitiveLeftShift_68 : decode cJ26_primitiveLeftShift 68 = .ok (.goto (-35), 3) := dk_167 255 221 (dk_at dksJ26_primitiveLeftShift_2 20 rfl rfl)
theorem dJ26_primitiveLeftShift_71 : decode cJ26_primitiveLeftShift 71 = .ok (.aload_n 2, 1) := dk_44 (dk_at dksJ26_primitiveLeftShift_2 23 rfl rfl)
theorem dJ26_primitiveLeftShift_72 : decode cJ26_primitiveLeftShift 72 = .ok (.aload_n 0, 1) := dk_42 (dk_at dksJ26_primitiveLeftShift_3 0 rfl rfl)
theorem dJ26_primitiveLeftShift_73 : decode cJ26_primitiveLeftShift 73 = .ok (.getfield 11, 3) := dk_180 0 11 (dk_at dksJ26_primitiveLeftShift_3 1 rfl rfl)
theorem dJ26_primitiveLeftShift_76 : decode cJ26_primitiveLeftShift 76 = .ok (.aload_n 0, 1) := dk_42 (dk_at dksJ26_primitiveLeftShift_3 4 rfl rfl)
theorem dJ26_primitiveLeftShift_77 : decode cJ26_primitiveLeftShift 77 = .ok (.getfield 21, 3) := dk_180 0 21 (dk_at dksJ26_primitiveLeftShift_3 5 rfl rfl)
theorem dJ26_primitiveLeftShift_80 : decode cJ26_primitiveLeftShift 80 = .ok (.iadd, 1) := dk_96 (dk_at dksJ26_primitiveLeftShift_3 8 rfl rfl)
theorem dJ26_primitiveLeftShift_81 : decode cJ26_primitiveLeftShift 81 = .ok (.iconst 1, 1) := dk_4 (dk_at dksJ26_primitiveLeftShift_3 9 rfl rfl)
theorem dJ26_primitiveLeftShift_82 : decode cJ26_primitiveLeftShift 82 = .ok (.isub, 1) := dk_100 (dk_at dksJ26_primitiveLeftShift_3 10 rfl rfl)
theorem dJ26_primitiveLeftShift_83 : decode cJ26_primitiveLeftShift 83 = .ok (.dup2, 1) := dk_92 (dk_at dksJ26_primitiveLeftShift_3 11 rfl rfl)
theorem dJ26_primitiveLeftShift_84 : decode cJ26_primitiveLeftShift 84 = .ok (.iaload, 1) := dk_46 (dk_at dksJ26_primitiveLeftShift_3 12 rfl rfl)
theorem dJ26_primitiveLeftShift_85 : decode cJ26_primitiveLeftShift 85 = .ok (.iload_n 1, 1) := dk_27 (dk_at dksJ26_primitiveLeftShift_3 13 rfl rfl)
theorem dJ26_primitiveLeftShift_86 : decode cJ26_primitiveLeftShift 86 = .ok (.ishl, 1) := dk_120 (dk_at dksJ26_primitiveLeftShift_3 14 rfl rfl)
theorem dJ26_primitiveLeftShift_87 : decode cJ26_primitiveLeftShift 87 = .ok (.iastore, 1) := dk_79 (dk_at dksJ26_primitiveLeftShift_3 15 rfl rfl)
theorem dJ26_primitiveLeftShift_88 : decode cJ26_primitiveLeftShift 88 = .ok (.return_, 1) := dk_177 (dk_at dksJ26_primitiveLeftShift_3 16 rfl rfl)
abbrev cJ26_primitiveRightShift : ByteArray := prog_33_method_41_code
def yJ26_primitiveRightShift : MethodName := ⟨RJ26, "primitiveRightShift", "(I)V"⟩
def dkwJ26_primitiveRightShift_3 : List UInt8 := [180, 0, 11, 92, 46, 27, 124, 79, 177]
abbrev dktJ26_primitiveRightShift_3 : List UInt8 := dkwJ26_primitiveRightShift_3 ++ []
def dkwJ26_primitiveRightShift_2 : List UInt8 := [54, 5, 44, 21, 4, 21, 5, 29, 120, 21, 6, 27, 124, 128, 79, 132, 4, 255, 167, 255, 219, 44, 42]
abbrev dktJ26_primitiveRightShift_2 : List UInt8 := dkwJ26_primitiveRightShift_2 ++ dktJ26_primitiveRightShift_3
def dkwJ26_primitiveRightShift_1 : List UInt8 := [21, 4, 46, 54, 5, 21, 4, 42, 180, 0, 11, 164, 0, 34, 21, 5, 54, 6, 44, 21, 4, 4, 100, 46]
abbrev dktJ26_primitiveRightShift_1 : List UInt8 := dkwJ26_primitiveRightShift_1 ++ dktJ26_primitiveRightShift_2
def dkwJ26_primitiveRightShift_0 : List UInt8 := [42, 180, 0, 17, 77, 16, 32, 27, 100, 62, 42, 180, 0, 11, 42, 180, 0, 21, 96, 4, 100, 54, 4, 44]
abbrev dktJ26_primitiveRightShift_0 : List UInt8 := dkwJ26_primitiveRightShift_0 ++ dktJ26_primitiveRightShift_1
theorem dksJ26_primitiveRightShift_0 : cJ26_primitiveRightShift.data.toList.drop 0 = dktJ26_primitiveRightShift_0 := by decide +kernel
theorem dksJ26_primitiveRightShift_1 : cJ26_primitiveRightShift.data.toList.drop 24 = dktJ26_primitiveRightShift_1 := dk_seg dksJ26_primitiveRightShift_0 24 rfl rfl
theorem dksJ26_primitiveRightShift_2 : cJ26_primitiveRightShift.data.toList.drop 48 = dktJ26_primitiveRightShift_2 := dk_seg dksJ26_primitiveRightShift_1 24 rfl rfl
theorem dksJ26_primitiveRightShift_3 : cJ26_primitiveRightShift.data.toList.drop 71 = dktJ26_primitiveRightShift_3 := dk_seg dksJ26_primitiveRightShift_2 23 rfl rfl
theorem dJ26_primitiveRightShift_0 : decode cJ26_primitiveRightShift 0 = .ok (.aload_n 0, 1) := dk_42 (dk_at dksJ26_primitiveRightShift_0 0 rfl rfl)
theorem dJ26_primitiveRightShift_1 : decode cJ26_primitiveRightShift 1 = .ok (.getfield 17, 3) := dk_180 0 17 (dk_at dksJ26_primitiveRightShift_0 1 rfl rfl)
theorem dJ26_primitiveRightShift_4 : decode cJ26_primitiveRightShift 4 = .ok (.astore_n 2, 1) := dk_77 (dk_at dksJ26_primitiveRightShift_0 4 rfl rfl)
theorem dJ26_primitiveRightShift_5 : decode cJ26_primitiveRightShift 5 = .ok (.bipush 32, 2) := dk_16 32 (dk_at dksJ26_primitiveRightShift_0 5 rfl rfl)
theorem dJ26_primitiveRightShift_7 : decode cJ26_primitiveRightShift 7 = .ok (.iload_n 1, 1) := dk_27 (dk_at dksJ26_primitiveRightShift_0 7 rfl rfl)
theorem dJ26_primitiveRightShift_8 : decode cJ26_primitiveRightShift 8 = .ok (.isub, 1) := dk_100 (dk_at dksJ26_primitiveRightShift_0 8 rfl rfl)
theorem dJ26_primitiveRightShift_9 : decode cJ26_primitiveRightShift 9 = .ok (.istore_n 3, 1) := dk_62 (dk_at dksJ26_primitiveRightShift_0 9 rfl rfl)
theorem dJ26_primitiveRightShift_10 : decode cJ26_primitiveRightShift 10 = .ok (.aload_n 0, 1) := dk_42 (dk_at dksJ26_primitiveRightShift_0 10 rfl rfl)
theorem dJ26_primitiveRightShift_11 : decode cJ26_primitiveRightShift 11 = .ok (.getfield 11, 3) := dk_180 0 11 (dk_at dksJ26_primitiveRightShift_0 11 rfl rfl)
theorem dJ26_primitiveRightShift_14 : decode cJ26_primitiveRightShift 14 = .ok (.aload_n 0, 1) := dk_42 (dk_at dksJ26_primitiveRightShift_0 14 rfl rfl)
theorem dJ26_primitiveRightShift_15 : decode cJ26_primitiveRightShift 15 = .ok (.getfield 21, 3) := dk_180 0 21 (dk_at dksJ26_primitiveRightShift_0 15 rfl rfl)
theorem dJ26_primitiveRightShift_18 : decode cJ26_primitiveRightShift 18 = .ok (.iadd, 1) := dk_96 (dk_at dksJ26_primitiveRightShift_0 18 rfl rfl)
theorem dJ26_primitiveRightShift_19 : decode cJ26_primitiveRightShift 19 = .ok (.iconst 1, 1) := dk_4 (dk_at dksJ26_primitiveRightShift_0 19 rfl rfl)
theorem dJ26_primitiveRightShift_20 : decode cJ26_primitiveRightShift 20 = .ok (.isub, 1) := dk_100 (dk_at dksJ26_primitiveRightShift_0 20 rfl rfl)
theorem dJ26_primitiveRightShift_21 : decode cJ26_primitiveRightShift 21 = .ok (.istore 4, 2) := dk_54 4 (dk_at dksJ26_primitiveRightShift_0 21 rfl rfl)
theorem dJ26_primitiveRightShift_23 : decode cJ26_primitiveRightShift 23 = .ok (.aload_n 2, 1) := dk_44 (dk_at dksJ26_primitiveRightShift_0 23 rfl rfl)
theorem dJ26_primitiveRightShift_24 : decode cJ26_primitiveRightShift 24 = .ok (.iload 4, 2) := dk_21 4 (dk_at dksJ26_primitiveRightShift_1 0 rfl rfl)
theorem dJ26_primitiveRightShift_26 : decode cJ26_primitiveRightShift 26 = .ok (.iaload, 1) := dk_46 (dk_at dksJ26_primitiveRightShift_1 2 rfl rfl)
theorem dJ26_primitiveRightShift_27 : decode cJ26_primitiveRightShift 27 = .ok (.istore 5, 2) := dk_54 5 (dk_at dksJ26_primitiveRightShift_1 3 rfl rfl)
theorem dJ26_primitiveRightShift_29 : decode cJ26_primitiveRightShift 29 = .ok (.iload 4, 2) := dk_21 4 (dk_at dksJ26_primitiveRightShift_1 5 rfl rfl)
theorem dJ26_primitiveRightShift_31 : decode cJ26_primitiveRightShift 31 = .ok (.aload_n 0, 1) := dk_42 (dk_at dksJ26_primitiveRightShift_1 7 rfl rfl)
theorem dJ26_primitiveRightShift_32 : decode cJ26_primitiveRightShift 32 = .ok (.getfield 11, 3) := dk_180 0 11 (dk_at dksJ26_primitiveRightShift_1 8 rfl rfl)
theorem dJ26_primitiveRightShift_35 : decode cJ26_primitiveRightShift 35 = .ok (.if_icmp .le 34, 3) := dk_164 0 34 (dk_at dksJ26_primitiveRightShift_1 11 rfl rfl)
theorem dJ26_primitiveRightShift_38 : decode cJ26_primitiveRightShift 38 = .ok (.iload 5, 2) := dk_21 5 (dk_at dksJ26_primitiveRightShift_1 14 rfl rfl)
theorem dJ26_primitiveRightShift_40 : decode cJ26_primitiveRightShift 40 = .ok (.istore 6, 2) := dk_54 6 (dk_at dksJ26_primitiveRightShift_1 16 rfl rfl)
theorem dJ26_primitiveRightShift_42 : decode cJ26_primitiveRightShift 42 = .ok (.aload_n 2, 1) := dk_44 (dk_at dksJ26_primitiveRightShift_1 18 rfl rfl)
theorem dJ26_primitiveRightShift_43 : decode cJ26_primitiveRightShift 43 = .ok (.iload 4, 2) := dk_21 4 (dk_at dksJ26_primitiveRightShift_1 19 rfl rfl)
theorem dJ26_primitiveRightShift_45 : decode cJ26_primitiveRightShift 45 = .ok (.iconst 1, 1) := dk_4 (dk_at dksJ26_primitiveRightShift_1 21 rfl rfl)
theorem dJ26_primitiveRightShift_46 : decode cJ26_primitiveRightShift 46 = .ok (.isub, 1) := dk_100 (dk_at dksJ26_primitiveRightShift_1 22 rfl rfl)
theorem dJ26_primitiveRightShift_47 : decode cJ26_primitiveRightShift 47 = .ok (.iaload, 1) := dk_46 (dk_at dksJ26_primitiveRightShift_1 23 rfl rfl)
theorem dJ26_primitiveRightShift_48 : decode cJ26_primitiveRightShift 48 = .ok (.istore 5, 2) := dk_54 5 (dk_at dksJ26_primitiveRightShift_2 0 rfl rfl)
theorem dJ26_primitiveRightShift_50 : decode cJ26_primitiveRightShift 50 = .ok (.aload_n 2, 1) := dk_44 (dk_at dksJ26_primitiveRightShift_2 2 rfl rfl)
theorem dJ26_primitiveRightShift_51 : decode cJ26_primitiveRightShift 51 = .ok (.iload 4, 2) := dk_21 4 (dk_at dksJ26_primitiveRightShift_2 3 rfl rfl)
theorem dJ26_primitiveRightShift_53 : decode cJ26_primitiveRightShift 53 = .ok (.iload 5, 2) := dk_21 5 (dk_at dksJ26_primitiveRightShift_2 5 rfl rfl)
theorem dJ26_primitiveRightShift_55 : decode cJ26_primitiveRightShift 55 = .ok (.iload_n 3, 1) := dk_29 (dk_at dksJ26_primitiveRightShift_2 7 rfl rfl)
theorem dJ26_primitiveRightShift_56 : decode cJ26_primitiveRightShift 56 = .ok (.ishl, 1) := dk_120 (dk_at dksJ26_primitiveRightShift_2 8 rfl rfl)
theorem dJ26_primitiveRightShift_57 : decode cJ26_primitiveRightShift 57 = .ok (.iload 6, 2) := dk_21 6 (dk_at dksJ26_primitiveRightShift_2 9 rfl rfl)
theorem dJ26_primitiveRightShift_59 : decode cJ26_primitiveRightShift 59 = .ok (.iload_n 1, 1) := dk_27 (dk_at dksJ26_primitiveRightShift_2 11 rfl rfl)
theorem dJ26_primitiveRightShift_60 : decode cJ26_primitiveRightShift 60 = .ok (.iushr, 1) := dk_124 (dk_at dksJ26_primitiveRightShift_2 12 rfl rfl)
theorem dJ26_primitiveRightShift_61 : decode cJ26_primitiveRightShift 61 = .ok (.ior, 1) := dk_128 (dk_at dksJ26_primitiveRightShift_2 13 rfl rfl)
theorem dJ26_primitiveRightShift_62 : decode cJ26_primitiveRightShift 62 = .ok (.iastore, 1) := dk_79 (dk_at dksJ26_primitiveRightShift_2 14 rfl rfl)
theorem dJ26_primitiveRightShift_63 : decode cJ26_primitiveRightShift 63 = .ok (.iinc 4 (-1), 3) := dk_132 4 255 (dk_at dksJ26_primitiveRightShift_2 15 rfl rfl)
theorem dJ26_primitiveRightShift_66 : decode cJ26_primitiveRightShift 66 = .ok (.goto (-37), 3) := dk_167 255 219 (dk_at dksJ26_primitiveRightShift_2 18 rfl rfl)
theorem dJ26_primitiveRightShift_69 : decode cJ26_primitiveRightShift 69 = .ok (.aload_n 2, 1) := dk_44 (dk_at dksJ26_primitiveRightShift_2 21 rfl rfl)
theorem dJ26_primitiveRightShift_70 : decode cJ26_primitiveRightShift 70 = .ok (.aload_n 0, 1) := dk_42 (dk_at dksJ26_primitiveRightShift_2 22 rfl rfl)
theorem dJ26_primitiveRightShift_71 : decode cJ26_primitiveRightShift 71 = .ok (.getfield 11, 3) := dk_180 0 11 (dk_at dksJ26_primitiveRightShift_3 0 rfl rfl)
theorem dJ26_primitiveRightShift_74 : decode cJ26_primitiveRightShift 74 = .ok (.dup2, 1) := dk_92 (dk_at dksJ26_primitiveRightShift_3 3 rfl rfl)
theorem dJ26_primitiveRightShift_75 : decode cJ26_primitiveRightShift 75 = .ok (.iaload, 1) := dk_46 (dk_at dksJ26_primitiveRightShift_3 4 rfl rfl)
theorem dJ26_primitiveRightShift_76 : decode cJ26_primitiveRightShift 76 = .ok (.iload_n 1, 1) := dk_27 (dk_at dksJ26_primitiveRightShift_3 5 rfl rfl)
theorem dJ26_primitiveRightShift_77 : decode cJ26_primitiveRightShift 77 = .ok (.iushr, 1) := dk_124 (dk_at dksJ26_primitiveRightShift_3 6 rfl rfl)
theorem dJ26_primitiveRightShift_78 : decode cJ26_primitiveRightShift 78 = .ok (.iastore, 1) := dk_79 (dk_at dksJ26_primitiveRightShift_3 7 rfl rfl)
theorem dJ26_primitiveRightShift_79 : decode cJ26_primitiveRightShift 79 = .ok (.return_, 1) := dk_177 (dk_at dksJ26_primitiveRightShift_3 8 rfl rfl)
abbrev cJ26_binaryGcd : ByteArray := prog_33_method_74_code
def yJ26_binaryGcd : MethodName := ⟨RJ26, "binaryGcd", "(II)I"⟩
def dkwJ26_binaryGcd_3 : List UInt8 := [27, 26, 100, 60, 27, 27, 184, 0, 89, 124, 60, 167, 255, 215, 26, 21, 4, 120, 172]
abbrev dktJ26_binaryGcd_3 : List UInt8 := dkwJ26_binaryGcd_3 ++ []
def dkwJ26_binaryGcd_2 : List UInt8 := [18, 88, 96, 27, 18, 88, 96, 164, 0, 17, 26, 27, 100, 59, 26, 26, 184, 0, 89, 124, 59, 167, 255, 229]
abbrev dktJ26_binaryGcd_2 : List UInt8 := dkwJ26_binaryGcd_2 ++ dktJ26_binaryGcd_3
def dkwJ26_binaryGcd_1 : List UInt8 := [124, 59, 27, 29, 124, 60, 28, 29, 162, 0, 7, 28, 167, 0, 4, 29, 54, 4, 26, 27, 159, 0, 42, 26]
abbrev dktJ26_binaryGcd_1 : List UInt8 := dkwJ26_binaryGcd_1 ++ dktJ26_binaryGcd_2
def dkwJ26_binaryGcd_0 : List UInt8 := [27, 154, 0, 5, 26, 172, 26, 154, 0, 5, 27, 172, 26, 184, 0, 89, 61, 27, 184, 0, 89, 62, 26, 28]
abbrev dktJ26_binaryGcd_0 : List UInt8 := dkwJ26_binaryGcd_0 ++ dktJ26_binaryGcd_1
theorem dksJ26_binaryGcd_0 : cJ26_binaryGcd.data.toList.drop 0 = dktJ26_binaryGcd_0 := by decide +kernel
theorem dksJ26_binaryGcd_1 : cJ26_binaryGcd.data.toList.drop 24 = dktJ26_binaryGcd_1 := dk_seg dksJ26_binaryGcd_0 24 rfl rfl
theorem dksJ26_binaryGcd_2 : cJ26_binaryGcd.data.toList.drop 48 = dktJ26_binaryGcd_2 := dk_seg dksJ26_binaryGcd_1 24 rfl rfl
theorem dksJ26_binaryGcd_3 : cJ26_binaryGcd.data.toList.drop 72 = dktJ26_binaryGcd_3 := dk_seg dksJ26_binaryGcd_2 24 rfl rfl
theorem dJ26_binaryGcd_0 : decode cJ26_binaryGcd 0 = .ok (.iload_n 1, 1) := dk_27 (dk_at dksJ26_binaryGcd_0 0 rfl rfl)
theorem dJ26_binaryGcd_1 : decode cJ26_binaryGcd 1 = .ok (.ifCond .ne 5, 3) := dk_154 0 5 (dk_at dksJ26_binaryGcd_0 1 rfl rfl)
theorem dJ26_binaryGcd_4 : decode cJ26_binaryGcd 4 = .ok (.iload_n 0, 1) := dk_26 (dk_at dksJ26_binaryGcd_0 4 rfl rfl)
theorem dJ26_binaryGcd_5 : decode cJ26_binaryGcd 5 = .ok (.ireturn, 1) := dk_172 (dk_at dksJ26_binaryGcd_0 5 rfl rfl)
theorem dJ26_binaryGcd_6 : decode cJ26_binaryGcd 6 = .ok (.iload_n 0, 1) := dk_26 (dk_at dksJ26_binaryGcd_0 6 rfl rfl)
theorem dJ26_binaryGcd_7 : decode cJ26_binaryGcd 7 = .ok (.ifCond .ne 5, 3) := dk_154 0 5 (dk_at dksJ26_binaryGcd_0 7 rfl rfl)
theorem dJ26_binaryGcd_10 : decode cJ26_binaryGcd 10 = .ok (.iload_n 1, 1) := dk_27 (dk_at dksJ26_binaryGcd_0 10 rfl rfl)
theorem dJ26_binaryGcd_11 : decode cJ26_binaryGcd 11 = .ok (.ireturn, 1) := dk_172 (dk_at dksJ26_binaryGcd_0 11 rfl rfl)
theorem dJ26_binaryGcd_12 : decode cJ26_binaryGcd 12 = .ok (.iload_n 0, 1) := dk_26 (dk_at dksJ26_binaryGcd_0 12 rfl rfl)
theorem dJ26_binaryGcd_13 : decode cJ26_binaryGcd 13 = .ok (.invokestatic 89, 3) := dk_184 0 89 (dk_at dksJ26_binaryGcd_0 13 rfl rfl)
theorem dJ26_binaryGcd_16 : decode cJ26_binaryGcd 16 = .ok (.istore_n 2, 1) := dk_61 (dk_at dksJ26_binaryGcd_0 16 rfl rfl)
theorem dJ26_binaryGcd_17 : decode cJ26_binaryGcd 17 = .ok (.iload_n 1, 1) := dk_27 (dk_at dksJ26_binaryGcd_0 17 rfl rfl)
theorem dJ26_binaryGcd_18 : decode cJ26_binaryGcd 18 = .ok (.invokestatic 89, 3) := dk_184 0 89 (dk_at dksJ26_binaryGcd_0 18 rfl rfl)
theorem dJ26_binaryGcd_21 : decode cJ26_binaryGcd 21 = .ok (.istore_n 3, 1) := dk_62 (dk_at dksJ26_binaryGcd_0 21 rfl rfl)
theorem dJ26_binaryGcd_22 : decode cJ26_binaryGcd 22 = .ok (.iload_n 0, 1) := dk_26 (dk_at dksJ26_binaryGcd_0 22 rfl rfl)
theorem dJ26_binaryGcd_23 : decode cJ26_binaryGcd 23 = .ok (.iload_n 2, 1) := dk_28 (dk_at dksJ26_binaryGcd_0 23 rfl rfl)
theorem dJ26_binaryGcd_24 : decode cJ26_binaryGcd 24 = .ok (.iushr, 1) := dk_124 (dk_at dksJ26_binaryGcd_1 0 rfl rfl)
theorem dJ26_binaryGcd_25 : decode cJ26_binaryGcd 25 = .ok (.istore_n 0, 1) := dk_59 (dk_at dksJ26_binaryGcd_1 1 rfl rfl)
theorem dJ26_binaryGcd_26 : decode cJ26_binaryGcd 26 = .ok (.iload_n 1, 1) := dk_27 (dk_at dksJ26_binaryGcd_1 2 rfl rfl)
theorem dJ26_binaryGcd_27 : decode cJ26_binaryGcd 27 = .ok (.iload_n 3, 1) := dk_29 (dk_at dksJ26_binaryGcd_1 3 rfl rfl)
theorem dJ26_binaryGcd_28 : decode cJ26_binaryGcd 28 = .ok (.iushr, 1) := dk_124 (dk_at dksJ26_binaryGcd_1 4 rfl rfl)
theorem dJ26_binaryGcd_29 : decode cJ26_binaryGcd 29 = .ok (.istore_n 1, 1) := dk_60 (dk_at dksJ26_binaryGcd_1 5 rfl rfl)
theorem dJ26_binaryGcd_30 : decode cJ26_binaryGcd 30 = .ok (.iload_n 2, 1) := dk_28 (dk_at dksJ26_binaryGcd_1 6 rfl rfl)
theorem dJ26_binaryGcd_31 : decode cJ26_binaryGcd 31 = .ok (.iload_n 3, 1) := dk_29 (dk_at dksJ26_binaryGcd_1 7 rfl rfl)
theorem dJ26_binaryGcd_32 : decode cJ26_binaryGcd 32 = .ok (.if_icmp .ge 7, 3) := dk_162 0 7 (dk_at dksJ26_binaryGcd_1 8 rfl rfl)
theorem dJ26_binaryGcd_35 : decode cJ26_binaryGcd 35 = .ok (.iload_n 2, 1) := dk_28 (dk_at dksJ26_binaryGcd_1 11 rfl rfl)
theorem dJ26_binaryGcd_36 : decode cJ26_binaryGcd 36 = .ok (.goto 4, 3) := dk_167 0 4 (dk_at dksJ26_binaryGcd_1 12 rfl rfl)
theorem dJ26_binaryGcd_39 : decode cJ26_binaryGcd 39 = .ok (.iload_n 3, 1) := dk_29 (dk_at dksJ26_binaryGcd_1 15 rfl rfl)
theorem dJ26_binaryGcd_40 : decode cJ26_binaryGcd 40 = .ok (.istore 4, 2) := dk_54 4 (dk_at dksJ26_binaryGcd_1 16 rfl rfl)
theorem dJ26_binaryGcd_42 : decode cJ26_binaryGcd 42 = .ok (.iload_n 0, 1) := dk_26 (dk_at dksJ26_binaryGcd_1 18 rfl rfl)
theorem dJ26_binaryGcd_43 : decode cJ26_binaryGcd 43 = .ok (.iload_n 1, 1) := dk_27 (dk_at dksJ26_binaryGcd_1 19 rfl rfl)
theorem dJ26_binaryGcd_44 : decode cJ26_binaryGcd 44 = .ok (.if_icmp .eq 42, 3) := dk_159 0 42 (dk_at dksJ26_binaryGcd_1 20 rfl rfl)
theorem dJ26_binaryGcd_47 : decode cJ26_binaryGcd 47 = .ok (.iload_n 0, 1) := dk_26 (dk_at dksJ26_binaryGcd_1 23 rfl rfl)
theorem dJ26_binaryGcd_48 : decode cJ26_binaryGcd 48 = .ok (.ldc 88, 2) := dk_18 88 (dk_at dksJ26_binaryGcd_2 0 rfl rfl)
theorem dJ26_binaryGcd_50 : decode cJ26_binaryGcd 50 = .ok (.iadd, 1) := dk_96 (dk_at dksJ26_binaryGcd_2 2 rfl rfl)
theorem dJ26_binaryGcd_51 : decode cJ26_binaryGcd 51 = .ok (.iload_n 1, 1) := dk_27 (dk_at dksJ26_binaryGcd_2 3 rfl rfl)
theorem dJ26_binaryGcd_52 : decode cJ26_binaryGcd 52 = .ok (.ldc 88, 2) := dk_18 88 (dk_at dksJ26_binaryGcd_2 4 rfl rfl)
theorem dJ26_binaryGcd_54 : decode cJ26_binaryGcd 54 = .ok (.iadd, 1) := dk_96 (dk_at dksJ26_binaryGcd_2 6 rfl rfl)
theorem dJ26_binaryGcd_55 : decode cJ26_binaryGcd 55 = .ok (.if_icmp .le 17, 3) := dk_164 0 17 (dk_at dksJ26_binaryGcd_2 7 rfl rfl)
theorem dJ26_binaryGcd_58 : decode cJ26_binaryGcd 58 = .ok (.iload_n 0, 1) := dk_26 (dk_at dksJ26_binaryGcd_2 10 rfl rfl)
theorem dJ26_binaryGcd_59 : decode cJ26_binaryGcd 59 = .ok (.iload_n 1, 1) := dk_27 (dk_at dksJ26_binaryGcd_2 11 rfl rfl)
theorem dJ26_binaryGcd_60 : decode cJ26_binaryGcd 60 = .ok (.isub, 1) := dk_100 (dk_at dksJ26_binaryGcd_2 12 rfl rfl)
theorem dJ26_binaryGcd_61 : decode cJ26_binaryGcd 61 = .ok (.istore_n 0, 1) := dk_59 (dk_at dksJ26_binaryGcd_2 13 rfl rfl)
theorem dJ26_binaryGcd_62 : decode cJ26_binaryGcd 62 = .ok (.iload_n 0, 1) := dk_26 (dk_at dksJ26_binaryGcd_2 14 rfl rfl)
theorem dJ26_binaryGcd_63 : decode cJ26_binaryGcd 63 = .ok (.iload_n 0, 1) := dk_26 (dk_at dksJ26_binaryGcd_2 15 rfl rfl)
theorem dJ26_binaryGcd_64 : decode cJ26_binaryGcd 64 = .ok (.invokestatic 89, 3) := dk_184 0 89 (dk_at dksJ26_binaryGcd_2 16 rfl rfl)
theorem dJ26_binaryGcd_67 : decode cJ26_binaryGcd 67 = .ok (.iushr, 1) := dk_124 (dk_at dksJ26_binaryGcd_2 19 rfl rfl)
theorem dJ26_binaryGcd_68 : decode cJ26_binaryGcd 68 = .ok (.istore_n 0, 1) := dk_59 (dk_at dksJ26_binaryGcd_2 20 rfl rfl)
theorem dJ26_binaryGcd_69 : decode cJ26_binaryGcd 69 = .ok (.goto (-27), 3) := dk_167 255 229 (dk_at dksJ26_binaryGcd_2 21 rfl rfl)
theorem dJ26_binaryGcd_72 : decode cJ26_binaryGcd 72 = .ok (.iload_n 1, 1) := dk_27 (dk_at dksJ26_binaryGcd_3 0 rfl rfl)
theorem dJ26_binaryGcd_73 : decode cJ26_binaryGcd 73 = .ok (.iload_n 0, 1) := dk_26 (dk_at dksJ26_binaryGcd_3 1 rfl rfl)
theorem dJ26_binaryGcd_74 : decode cJ26_binaryGcd 74 = .ok (.isub, 1) := dk_100 (dk_at dksJ26_binaryGcd_3 2 rfl rfl)
theorem dJ26_binaryGcd_75 : decode cJ26_binaryGcd 75 = .ok (.istore_n 1, 1) := dk_60 (dk_at dksJ26_binaryGcd_3 3 rfl rfl)
theorem dJ26_binaryGcd_76 : decode cJ26_binaryGcd 76 = .ok (.iload_n 1, 1) := dk_27 (dk_at dksJ26_binaryGcd_3 4 rfl rfl)
theorem dJ26_binaryGcd_77 : decode cJ26_binaryGcd 77 = .ok (.iload_n 1, 1) := dk_27 (dk_at dksJ26_binaryGcd_3 5 rfl rfl)
theorem dJ26_binaryGcd_78 : decode cJ26_binaryGcd 78 = .ok (.invokestatic 89, 3) := dk_184 0 89 (dk_at dksJ26_binaryGcd_3 6 rfl rfl)
theorem dJ26_binaryGcd_81 : decode cJ26_binaryGcd 81 = .ok (.iushr, 1) := dk_124 (dk_at dksJ26_binaryGcd_3 9 rfl rfl)
theorem dJ26_binaryGcd_82 : decode cJ26_binaryGcd 82 = .ok (.istore_n 1, 1) := dk_60 (dk_at dksJ26_binaryGcd_3 10 rfl rfl)
theorem dJ26_binaryGcd_83 : decode cJ26_binaryGcd 83 = .ok (.goto (-41), 3) := dk_167 255 215 (dk_at dksJ26_binaryGcd_3 11 rfl rfl)
theorem dJ26_binaryGcd_86 : decode cJ26_binaryGcd 86 = .ok (.iload_n 0, 1) := dk_26 (dk_at dksJ26_binaryGcd_3 14 rfl rfl)
theorem dJ26_binaryGcd_87 : decode cJ26_binaryGcd 87 = .ok (.iload 4, 2) := dk_21 4 (dk_at dksJ26_binaryGcd_3 15 rfl rfl)
theorem dJ26_binaryGcd_89 : decode cJ26_binaryGcd 89 = .ok (.ishl, 1) := dk_120 (dk_at dksJ26_binaryGcd_3 17 rfl rfl)
theorem dJ26_binaryGcd_90 : decode cJ26_binaryGcd 90 = .ok (.ireturn, 1) := dk_172 (dk_at dksJ26_binaryGcd_3 18 rfl rfl)
abbrev cJ26_leftShift : ByteArray := prog_33_method_37_code
def yJ26_leftShift : MethodName := ⟨RJ26, "leftShift", "(I)V"⟩
def dkwJ26_leftShift_12 : List UInt8 := [167, 0, 11, 42, 16, 32, 29, 100, 182, 0, 118, 177]
abbrev dktJ26_leftShift_12 : List UInt8 := dkwJ26_leftShift_12 ++ []
def dkwJ26_leftShift_11 : List UInt8 := [21, 5, 181, 0, 21, 29, 154, 0, 4, 177, 29, 16, 32, 21, 4, 100, 163, 0, 11, 42, 29, 182, 0, 115]
abbrev dktJ26_leftShift_11 : List UInt8 := dkwJ26_leftShift_11 ++ dktJ26_leftShift_12
def dkwJ26_leftShift_10 : List UInt8 := [162, 0, 17, 42, 180, 0, 17, 21, 6, 3, 79, 132, 6, 1, 167, 255, 238, 42, 3, 181, 0, 11, 42]
abbrev dktJ26_leftShift_10 : List UInt8 := dkwJ26_leftShift_10 ++ dktJ26_leftShift_11
def dkwJ26_leftShift_9 : List UInt8 := [180, 0, 11, 21, 6, 96, 46, 79, 132, 6, 1, 167, 255, 225, 42, 180, 0, 21, 54, 6, 21, 6, 21, 5]
abbrev dktJ26_leftShift_9 : List UInt8 := dkwJ26_leftShift_9 ++ dktJ26_leftShift_10
def dkwJ26_leftShift_8 : List UInt8 := [54, 6, 21, 6, 42, 180, 0, 21, 162, 0, 28, 42, 180, 0, 17, 21, 6, 42, 180, 0, 17, 42]
abbrev dktJ26_leftShift_8 : List UInt8 := dkwJ26_leftShift_8 ++ dktJ26_leftShift_9
def dkwJ26_leftShift_7 : List UInt8 := [42, 180, 0, 11, 42, 180, 0, 21, 96, 21, 6, 96, 3, 79, 132, 6, 1, 167, 255, 223, 167, 0, 72, 3]
abbrev dktJ26_leftShift_7 : List UInt8 := dkwJ26_leftShift_7 ++ dktJ26_leftShift_8
def dkwJ26_leftShift_6 : List UInt8 := [21, 5, 161, 0, 45, 3, 54, 6, 21, 6, 21, 5, 42, 180, 0, 21, 100, 162, 0, 27, 42, 180, 0, 17]
abbrev dktJ26_leftShift_6 : List UInt8 := dkwJ26_leftShift_6 ++ dktJ26_leftShift_7
def dkwJ26_leftShift_5 : List UInt8 := [167, 255, 227, 42, 25, 6, 21, 5, 182, 0, 124, 167, 0, 129, 42, 180, 0, 17, 190, 42, 180, 0, 11, 100]
abbrev dktJ26_leftShift_5 : List UInt8 := dkwJ26_leftShift_5 ++ dktJ26_leftShift_6
def dkwJ26_leftShift_4 : List UInt8 := [162, 0, 26, 25, 6, 21, 7, 42, 180, 0, 17, 42, 180, 0, 11, 21, 7, 96, 46, 79, 132, 7, 1]
abbrev dktJ26_leftShift_4 : List UInt8 := dkwJ26_leftShift_4 ++ dktJ26_leftShift_5
def dkwJ26_leftShift_3 : List UInt8 := [180, 0, 17, 190, 21, 5, 162, 0, 55, 21, 5, 188, 10, 58, 6, 3, 54, 7, 21, 7, 42, 180, 0, 21]
abbrev dktJ26_leftShift_3 : List UInt8 := dkwJ26_leftShift_3 ++ dktJ26_leftShift_4
def dkwJ26_leftShift_2 : List UInt8 := [42, 180, 0, 21, 28, 96, 4, 96, 54, 5, 29, 16, 32, 21, 4, 100, 163, 0, 6, 132, 5, 255, 42]
abbrev dktJ26_leftShift_2 : List UInt8 := dkwJ26_leftShift_2 ++ dktJ26_leftShift_3
def dkwJ26_leftShift_1 : List UInt8 := [180, 0, 11, 46, 184, 0, 112, 54, 4, 27, 16, 32, 21, 4, 100, 163, 0, 9, 42, 29, 182, 0, 115, 177]
abbrev dktJ26_leftShift_1 : List UInt8 := dkwJ26_leftShift_1 ++ dktJ26_leftShift_2
def dkwJ26_leftShift_0 : List UInt8 := [42, 180, 0, 21, 154, 0, 4, 177, 27, 8, 124, 61, 27, 16, 31, 126, 62, 42, 180, 0, 17, 42]
abbrev dktJ26_leftShift_0 : List UInt8 := dkwJ26_leftShift_0 ++ dktJ26_leftShift_1
theorem dksJ26_leftShift_0 : cJ26_leftShift.data.toList.drop 0 = dktJ26_leftShift_0 := by decide +kernel
theorem dksJ26_leftShift_1 : cJ26_leftShift.data.toList.drop 22 = dktJ26_leftShift_1 := dk_seg dksJ26_leftShift_0 22 rfl rfl
theorem dksJ26_leftShift_2 : cJ26_leftShift.data.toList.drop 46 = dktJ26_leftShift_2 := dk_seg dksJ26_leftShift_1 24 rfl rfl
theorem dksJ26_leftShift_3 : cJ26_leftShift.data.toList.drop 69 = dktJ26_leftShift_3 := dk_seg dksJ26_leftShift_2 23 rfl rfl
theorem dksJ26_leftShift_4 : cJ26_leftShift.data.toList.drop 93 = dktJ26_leftShift_4 := dk_seg dksJ26_leftShift_3 24 rfl rfl
theorem dksJ26_leftShift_5 : cJ26_leftShift.data.toList.drop 116 = dktJ26_leftShift_5 := dk_seg dksJ26_leftShift_4 23 rfl rfl
theorem dksJ26_leftShift_6 : cJ26_leftShift.data.toList.drop 140 = dktJ26_leftShift_6 := dk_seg dksJ26_leftShift_5 24 rfl rfl
theorem dksJ26_leftShift_7 : cJ26_leftShift.data.toList.drop 164 = dktJ26_leftShift_7 := dk_seg dksJ26_leftShift_6 24 rfl rfl
theorem dksJ26_leftShift_8 : cJ26_leftShift.data.toList.drop 188 = dktJ26_leftShift_8 := dk_seg dksJ26_leftShift_7 24 rfl rfl
theorem dksJ26_leftShift_9 : cJ26_leftShift.data.toList.drop 210 = dktJ26_leftShift_9 := dk_seg dksJ26_leftShift_8 22 rfl rfl
theorem dksJ26_leftShift_10 : cJ26_leftShift.data.toList.drop 234 = dktJ26_leftShift_10 := dk_seg dksJ26_leftShift_9 24 rfl rfl
theorem dksJ26_leftShift_11 : cJ26_leftShift.data.toList.drop 257 = dktJ26_leftShift_11 := dk_seg dksJ26_leftShift_10 23 rfl rfl
theorem dksJ26_leftShift_12 : cJ26_leftShift.data.toList.drop 281 = dktJ26_leftShift_12 := dk_seg dksJ26_leftShift_11 24 rfl rfl
theorem dJ26_leftShift_0 : decode cJ26_leftShift 0 = .ok (.aload_n 0, 1) := dk_42 (dk_at dksJ26_leftShift_0 0 rfl rfl)
theorem dJ26_leftShift_1 : decode cJ26_leftShift 1 = .ok (.getfield 21, 3) := dk_180 0 21 (dk_at dksJ26_leftShift_0 1 rfl rfl)
theorem dJ26_leftShift_4 : decode cJ26_leftShift 4 = .ok (.ifCond .ne 4, 3) := dk_154 0 4 (dk_at dksJ26_leftShift_0 4 rfl rfl)
theorem dJ26_leftShift_7 : decode cJ26_leftShift 7 = .ok (.return_, 1) := dk_177 (dk_at dksJ26_leftShift_0 7 rfl rfl)
theorem dJ26_leftShift_8 : decode cJ26_leftShift 8 = .ok (.iload_n 1, 1) := dk_27 (dk_at dksJ26_leftShift_0 8 rfl rfl)
theorem dJ26_leftShift_9 : decode cJ26_leftShift 9 = .ok (.iconst 5, 1) := dk_8 (dk_at dksJ26_leftShift_0 9 rfl rfl)
theorem dJ26_leftShift_10 : decode cJ26_leftShift 10 = .ok (.iushr, 1) := dk_124 (dk_at dksJ26_leftShift_0 10 rfl rfl)
theorem dJ26_leftShift_11 : decode cJ26_leftShift 11 = .ok (.istore_n 2, 1) := dk_61 (dk_at dksJ26_leftShift_0 11 rfl rfl)
theorem dJ26_leftShift_12 : decode cJ26_leftShift 12 = .ok (.iload_n 1, 1) := dk_27 (dk_at dksJ26_leftShift_0 12 rfl rfl)
theorem dJ26_leftShift_13 : decode cJ26_leftShift 13 = .ok (.bipush 31, 2) := dk_16 31 (dk_at dksJ26_leftShift_0 13 rfl rfl)
theorem dJ26_leftShift_15 : decode cJ26_leftShift 15 = .ok (.iand, 1) := dk_126 (dk_at dksJ26_leftShift_0 15 rfl rfl)
theorem dJ26_leftShift_16 : decode cJ26_leftShift 16 = .ok (.istore_n 3, 1) := dk_62 (dk_at dksJ26_leftShift_0 16 rfl rfl)
theorem dJ26_leftShift_17 : decode cJ26_leftShift 17 = .ok (.aload_n 0, 1) := dk_42 (dk_at dksJ26_leftShift_0 17 rfl rfl)
theorem dJ26_leftShift_18 : decode cJ26_leftShift 18 = .ok (.getfield 17, 3) := dk_180 0 17 (dk_at dksJ26_leftShift_0 18 rfl rfl)
theorem dJ26_leftShift_21 : decode cJ26_leftShift 21 = .ok (.aload_n 0, 1) := dk_42 (dk_at dksJ26_leftShift_0 21 rfl rfl)
theorem dJ26_leftShift_22 : decode cJ26_leftShift 22 = .ok (.getfield 11, 3) := dk_180 0 11 (dk_at dksJ26_leftShift_1 0 rfl rfl)
theorem dJ26_leftShift_25 : decode cJ26_leftShift 25 = .ok (.iaload, 1) := dk_46 (dk_at dksJ26_leftShift_1 3 rfl rfl)
theorem dJ26_leftShift_26 : decode cJ26_leftShift 26 = .ok (.invokestatic 112, 3) := dk_184 0 112 (dk_at dksJ26_leftShift_1 4 rfl rfl)
theorem dJ26_leftShift_29 : decode cJ26_leftShift 29 = .ok (.istore 4, 2) := dk_54 4 (dk_at dksJ26_leftShift_1 7 rfl rfl)
theorem dJ26_leftShift_31 : decode cJ26_leftShift 31 = .ok (.iload_n 1, 1) := dk_27 (dk_at dksJ26_leftShift_1 9 rfl rfl)
theorem dJ26_leftShift_32 : decode cJ26_leftShift 32 = .ok (.bipush 32, 2) := dk_16 32 (dk_at dksJ26_leftShift_1 10 rfl rfl)
theorem dJ26_leftShift_34 : decode cJ26_leftShift 34 = .ok (.iload 4, 2) := dk_21 4 (dk_at dksJ26_leftShift_1 12 rfl rfl)
theorem dJ26_leftShift_36 : decode cJ26_leftShift 36 = .ok (.isub, 1) := dk_100 (dk_at dksJ26_leftShift_1 14 rfl rfl)
theorem dJ26_leftShift_37 : decode cJ26_leftShift 37 = .ok (.if_icmp .gt 9, 3) := dk_163 0 9 (dk_at dksJ26_leftShift_1 15 rfl rfl)
theorem dJ26_leftShift_40 : decode cJ26_leftShift 40 = .ok (.aload_n 0, 1) := dk_42 (dk_at dksJ26_leftShift_1 18 rfl rfl)
theorem dJ26_leftShift_41 : decode cJ26_leftShift 41 = .ok (.iload_n 3, 1) := dk_29 (dk_at dksJ26_leftShift_1 19 rfl rfl)
theorem dJ26_leftShift_42 : decode cJ26_leftShift 42 = .ok (.invokevirtual 115, 3) := dk_182 0 115 (dk_at dksJ26_leftShift_1 20 rfl rfl)
theorem dJ26_leftShift_45 : decode cJ26_leftShift 45 = .ok (.return_, 1) := dk_177 (dk_at dksJ26_leftShift_1 23 rfl rfl)
theorem dJ26_leftShift_46 : decode cJ26_leftShift 46 = .ok (.aload_n 0, 1) := dk_42 (dk_at dksJ26_leftShift_2 0 rfl rfl)
theorem dJ26_leftShift_47 : decode cJ26_leftShift 47 = .ok (.getfield 21, 3) := dk_180 0 21 (dk_at dksJ26_leftShift_2 1 rfl rfl)
theorem dJ26_leftShift_50 : decode cJ26_leftShift 50 = .ok (.iload_n 2, 1) := dk_28 (dk_at dksJ26_leftShift_2 4 rfl rfl)
theorem dJ26_leftShift_51 : decode cJ26_leftShift 51 = .ok (.iadd, 1) := dk_96 (dk_at dksJ26_leftShift_2 5 rfl rfl)
theorem dJ26_leftShift_52 : decode cJ26_leftShift 52 = .ok (.iconst 1, 1) := dk_4 (dk_at dksJ26_leftShift_2 6 rfl rfl)
theorem dJ26_leftShift_53 : decode cJ26_leftShift 53 = .ok (.iadd, 1) := dk_96 (dk_at dksJ26_leftShift_2 7 rfl rfl)
theorem dJ26_leftShift_54 : decode cJ26_leftShift 54 = .ok (.istore 5, 2) := dk_54 5 (dk_at dksJ26_leftShift_2 8 rfl rfl)
theorem dJ26_leftShift_56 : decode cJ26_leftShift 56 = .ok (.iload_n 3, 1) := dk_29 (dk_at dksJ26_leftShift_2 10 rfl rfl)
theorem dJ26_leftShift_57 : decode cJ26_leftShift 57 = .ok (.bipush 32, 2) := dk_16 32 (dk_at dksJ26_leftShift_2 11 rfl rfl)
theorem dJ26_leftShift_59 : decode cJ26_leftShift 59 = .ok (.iload 4, 2) := dk_21 4 (dk_at dksJ26_leftShift_2 13 rfl rfl)
theorem dJ26_leftShift_61 : decode cJ26_leftShift 61 = .ok (.isub, 1) := dk_100 (dk_at dksJ26_leftShift_2 15 rfl rfl)
theorem dJ26_leftShift_62 : decode cJ26_leftShift 62 = .ok (.if_icmp .gt 6, 3) := dk_163 0 6 (dk_at dksJ26_leftShift_2 16 rfl rfl)
theorem dJ26_leftShift_65 : decode cJ26_leftShift 65 = .ok (.iinc 5 (-1), 3) := dk_132 5 255 (dk_at dksJ26_leftShift_2 19 rfl rfl)
theorem dJ26_leftShift_68 : decode cJ26_leftShift 68 = .ok (.aload_n 0, 1) := dk_42 (dk_at dksJ26_leftShift_2 22 rfl rfl)
theorem dJ26_leftShift_69 : decode cJ26_leftShift 69 = .ok (.getfield 17, 3) := dk_180 0 17 (dk_at dksJ26_leftShift_3 0 rfl rfl)
theorem dJ26_leftShift_72 : decode cJ26_leftShift 72 = .ok (.arraylength, 1) := dk_190 (dk_at dksJ26_leftShift_3 3 rfl rfl)
theorem dJ26_leftShift_73 : decode cJ26_leftShift 73 = .ok (.iload 5, 2) := dk_21 5 (dk_at dksJ26_leftShift_3 4 rfl rfl)
theorem dJ26_leftShift_75 : decode cJ26_leftShift 75 = .ok (.if_icmp .ge 55, 3) := dk_162 0 55 (dk_at dksJ26_leftShift_3 6 rfl rfl)
theorem dJ26_leftShift_78 : decode cJ26_leftShift 78 = .ok (.iload 5, 2) := dk_21 5 (dk_at dksJ26_leftShift_3 9 rfl rfl)
theorem dJ26_leftShift_80 : decode cJ26_leftShift 80 = .ok (.newarray .int, 2) := dk_188_10 (dk_at dksJ26_leftShift_3 11 rfl rfl)
theorem dJ26_leftShift_82 : decode cJ26_leftShift 82 = .ok (.astore 6, 2) := dk_58 6 (dk_at dksJ26_leftShift_3 13 rfl rfl)
theorem dJ26_leftShift_84 : decode cJ26_leftShift 84 = .ok (.iconst 0, 1) := dk_3 (dk_at dksJ26_leftShift_3 15 rfl rfl)
theorem dJ26_leftShift_85 : decode cJ26_leftShift 85 = .ok (.istore 7, 2) := dk_54 7 (dk_at dksJ26_leftShift_3 16 rfl rfl)
theorem dJ26_leftShift_87 : decode cJ26_leftShift 87 = .ok (.iload 7, 2) := dk_21 7 (dk_at dksJ26_leftShift_3 18 rfl rfl)
theorem dJ26_leftShift_89 : decode cJ26_leftShift 89 = .ok (.aload_n 0, 1) := dk_42 (dk_at dksJ26_leftShift_3 20 rfl rfl)
theorem dJ26_leftShift_90 : decode cJ26_leftShift 90 = .ok (.getfield 21, 3) := dk_180 0 21 (dk_at dksJ26_leftShift_3 21 rfl rfl)
theorem dJ26_leftShift_93 : decode cJ26_leftShift 93 = .ok (.if_icmp .ge 26, 3) := dk_162 0 26 (dk_at dksJ26_leftShift_4 0 rfl rfl)
theorem dJ26_leftShift_96 : decode cJ26_leftShift 96 = .ok (.aload 6, 2) := dk_25 6 (dk_at dksJ26_leftShift_4 3 rfl rfl)
theorem dJ26_leftShift_98 : decode cJ26_leftShift 98 = .ok (.iload 7, 2) := dk_21 7 (dk_at dksJ26_leftShift_4 5 rfl rfl)
theorem dJ26_leftShift_100 : decode cJ26_leftShift 100 = .ok (.aload_n 0, 1) := dk_42 (dk_at dksJ26_leftShift_4 7 rfl rfl)
theorem dJ26_leftShift_101 : decode cJ26_leftShift 101 = .ok (.getfield 17, 3) := dk_180 0 17 (dk_at dksJ26_leftShift_4 8 rfl rfl)
theorem dJ26_leftShift_104 : decode cJ26_leftShift 104 = .ok (.aload_n 0, 1) := dk_42 (dk_at dksJ26_leftShift_4 11 rfl rfl)
theorem dJ26_leftShift_105 : decode cJ26_leftShift 105 = .ok (.getfield 11, 3) := dk_180 0 11 (dk_at dksJ26_leftShift_4 12 rfl rfl)
theorem dJ26_leftShift_108 : decode cJ26_leftShift 108 = .ok (.iload 7, 2) := dk_21 7 (dk_at dksJ26_leftShift_4 15 rfl rfl)
theorem dJ26_leftShift_110 : decode cJ26_leftShift 110 = .ok (.iadd, 1) := dk_96 (dk_at dksJ26_leftShift_4 17 rfl rfl)
theorem dJ26_leftShift_111 : decode cJ26_leftShift 111 = .ok (.iaload, 1) := dk_46 (dk_at dksJ26_leftShift_4 18 rfl rfl)
theorem dJ26_leftShift_112 : decode cJ26_leftShift 112 = .ok (.iastore, 1) := dk_79 (dk_at dksJ26_leftShift_4 19 rfl rfl)
theorem dJ26_leftShift_113 : decode cJ26_leftShift 113 = .ok (.iinc 7 1, 3) := dk_132 7 1 (dk_at dksJ26_leftShift_4 20 rfl rfl)
theorem dJ26_leftShift_116 : decode cJ26_leftShift 116 = .ok (.goto (-29), 3) := dk_167 255 227 (dk_at dksJ26_leftShift_5 0 rfl rfl)
theorem dJ26_leftShift_119 : decode cJ26_leftShift 119 = .ok (.aload_n 0, 1) := dk_42 (dk_at dksJ26_leftShift_5 3 rfl rfl)
theorem dJ26_leftShift_120 : decode cJ26_leftShift 120 = .ok (.aload 6, 2) := dk_25 6 (dk_at dksJ26_leftShift_5 4 rfl rfl)
theorem dJ26_leftShift_122 : decode cJ26_leftShift 122 = .ok (.iload 5, 2) := dk_21 5 (dk_at dksJ26_leftShift_5 6 rfl rfl)
theorem dJ26_leftShift_124 : decode cJ26_leftShift 124 = .ok (.invokevirtual 124, 3) := dk_182 0 124 (dk_at dksJ26_leftShift_5 8 rfl rfl)
theorem dJ26_leftShift_127 : decode cJ26_leftShift 127 = .ok (.goto 129, 3) := dk_167 0 129 (dk_at dksJ26_leftShift_5 11 rfl rfl)
theorem dJ26_leftShift_130 : decode cJ26_leftShift 130 = .ok (.aload_n 0, 1) := dk_42 (dk_at dksJ26_leftShift_5 14 rfl rfl)
theorem dJ26_leftShift_131 : decode cJ26_leftShift 131 = .ok (.getfield 17, 3) := dk_180 0 17 (dk_at dksJ26_leftShift_5 15 rfl rfl)
theorem dJ26_leftShift_134 : decode cJ26_leftShift 134 = .ok (.arraylength, 1) := dk_190 (dk_at dksJ26_leftShift_5 18 rfl rfl)
theorem dJ26_leftShift_135 : decode cJ26_leftShift 135 = .ok (.aload_n 0, 1) := dk_42 (dk_at dksJ26_leftShift_5 19 rfl rfl)
theorem dJ26_leftShift_136 : decode cJ26_leftShift 136 = .ok (.getfield 11, 3) := dk_180 0 11 (dk_at dksJ26_leftShift_5 20 rfl rfl)
theorem dJ26_leftShift_139 : decode cJ26_leftShift 139 = .ok (.isub, 1) := dk_100 (dk_at dksJ26_leftShift_5 23 rfl rfl)
theorem dJ26_leftShift_140 : decode cJ26_leftShift 140 = .ok (.iload 5, 2) := dk_21 5 (dk_at dksJ26_leftShift_6 0 rfl rfl)
theorem dJ26_leftShift_142 : decode cJ26_leftShift 142 = .ok (.if_icmp .lt 45, 3) := dk_161 0 45 (dk_at dksJ26_leftShift_6 2 rfl rfl)
theorem dJ26_leftShift_145 : decode cJ26_leftShift 145 = .ok (.iconst 0, 1) := dk_3 (dk_at dksJ26_leftShift_6 5 rfl rfl)
theorem dJ26_leftShift_146 : decode cJ26_leftShift 146 = .ok (.istore 6, 2) := dk_54 6 (dk_at dksJ26_leftShift_6 6 rfl rfl)
theorem dJ26_leftShift_148 : decode cJ26_leftShift 148 = .ok (.iload 6, 2) := dk_21 6 (dk_at dksJ26_leftShift_6 8 rfl rfl)
theorem dJ26_leftShift_150 : decode cJ26_leftShift 150 = .ok (.iload 5, 2) := dk_21 5 (dk_at dksJ26_leftShift_6 10 rfl rfl)
theorem dJ26_leftShift_152 : decode cJ26_leftShift 152 = .ok (.aload_n 0, 1) := dk_42 (dk_at dksJ26_leftShift_6 12 rfl rfl)
theorem dJ26_leftShift_153 : decode cJ26_leftShift 153 = .ok (.getfield 21, 3) := dk_180 0 21 (dk_at dksJ26_leftShift_6 13 rfl rfl)
theorem dJ26_leftShift_156 : decode cJ26_leftShift 156 = .ok (.isub, 1) := dk_100 (dk_at dksJ26_leftShift_6 16 rfl rfl)
theorem dJ26_leftShift_157 : decode cJ26_leftShift 157 = .ok (.if_icmp .ge 27, 3) := dk_162 0 27 (dk_at dksJ26_leftShift_6 17 rfl rfl)
theorem dJ26_leftShift_160 : decode cJ26_leftShift 160 = .ok (.aload_n 0, 1) := dk_42 (dk_at dksJ26_leftShift_6 20 rfl rfl)
theorem dJ26_leftShift_161 : decode cJ26_leftShift 161 = .ok (.getfield 17, 3) := dk_180 0 17 (dk_at dksJ26_leftShift_6 21 rfl rfl)
theorem dJ26_leftShift_164 : decode cJ26_leftShift 164 = .ok (.aload_n 0, 1) := dk_42 (dk_at dksJ26_leftShift_7 0 rfl rfl)
theorem dJ26_leftShift_165 : decode cJ26_leftShift 165 = .ok (.getfield 11, 3) := dk_180 0 11 (dk_at dksJ26_leftShift_7 1 rfl rfl)
theorem dJ26_leftShift_168 : decode cJ26_leftShift 168 = .ok (.aload_n 0, 1) := dk_42 (dk_at dksJ26_leftShift_7 4 rfl rfl)
theorem dJ26_leftShift_169 : decode cJ26_leftShift 169 = .ok (.getfield 21, 3) := dk_180 0 21 (dk_at dksJ26_leftShift_7 5 rfl rfl)
theorem dJ26_leftShift_172 : decode cJ26_leftShift 172 = .ok (.iadd, 1) := dk_96 (dk_at dksJ26_leftShift_7 8 rfl rfl)
theorem dJ26_leftShift_173 : decode cJ26_leftShift 173 = .ok (.iload 6, 2) := dk_21 6 (dk_at dksJ26_leftShift_7 9 rfl rfl)
theorem dJ26_leftShift_175 : decode cJ26_leftShift 175 = .ok (.iadd, 1) := dk_96 (dk_at dksJ26_leftShift_7 11 rfl rfl)
theorem dJ26_leftShift_176 : decode cJ26_leftShift 176 = .ok (.iconst 0, 1) := dk_3 (dk_at dksJ26_leftShift_7 12 rfl rfl)
theorem dJ26_leftShift_177 : decode cJ26_leftShift 177 = .ok (.iastore, 1) := dk_79 (dk_at dksJ26_leftShift_7 13 rfl rfl)
theorem dJ26_leftShift_178 : decode cJ26_leftShift 178 = .ok (.iinc 6 1, 3) := dk_132 6 1 (dk_at dksJ26_leftShift_7 14 rfl rfl)
theorem dJ26_leftShift_181 : decode cJ26_leftShift 181 = .ok (.goto (-33), 3) := dk_167 255 223 (dk_at dksJ26_leftShift_7 17 rfl rfl)
theorem dJ26_leftShift_184 : decode cJ26_leftShift 184 = .ok (.goto 72, 3) := dk_167 0 72 (dk_at dksJ26_leftShift_7 20 rfl rfl)
theorem dJ26_leftShift_187 : decode cJ26_leftShift 187 = .ok (.iconst 0, 1) := dk_3 (dk_at dksJ26_leftShift_7 23 rfl rfl)
theorem dJ26_leftShift_188 : decode cJ26_leftShift 188 = .ok (.istore 6, 2) := dk_54 6 (dk_at dksJ26_leftShift_8 0 rfl rfl)
theorem dJ26_leftShift_190 : decode cJ26_leftShift 190 = .ok (.iload 6, 2) := dk_21 6 (dk_at dksJ26_leftShift_8 2 rfl rfl)
theorem dJ26_leftShift_192 : decode cJ26_leftShift 192 = .ok (.aload_n 0, 1) := dk_42 (dk_at dksJ26_leftShift_8 4 rfl rfl)
theorem dJ26_leftShift_193 : decode cJ26_leftShift 193 = .ok (.getfield 21, 3) := dk_180 0 21 (dk_at dksJ26_leftShift_8 5 rfl rfl)
theorem dJ26_leftShift_196 : decode cJ26_leftShift 196 = .ok (.if_icmp .ge 28, 3) := dk_162 0 28 (dk_at dksJ26_leftShift_8 8 rfl rfl)
theorem dJ26_leftShift_199 : decode cJ26_leftShift 199 = .ok (.aload_n 0, 1) := dk_42 (dk_at dksJ26_leftShift_8 11 rfl rfl)
theorem dJ26_leftShift_200 : decode cJ26_leftShift 200 = .ok (.getfield 17, 3) := dk_180 0 17 (dk_at dksJ26_leftShift_8 12 rfl rfl)
theorem dJ26_leftShift_203 : decode cJ26_leftShift 203 = .ok (.iload 6, 2) := dk_21 6 (dk_at dksJ26_leftShift_8 15 rfl rfl)
theorem dJ26_leftShift_205 : decode cJ26_leftShift 205 = .ok (.aload_n 0, 1) := dk_42 (dk_at dksJ26_leftShift_8 17 rfl rfl)
theorem dJ26_leftShift_206 : decode cJ26_leftShift 206 = .ok (.getfield 17, 3) := dk_180 0 17 (dk_at dksJ26_leftShift_8 18 rfl rfl)
theorem dJ26_leftShift_209 : decode cJ26_leftShift 209 = .ok (.aload_n 0, 1) := dk_42 (dk_at dksJ26_leftShift_8 21 rfl rfl)
theorem dJ26_leftShift_210 : decode cJ26_leftShift 210 = .ok (.getfield 11, 3) := dk_180 0 11 (dk_at dksJ26_leftShift_9 0 rfl rfl)
theorem dJ26_leftShift_213 : decode cJ26_leftShift 213 = .ok (.iload 6, 2) := dk_21 6 (dk_at dksJ26_leftShift_9 3 rfl rfl)
theorem dJ26_leftShift_215 : decode cJ26_leftShift 215 = .ok (.iadd, 1) := dk_96 (dk_at dksJ26_leftShift_9 5 rfl rfl)
theorem dJ26_leftShift_216 : decode cJ26_leftShift 216 = .ok (.iaload, 1) := dk_46 (dk_at dksJ26_leftShift_9 6 rfl rfl)
theorem dJ26_leftShift_217 : decode cJ26_leftShift 217 = .ok (.iastore, 1) := dk_79 (dk_at dksJ26_leftShift_9 7 rfl rfl)
theorem dJ26_leftShift_218 : decode cJ26_leftShift 218 = .ok (.iinc 6 1, 3) := dk_132 6 1 (dk_at dksJ26_leftShift_9 8 rfl rfl)
theorem dJ26_leftShift_221 : decode cJ26_leftShift 221 = .ok (.goto (-31), 3) := dk_167 255 225 (dk_at dksJ26_leftShift_9 11 rfl rfl)
theorem dJ26_leftShift_224 : decode cJ26_leftShift 224 = .ok (.aload_n 0, 1) := dk_42 (dk_at dksJ26_leftShift_9 14 rfl rfl)
theorem dJ26_leftShift_225 : decode cJ26_leftShift 225 = .ok (.getfield 21, 3) := dk_180 0 21 (dk_at dksJ26_leftShift_9 15 rfl rfl)
theorem dJ26_leftShift_228 : decode cJ26_leftShift 228 = .ok (.istore 6, 2) := dk_54 6 (dk_at dksJ26_leftShift_9 18 rfl rfl)
theorem dJ26_leftShift_230 : decode cJ26_leftShift 230 = .ok (.iload 6, 2) := dk_21 6 (dk_at dksJ26_leftShift_9 20 rfl rfl)
theorem dJ26_leftShift_232 : decode cJ26_leftShift 232 = .ok (.iload 5, 2) := dk_21 5 (dk_at dksJ26_leftShift_9 22 rfl rfl)
theorem dJ26_leftShift_234 : decode cJ26_leftShift 234 = .ok (.if_icmp .ge 17, 3) := dk_162 0 17 (dk_at dksJ26_leftShift_10 0 rfl rfl)
theorem dJ26_leftShift_237 : decode cJ26_leftShift 237 = .ok (.aload_n 0, 1) := dk_42 (dk_at dksJ26_leftShift_10 3 rfl rfl)
theorem dJ26_leftShift_238 : decode cJ26_leftShift 238 = .ok (.getfield 17, 3) := dk_180 0 17 (dk_at dksJ26_leftShift_10 4 rfl rfl)
theorem dJ26_leftShift_241 : decode cJ26_leftShift 241 = .ok (.iload 6, 2) := dk_21 6 (dk_at dksJ26_leftShift_10 7 rfl rfl)
theorem dJ26_leftShift_243 : decode cJ26_leftShift 243 = .ok (.iconst 0, 1) := dk_3 (dk_at dksJ26_leftShift_10 9 rfl rfl)
theorem dJ26_leftShift_244 : decode cJ26_leftShift 244 = .ok (.iastore, 1) := dk_79 (dk_at dksJ26_leftShift_10 10 rfl rfl)
theorem dJ26_leftShift_245 : decode cJ26_leftShift 245 = .ok (.iinc 6 1, 3) := dk_132 6 1 (dk_at dksJ26_leftShift_10 11 rfl rfl)
theorem dJ26_leftShift_248 : decode cJ26_leftShift 248 = .ok (.goto (-18), 3) := dk_167 255 238 (dk_at dksJ26_leftShift_10 14 rfl rfl)
theorem dJ26_leftShift_251 : decode cJ26_leftShift 251 = .ok (.aload_n 0, 1) := dk_42 (dk_at dksJ26_leftShift_10 17 rfl rfl)
theorem dJ26_leftShift_252 : decode cJ26_leftShift 252 = .ok (.iconst 0, 1) := dk_3 (dk_at dksJ26_leftShift_10 18 rfl rfl)
theorem dJ26_leftShift_253 : decode cJ26_leftShift 253 = .ok (.putfield 11, 3) := dk_181 0 11 (dk_at dksJ26_leftShift_10 19 rfl rfl)
theorem dJ26_leftShift_256 : decode cJ26_leftShift 256 = .ok (.aload_n 0, 1) := dk_42 (dk_at dksJ26_leftShift_10 22 rfl rfl)
theorem dJ26_leftShift_257 : decode cJ26_leftShift 257 = .ok (.iload 5, 2) := dk_21 5 (dk_at dksJ26_leftShift_11 0 rfl rfl)
theorem dJ26_leftShift_259 : decode cJ26_leftShift 259 = .ok (.putfield 21, 3) := dk_181 0 21 (dk_at dksJ26_leftShift_11 2 rfl rfl)
theorem dJ26_leftShift_262 : decode cJ26_leftShift 262 = .ok (.iload_n 3, 1) := dk_29 (dk_at dksJ26_leftShift_11 5 rfl rfl)
theorem dJ26_leftShift_263 : decode cJ26_leftShift 263 = .ok (.ifCond .ne 4, 3) := dk_154 0 4 (dk_at dksJ26_leftShift_11 6 rfl rfl)
theorem dJ26_leftShift_266 : decode cJ26_leftShift 266 = .ok (.return_, 1) := dk_177 (dk_at dksJ26_leftShift_11 9 rfl rfl)
theorem dJ26_leftShift_267 : decode cJ26_leftShift 267 = .ok (.iload_n 3, 1) := dk_29 (dk_at dksJ26_leftShift_11 10 rfl rfl)
theorem dJ26_leftShift_268 : decode cJ26_leftShift 268 = .ok (.bipush 32, 2) := dk_16 32 (dk_at dksJ26_leftShift_11 11 rfl rfl)
theorem dJ26_leftShift_270 : decode cJ26_leftShift 270 = .ok (.iload 4, 2) := dk_21 4 (dk_at dksJ26_leftShift_11 13 rfl rfl)
theorem dJ26_leftShift_272 : decode cJ26_leftShift 272 = .ok (.isub, 1) := dk_100 (dk_at dksJ26_leftShift_11 15 rfl rfl)
theorem dJ26_leftShift_273 : decode cJ26_leftShift 273 = .ok (.if_icmp .gt 11, 3) := dk_163 0 11 (dk_at dksJ26_leftShift_11 16 rfl rfl)
theorem dJ26_leftShift_276 : decode cJ26_leftShift 276 = .ok (.aload_n 0, 1) := dk_42 (dk_at dksJ26_leftShift_11 19 rfl rfl)
theorem dJ26_leftShift_277 : decode cJ26_leftShift 277 = .ok (.iload_n 3, 1) := dk_29 (dk_at dksJ26_leftShift_11 20 rfl rfl)
theorem dJ26_leftShift_278 : decode cJ26_leftShift 278 = .ok (.invokevirtual 115, 3) := dk_182 0 115 (dk_at dksJ26_leftShift_11 21 rfl rfl)
theorem dJ26_leftShift_281 : decode cJ26_leftShift 281 = .ok (.goto 11, 3) := dk_167 0 11 (dk_at dksJ26_leftShift_12 0 rfl rfl)
theorem dJ26_leftShift_284 : decode cJ26_leftShift 284 = .ok (.aload_n 0, 1) := dk_42 (dk_at dksJ26_leftShift_12 3 rfl rfl)
theorem dJ26_leftShift_285 : decode cJ26_leftShift 285 = .ok (.bipush 32, 2) := dk_16 32 (dk_at dksJ26_leftShift_12 4 rfl rfl)
theorem dJ26_leftShift_287 : decode cJ26_leftShift 287 = .ok (.iload_n 3, 1) := dk_29 (dk_at dksJ26_leftShift_12 6 rfl rfl)
theorem dJ26_leftShift_288 : decode cJ26_leftShift 288 = .ok (.isub, 1) := dk_100 (dk_at dksJ26_leftShift_12 7 rfl rfl)
theorem dJ26_leftShift_289 : decode cJ26_leftShift 289 = .ok (.invokevirtual 118, 3) := dk_182 0 118 (dk_at dksJ26_leftShift_12 8 rfl rfl)
theorem dJ26_leftShift_292 : decode cJ26_leftShift 292 = .ok (.return_, 1) := dk_177 (dk_at dksJ26_leftShift_12 11 rfl rfl)
abbrev cJ26_setValue : ByteArray := prog_33_method_25_code
def yJ26_setValue : MethodName := ⟨RJ26, "setValue", "([II)V"⟩
def dkwJ26_setValue_0 : List UInt8 := [42, 43, 181, 0, 17, 42, 28, 181, 0, 21, 42, 3, 181, 0, 11, 177]
abbrev dktJ26_setValue_0 : List UInt8 := dkwJ26_setValue_0 ++ []
theorem dksJ26_setValue_0 : cJ26_setValue.data.toList.drop 0 = dktJ26_setValue_0 := by decide +kernel
theorem dJ26_setValue_0 : decode cJ26_setValue 0 = .ok (.aload_n 0, 1) := dk_42 (dk_at dksJ26_setValue_0 0 rfl rfl)
theorem dJ26_setValue_1 : decode cJ26_setValue 1 = .ok (.aload_n 1, 1) := dk_43 (dk_at dksJ26_setValue_0 1 rfl rfl)
theorem dJ26_setValue_2 : decode cJ26_setValue 2 = .ok (.putfield 17, 3) := dk_181 0 17 (dk_at dksJ26_setValue_0 2 rfl rfl)
theorem dJ26_setValue_5 : decode cJ26_setValue 5 = .ok (.aload_n 0, 1) := dk_42 (dk_at dksJ26_setValue_0 5 rfl rfl)
theorem dJ26_setValue_6 : decode cJ26_setValue 6 = .ok (.iload_n 2, 1) := dk_28 (dk_at dksJ26_setValue_0 6 rfl rfl)
theorem dJ26_setValue_7 : decode cJ26_setValue 7 = .ok (.putfield 21, 3) := dk_181 0 21 (dk_at dksJ26_setValue_0 7 rfl rfl)
theorem dJ26_setValue_10 : decode cJ26_setValue 10 = .ok (.aload_n 0, 1) := dk_42 (dk_at dksJ26_setValue_0 10 rfl rfl)
theorem dJ26_setValue_11 : decode cJ26_setValue 11 = .ok (.iconst 0, 1) := dk_3 (dk_at dksJ26_setValue_0 11 rfl rfl)
theorem dJ26_setValue_12 : decode cJ26_setValue 12 = .ok (.putfield 11, 3) := dk_181 0 11 (dk_at dksJ26_setValue_0 12 rfl rfl)
theorem dJ26_setValue_15 : decode cJ26_setValue 15 = .ok (.return_, 1) := dk_177 (dk_at dksJ26_setValue_0 15 rfl rfl)
abbrev cJ26_difference : ByteArray := prog_33_method_50_code
def yJ26_difference : MethodName := ⟨RJ26, "difference", "(Ljava/math/MutableBigInteger;)I"⟩
def dkwJ26_difference_7 : List UInt8 := [22, 4, 136, 79, 167, 255, 201, 44, 182, 0, 64, 29, 172]
abbrev dktJ26_difference_7 : List UInt8 := dkwJ26_difference_7 ++ []
def dkwJ26_difference_6 : List UInt8 := [20, 0, 52, 127, 22, 4, 16, 32, 123, 97, 55, 4, 44, 180, 0, 17, 44, 180, 0, 11, 21, 6, 96]
abbrev dktJ26_difference_6 : List UInt8 := dkwJ26_difference_6 ++ dktJ26_difference_7
def dkwJ26_difference_5 : List UInt8 := [156, 0, 54, 21, 6, 158, 0, 49, 132, 6, 255, 44, 180, 0, 17, 44, 180, 0, 11, 21, 6, 96, 46, 133]
abbrev dktJ26_difference_5 : List UInt8 := dkwJ26_difference_5 ++ dktJ26_difference_6
def dkwJ26_difference_4 : List UInt8 := [55, 4, 44, 180, 0, 17, 44, 180, 0, 11, 21, 6, 96, 22, 4, 136, 79, 167, 255, 187, 22, 4, 9, 148]
abbrev dktJ26_difference_4 : List UInt8 := dkwJ26_difference_4 ++ dktJ26_difference_5
def dkwJ26_difference_3 : List UInt8 := [180, 0, 17, 43, 180, 0, 11, 21, 7, 96, 46, 133, 20, 0, 52, 127, 101, 22, 4, 16, 32, 123, 97]
abbrev dktJ26_difference_3 : List UInt8 := dkwJ26_difference_3 ++ dktJ26_difference_4
def dkwJ26_difference_2 : List UInt8 := [132, 6, 255, 132, 7, 255, 44, 180, 0, 17, 44, 180, 0, 11, 21, 6, 96, 46, 133, 20, 0, 52, 127, 43]
abbrev dktJ26_difference_2 : List UInt8 := dkwJ26_difference_2 ++ dktJ26_difference_3
def dkwJ26_difference_1 : List UInt8 := [25, 4, 76, 9, 55, 4, 44, 180, 0, 21, 54, 6, 43, 180, 0, 21, 54, 7, 21, 7, 158, 0, 70]
abbrev dktJ26_difference_1 : List UInt8 := dkwJ26_difference_1 ++ dktJ26_difference_2
def dkwJ26_difference_0 : List UInt8 := [42, 77, 44, 43, 182, 0, 142, 62, 29, 154, 0, 5, 3, 172, 29, 156, 0, 11, 44, 58, 4, 43, 77]
abbrev dktJ26_difference_0 : List UInt8 := dkwJ26_difference_0 ++ dktJ26_difference_1
theorem dksJ26_difference_0 : cJ26_difference.data.toList.drop 0 = dktJ26_difference_0 := by decide +kernel
theorem dksJ26_difference_1 : cJ26_difference.data.toList.drop 23 = dktJ26_difference_1 := dk_seg dksJ26_difference_0 23 rfl rfl
theorem dksJ26_difference_2 : cJ26_difference.data.toList.drop 46 = dktJ26_difference_2 := dk_seg dksJ26_difference_1 23 rfl rfl
theorem dksJ26_difference_3 : cJ26_difference.data.toList.drop 70 = dktJ26_difference_3 := dk_seg dksJ26_difference_2 24 rfl rfl
theorem dksJ26_difference_4 : cJ26_difference.data.toList.drop 93 = dktJ26_difference_4 := dk_seg dksJ26_difference_3 23 rfl rfl
theorem dksJ26_difference_5 : cJ26_difference.data.toList.drop 117 = dktJ26_difference_5 := dk_seg dksJ26_difference_4 24 rfl rfl
theorem dksJ26_difference_6 : cJ26_difference.data.toList.drop 141 = dktJ26_difference_6 := dk_seg dksJ26_difference_5 24 rfl rfl
theorem dksJ26_difference_7 : cJ26_difference.data.toList.drop 164 = dktJ26_difference_7 := dk_seg dksJ26_difference_6 23 rfl rfl
theorem dJ26_difference_0 : decode cJ26_difference 0 = .ok (.aload_n 0, 1) := dk_42 (dk_at dksJ26_difference_0 0 rfl rfl)
theorem dJ26_difference_1 : decode cJ26_difference 1 = .ok (.astore_n 2, 1) := dk_77 (dk_at dksJ26_difference_0 1 rfl rfl)
theorem dJ26_difference_2 : decode cJ26_difference 2 = .ok (.aload_n 2, 1) := dk_44 (dk_at dksJ26_difference_0 2 rfl rfl)
theorem dJ26_difference_3 : decode cJ26_difference 3 = .ok (.aload_n 1, 1) := dk_43 (dk_at dksJ26_difference_0 3 rfl rfl)
theorem dJ26_difference_4 : decode cJ26_difference 4 = .ok (.invokevirtual 142, 3) := dk_182 0 142 (dk_at dksJ26_difference_0 4 rfl rfl)
theorem dJ26_difference_7 : decode cJ26_difference 7 = .ok (.istore_n 3, 1) := dk_62 (dk_at dksJ26_difference_0 7 rfl rfl)
theorem dJ26_difference_8 : decode cJ26_difference 8 = .ok (.iload_n 3, 1) := dk_29 (dk_at dksJ26_difference_0 8 rfl rfl)
theorem dJ26_difference_9 : decode cJ26_difference 9 = .ok (.ifCond .ne 5, 3) := dk_154 0 5 (dk_at dksJ26_difference_0 9 rfl rfl)
theorem dJ26_difference_12 : decode cJ26_difference 12 = .ok (.iconst 0, 1) := dk_3 (dk_at dksJ26_difference_0 12 rfl rfl)
theorem dJ26_difference_13 : decode cJ26_difference 13 = .ok (.ireturn, 1) := dk_172 (dk_at dksJ26_difference_0 13 rfl rfl)
theorem dJ26_difference_14 : decode cJ26_difference 14 = .ok (.iload_n 3, 1) := dk_29 (dk_at dksJ26_difference_0 14 rfl rfl)
theorem dJ26_difference_15 : decode cJ26_difference 15 = .ok (.ifCond .ge 11, 3) := dk_156 0 11 (dk_at dksJ26_difference_0 15 rfl rfl)
theorem dJ26_difference_18 : decode cJ26_difference 18 = .ok (.aload_n 2, 1) := dk_44 (dk_at dksJ26_difference_0 18 rfl rfl)
theorem dJ26_difference_19 : decode cJ26_difference 19 = .ok (.astore 4, 2) := dk_58 4 (dk_at dksJ26_difference_0 19 rfl rfl)
theorem dJ26_difference_21 : decode cJ26_difference 21 = .ok (.aload_n 1, 1) := dk_43 (dk_at dksJ26_difference_0 21 rfl rfl)
theorem dJ26_difference_22 : decode cJ26_difference 22 = .ok (.astore_n 2, 1) := dk_77 (dk_at dksJ26_difference_0 22 rfl rfl)
theorem dJ26_difference_23 : decode cJ26_difference 23 = .ok (.aload 4, 2) := dk_25 4 (dk_at dksJ26_difference_1 0 rfl rfl)
theorem dJ26_difference_25 : decode cJ26_difference 25 = .ok (.astore_n 1, 1) := dk_76 (dk_at dksJ26_difference_1 2 rfl rfl)
theorem dJ26_difference_26 : decode cJ26_difference 26 = .ok (.lconst 0, 1) := dk_9 (dk_at dksJ26_difference_1 3 rfl rfl)
theorem dJ26_difference_27 : decode cJ26_difference 27 = .ok (.lstore 4, 2) := dk_55 4 (dk_at dksJ26_difference_1 4 rfl rfl)
theorem dJ26_difference_29 : decode cJ26_difference 29 = .ok (.aload_n 2, 1) := dk_44 (dk_at dksJ26_difference_1 6 rfl rfl)
theorem dJ26_difference_30 : decode cJ26_difference 30 = .ok (.getfield 21, 3) := dk_180 0 21 (dk_at dksJ26_difference_1 7 rfl rfl)
theorem dJ26_difference_33 : decode cJ26_difference 33 = .ok (.istore 6, 2) := dk_54 6 (dk_at dksJ26_difference_1 10 rfl rfl)
theorem dJ26_difference_35 : decode cJ26_difference 35 = .ok (.aload_n 1, 1) := dk_43 (dk_at dksJ26_difference_1 12 rfl rfl)
theorem dJ26_difference_36 : decode cJ26_difference 36 = .ok (.getfield 21, 3) := dk_180 0 21 (dk_at dksJ26_difference_1 13 rfl rfl)
theorem dJ26_difference_39 : decode cJ26_difference 39 = .ok (.istore 7, 2) := dk_54 7 (dk_at dksJ26_difference_1 16 rfl rfl)
theorem dJ26_difference_41 : decode cJ26_difference 41 = .ok (.iload 7, 2) := dk_21 7 (dk_at dksJ26_difference_1 18 rfl rfl)
theorem dJ26_difference_43 : decode cJ26_difference 43 = .ok (.ifCond .le 70, 3) := dk_158 0 70 (dk_at dksJ26_difference_1 20 rfl rfl)
theorem dJ26_difference_46 : decode cJ26_difference 46 = .ok (.iinc 6 (-1), 3) := dk_132 6 255 (dk_at dksJ26_difference_2 0 rfl rfl)
theorem dJ26_difference_49 : decode cJ26_difference 49 = .ok (.iinc 7 (-1), 3) := dk_132 7 255 (dk_at dksJ26_difference_2 3 rfl rfl)
theorem dJ26_difference_52 : decode cJ26_difference 52 = .ok (.aload_n 2, 1) := dk_44 (dk_at dksJ26_difference_2 6 rfl rfl)
theorem dJ26_difference_53 : decode cJ26_difference 53 = .ok (.getfield 17, 3) := dk_180 0 17 (dk_at dksJ26_difference_2 7 rfl rfl)
theorem dJ26_difference_56 : decode cJ26_difference 56 = .ok (.aload_n 2, 1) := dk_44 (dk_at dksJ26_difference_2 10 rfl rfl)
theorem dJ26_difference_57 : decode cJ26_difference 57 = .ok (.getfield 11, 3) := dk_180 0 11 (dk_at dksJ26_difference_2 11 rfl rfl)
theorem dJ26_difference_60 : decode cJ26_difference 60 = .ok (.iload 6, 2) := dk_21 6 (dk_at dksJ26_difference_2 14 rfl rfl)
theorem dJ26_difference_62 : decode cJ26_difference 62 = .ok (.iadd, 1) := dk_96 (dk_at dksJ26_difference_2 16 rfl rfl)
theorem dJ26_difference_63 : decode cJ26_difference 63 = .ok (.iaload, 1) := dk_46 (dk_at dksJ26_difference_2 17 rfl rfl)
theorem dJ26_difference_64 : decode cJ26_difference 64 = .ok (.i2l, 1) := dk_133 (dk_at dksJ26_difference_2 18 rfl rfl)
theorem dJ26_difference_65 : decode cJ26_difference 65 = .ok (.ldc2_w 52, 3) := dk_20 0 52 (dk_at dksJ26_difference_2 19 rfl rfl)
theorem dJ26_difference_68 : decode cJ26_difference 68 = .ok (.land, 1) := dk_127 (dk_at dksJ26_difference_2 22 rfl rfl)
theorem dJ26_difference_69 : decode cJ26_difference 69 = .ok (.aload_n 1, 1) := dk_43 (dk_at dksJ26_difference_2 23 rfl rfl)
theorem dJ26_difference_70 : decode cJ26_difference 70 = .ok (.getfield 17, 3) := dk_180 0 17 (dk_at dksJ26_difference_3 0 rfl rfl)
theorem dJ26_difference_73 : decode cJ26_difference 73 = .ok (.aload_n 1, 1) := dk_43 (dk_at dksJ26_difference_3 3 rfl rfl)
theorem dJ26_difference_74 : decode cJ26_difference 74 = .ok (.getfield 11, 3) := dk_180 0 11 (dk_at dksJ26_difference_3 4 rfl rfl)
theorem dJ26_difference_77 : decode cJ26_difference 77 = .ok (.iload 7, 2) := dk_21 7 (dk_at dksJ26_difference_3 7 rfl rfl)
theorem dJ26_difference_79 : decode cJ26_difference 79 = .ok (.iadd, 1) := dk_96 (dk_at dksJ26_difference_3 9 rfl rfl)
theorem dJ26_difference_80 : decode cJ26_difference 80 = .ok (.iaload, 1) := dk_46 (dk_at dksJ26_difference_3 10 rfl rfl)
theorem dJ26_difference_81 : decode cJ26_difference 81 = .ok (.i2l, 1) := dk_133 (dk_at dksJ26_difference_3 11 rfl rfl)
theorem dJ26_difference_82 : decode cJ26_difference 82 = .ok (.ldc2_w 52, 3) := dk_20 0 52 (dk_at dksJ26_difference_3 12 rfl rfl)
theorem dJ26_difference_85 : decode cJ26_difference 85 = .ok (.land, 1) := dk_127 (dk_at dksJ26_difference_3 15 rfl rfl)
theorem dJ26_difference_86 : decode cJ26_difference 86 = .ok (.lsub, 1) := dk_101 (dk_at dksJ26_difference_3 16 rfl rfl)
theorem dJ26_difference_87 : decode cJ26_difference 87 = .ok (.lload 4, 2) := dk_22 4 (dk_at dksJ26_difference_3 17 rfl rfl)
theorem dJ26_difference_89 : decode cJ26_difference 89 = .ok (.bipush 32, 2) := dk_16 32 (dk_at dksJ26_difference_3 19 rfl rfl)
theorem dJ26_difference_91 : decode cJ26_difference 91 = .ok (.lshr, 1) := dk_123 (dk_at dksJ26_difference_3 21 rfl rfl)
theorem dJ26_difference_92 : decode cJ26_difference 92 = .ok (.ladd, 1) := dk_97 (dk_at dksJ26_difference_3 22 rfl rfl)
theorem dJ26_difference_93 : decode cJ26_difference 93 = .ok (.lstore 4, 2) := dk_55 4 (dk_at dksJ26_difference_4 0 rfl rfl)
theorem dJ26_difference_95 : decode cJ26_difference 95 = .ok (.aload_n 2, 1) := dk_44 (dk_at dksJ26_difference_4 2 rfl rfl)
theorem dJ26_difference_96 : decode cJ26_difference 96 = .ok (.getfield 17, 3) := dk_180 0 17 (dk_at dksJ26_difference_4 3 rfl rfl)
theorem dJ26_difference_99 : decode cJ26_difference 99 = .ok (.aload_n 2, 1) := dk_44 (dk_at dksJ26_difference_4 6 rfl rfl)
theorem dJ26_difference_100 : decode cJ26_difference 100 = .ok (.getfield 11, 3) := dk_180 0 11 (dk_at dksJ26_difference_4 7 rfl rfl)
theorem dJ26_difference_103 : decode cJ26_difference 103 = .ok (.iload 6, 2) := dk_21 6 (dk_at dksJ26_difference_4 10 rfl rfl)
theorem dJ26_difference_105 : decode cJ26_difference 105 = .ok (.iadd, 1) := dk_96 (dk_at dksJ26_difference_4 12 rfl rfl)
theorem dJ26_difference_106 : decode cJ26_difference 106 = .ok (.lload 4, 2) := dk_22 4 (dk_at dksJ26_difference_4 13 rfl rfl)
theorem dJ26_difference_108 : decode cJ26_difference 108 = .ok (.l2i, 1) := dk_136 (dk_at dksJ26_difference_4 15 rfl rfl)
theorem dJ26_difference_109 : decode cJ26_difference 109 = .ok (.iastore, 1) := dk_79 (dk_at dksJ26_difference_4 16 rfl rfl)
theorem dJ26_difference_110 : decode cJ26_difference 110 = .ok (.goto (-69), 3) := dk_167 255 187 (dk_at dksJ26_difference_4 17 rfl rfl)
theorem dJ26_difference_113 : decode cJ26_difference 113 = .ok (.lload 4, 2) := dk_22 4 (dk_at dksJ26_difference_4 20 rfl rfl)
theorem dJ26_difference_115 : decode cJ26_difference 115 = .ok (.lconst 0, 1) := dk_9 (dk_at dksJ26_difference_4 22 rfl rfl)
theorem dJ26_difference_116 : decode cJ26_difference 116 = .ok (.lcmp, 1) := dk_148 (dk_at dksJ26_difference_4 23 rfl rfl)
theorem dJ26_difference_117 : decode cJ26_difference 117 = .ok (.ifCond .ge 54, 3) := dk_156 0 54 (dk_at dksJ26_difference_5 0 rfl rfl)
theorem dJ26_difference_120 : decode cJ26_difference 120 = .ok (.iload 6, 2) := dk_21 6 (dk_at dksJ26_difference_5 3 rfl rfl)
theorem dJ26_difference_122 : decode cJ26_difference 122 = .ok (.ifCond .le 49, 3) := dk_158 0 49 (dk_at dksJ26_difference_5 5 rfl rfl)
theorem dJ26_difference_125 : decode cJ26_difference 125 = .ok (.iinc 6 (-1), 3) := dk_132 6 255 (dk_at dksJ26_difference_5 8 rfl rfl)
theorem dJ26_difference_128 : decode cJ26_difference 128 = .ok (.aload_n 2, 1) := dk_44 (dk_at dksJ26_difference_5 11 rfl rfl)
theorem dJ26_difference_129 : decode cJ26_difference 129 = .ok (.getfield 17, 3) := dk_180 0 17 (dk_at dksJ26_difference_5 12 rfl rfl)
theorem dJ26_difference_132 : decode cJ26_difference 132 = .ok (.aload_n 2, 1) := dk_44 (dk_at dksJ26_difference_5 15 rfl rfl)
theorem dJ26_difference_133 : decode cJ26_difference 133 = .ok (.getfield 11, 3) := dk_180 0 11 (dk_at dksJ26_difference_5 16 rfl rfl)
theorem dJ26_difference_136 : decode cJ26_difference 136 = .ok (.iload 6, 2) := dk_21 6 (dk_at dksJ26_difference_5 19 rfl rfl)
theorem dJ26_difference_138 : decode cJ26_difference 138 = .ok (.iadd, 1) := dk_96 (dk_at dksJ26_difference_5 21 rfl rfl)
theorem dJ26_difference_139 : decode cJ26_difference 139 = .ok (.iaload, 1) := dk_46 (dk_at dksJ26_difference_5 22 rfl rfl)
theorem dJ26_difference_140 : decode cJ26_difference 140 = .ok (.i2l, 1) := dk_133 (dk_at dksJ26_difference_5 23 rfl rfl)
theorem dJ26_difference_141 : decode cJ26_difference 141 = .ok (.ldc2_w 52, 3) := dk_20 0 52 (dk_at dksJ26_difference_6 0 rfl rfl)
theorem dJ26_difference_144 : decode cJ26_difference 144 = .ok (.land, 1) := dk_127 (dk_at dksJ26_difference_6 3 rfl rfl)
theorem dJ26_difference_145 : decode cJ26_difference 145 = .ok (.lload 4, 2) := dk_22 4 (dk_at dksJ26_difference_6 4 rfl rfl)
theorem dJ26_difference_147 : decode cJ26_difference 147 = .ok (.bipush 32, 2) := dk_16 32 (dk_at dksJ26_difference_6 6 rfl rfl)
theorem dJ26_difference_149 : decode cJ26_difference 149 = .ok (.lshr, 1) := dk_123 (dk_at dksJ26_difference_6 8 rfl rfl)
theorem dJ26_difference_150 : decode cJ26_difference 150 = .ok (.ladd, 1) := dk_97 (dk_at dksJ26_difference_6 9 rfl rfl)
theorem dJ26_difference_151 : decode cJ26_difference 151 = .ok (.lstore 4, 2) := dk_55 4 (dk_at dksJ26_difference_6 10 rfl rfl)
theorem dJ26_difference_153 : decode cJ26_difference 153 = .ok (.aload_n 2, 1) := dk_44 (dk_at dksJ26_difference_6 12 rfl rfl)
theorem dJ26_difference_154 : decode cJ26_difference 154 = .ok (.getfield 17, 3) := dk_180 0 17 (dk_at dksJ26_difference_6 13 rfl rfl)
theorem dJ26_difference_157 : decode cJ26_difference 157 = .ok (.aload_n 2, 1) := dk_44 (dk_at dksJ26_difference_6 16 rfl rfl)
theorem dJ26_difference_158 : decode cJ26_difference 158 = .ok (.getfield 11, 3) := dk_180 0 11 (dk_at dksJ26_difference_6 17 rfl rfl)
theorem dJ26_difference_161 : decode cJ26_difference 161 = .ok (.iload 6, 2) := dk_21 6 (dk_at dksJ26_difference_6 20 rfl rfl)
theorem dJ26_difference_163 : decode cJ26_difference 163 = .ok (.iadd, 1) := dk_96 (dk_at dksJ26_difference_6 22 rfl rfl)
theorem dJ26_difference_164 : decode cJ26_difference 164 = .ok (.lload 4, 2) := dk_22 4 (dk_at dksJ26_difference_7 0 rfl rfl)
theorem dJ26_difference_166 : decode cJ26_difference 166 = .ok (.l2i, 1) := dk_136 (dk_at dksJ26_difference_7 2 rfl rfl)
theorem dJ26_difference_167 : decode cJ26_difference 167 = .ok (.iastore, 1) := dk_79 (dk_at dksJ26_difference_7 3 rfl rfl)
theorem dJ26_difference_168 : decode cJ26_difference 168 = .ok (.goto (-55), 3) := dk_167 255 201 (dk_at dksJ26_difference_7 4 rfl rfl)
theorem dJ26_difference_171 : decode cJ26_difference 171 = .ok (.aload_n 2, 1) := dk_44 (dk_at dksJ26_difference_7 7 rfl rfl)
theorem dJ26_difference_172 : decode cJ26_difference 172 = .ok (.invokevirtual 64, 3) := dk_182 0 64 (dk_at dksJ26_difference_7 8 rfl rfl)
theorem dJ26_difference_175 : decode cJ26_difference 175 = .ok (.iload_n 3, 1) := dk_29 (dk_at dksJ26_difference_7 11 rfl rfl)
theorem dJ26_difference_176 : decode cJ26_difference 176 = .ok (.ireturn, 1) := dk_172 (dk_at dksJ26_difference_7 12 rfl rfl)
abbrev cJ26_compare : ByteArray := prog_33_method_15_code
def yJ26_compare : MethodName := ⟨RJ26, "compare", "(Ljava/math/MutableBigInteger;)I"⟩
def dkwJ26_compare_4 : List UInt8 := [132, 4, 1, 132, 5, 1, 167, 255, 197, 3, 172]
abbrev dktJ26_compare_4 : List UInt8 := dkwJ26_compare_4 ++ []
def dkwJ26_compare_3 : List UInt8 := [18, 88, 96, 54, 7, 21, 6, 21, 7, 162, 0, 5, 2, 172, 21, 6, 21, 7, 164, 0, 5, 4, 172]
abbrev dktJ26_compare_3 : List UInt8 := dkwJ26_compare_3 ++ dktJ26_compare_4
def dkwJ26_compare_2 : List UInt8 := [42, 180, 0, 11, 96, 162, 0, 51, 42, 180, 0, 17, 21, 4, 46, 18, 88, 96, 54, 6, 45, 21, 5, 46]
abbrev dktJ26_compare_2 : List UInt8 := dkwJ26_compare_2 ++ dktJ26_compare_3
def dkwJ26_compare_1 : List UInt8 := [172, 43, 180, 0, 17, 78, 42, 180, 0, 11, 54, 4, 43, 180, 0, 11, 54, 5, 21, 4, 42, 180, 0, 21]
abbrev dktJ26_compare_1 : List UInt8 := dkwJ26_compare_1 ++ dktJ26_compare_2
def dkwJ26_compare_0 : List UInt8 := [43, 180, 0, 21, 61, 42, 180, 0, 21, 28, 162, 0, 5, 2, 172, 42, 180, 0, 21, 28, 164, 0, 5, 4]
abbrev dktJ26_compare_0 : List UInt8 := dkwJ26_compare_0 ++ dktJ26_compare_1
theorem dksJ26_compare_0 : cJ26_compare.data.toList.drop 0 = dktJ26_compare_0 := by decide +kernel
theorem dksJ26_compare_1 : cJ26_compare.data.toList.drop 24 = dktJ26_compare_1 := dk_seg dksJ26_compare_0 24 rfl rfl
theorem dksJ26_compare_2 : cJ26_compare.data.toList.drop 48 = dktJ26_compare_2 := dk_seg dksJ26_compare_1 24 rfl rfl
theorem dksJ26_compare_3 : cJ26_compare.data.toList.drop 72 = dktJ26_compare_3 := dk_seg dksJ26_compare_2 24 rfl rfl
theorem dksJ26_compare_4 : cJ26_compare.data.toList.drop 95 = dktJ26_compare_4 := dk_seg dksJ26_compare_3 23 rfl rfl
theorem dJ26_compare_0 : decode cJ26_compare 0 = .ok (.aload_n 1, 1) := dk_43 (dk_at dksJ26_compare_0 0 rfl rfl)
theorem dJ26_compare_1 : decode cJ26_compare 1 = .ok (.getfield 21, 3) := dk_180 0 21 (dk_at dksJ26_compare_0 1 rfl rfl)
theorem dJ26_compare_4 : decode cJ26_compare 4 = .ok (.istore_n 2, 1) := dk_61 (dk_at dksJ26_compare_0 4 rfl rfl)
theorem dJ26_compare_5 : decode cJ26_compare 5 = .ok (.aload_n 0, 1) := dk_42 (dk_at dksJ26_compare_0 5 rfl rfl)
theorem dJ26_compare_6 : decode cJ26_compare 6 = .ok (.getfield 21, 3) := dk_180 0 21 (dk_at dksJ26_compare_0 6 rfl rfl)
theorem dJ26_compare_9 : decode cJ26_compare 9 = .ok (.iload_n 2, 1) := dk_28 (dk_at dksJ26_compare_0 9 rfl rfl)
theorem dJ26_compare_10 : decode cJ26_compare 10 = .ok (.if_icmp .ge 5, 3) := dk_162 0 5 (dk_at dksJ26_compare_0 10 rfl rfl)
theorem dJ26_compare_13 : decode cJ26_compare 13 = .ok (.iconst (-1), 1) := dk_2 (dk_at dksJ26_compare_0 13 rfl rfl)
theorem dJ26_compare_14 : decode cJ26_compare 14 = .ok (.ireturn, 1) := dk_172 (dk_at dksJ26_compare_0 14 rfl rfl)
theorem dJ26_compare_15 : decode cJ26_compare 15 = .ok (.aload_n 0, 1) := dk_42 (dk_at dksJ26_compare_0 15 rfl rfl)
theorem dJ26_compare_16 : decode cJ26_compare 16 = .ok (.getfield 21, 3) := dk_180 0 21 (dk_at dksJ26_compare_0 16 rfl rfl)
theorem dJ26_compare_19 : decode cJ26_compare 19 = .ok (.iload_n 2, 1) := dk_28 (dk_at dksJ26_compare_0 19 rfl rfl)
theorem dJ26_compare_20 : decode cJ26_compare 20 = .ok (.if_icmp .le 5, 3) := dk_164 0 5 (dk_at dksJ26_compare_0 20 rfl rfl)
theorem dJ26_compare_23 : decode cJ26_compare 23 = .ok (.iconst 1, 1) := dk_4 (dk_at dksJ26_compare_0 23 rfl rfl)
theorem dJ26_compare_24 : decode cJ26_compare 24 = .ok (.ireturn, 1) := dk_172 (dk_at dksJ26_compare_1 0 rfl rfl)
theorem dJ26_compare_25 : decode cJ26_compare 25 = .ok (.aload_n 1, 1) := dk_43 (dk_at dksJ26_compare_1 1 rfl rfl)
theorem dJ26_compare_26 : decode cJ26_compare 26 = .ok (.getfield 17, 3) := dk_180 0 17 (dk_at dksJ26_compare_1 2 rfl rfl)
theorem dJ26_compare_29 : decode cJ26_compare 29 = .ok (.astore_n 3, 1) := dk_78 (dk_at dksJ26_compare_1 5 rfl rfl)
theorem dJ26_compare_30 : decode cJ26_compare 30 = .ok (.aload_n 0, 1) := dk_42 (dk_at dksJ26_compare_1 6 rfl rfl)
theorem dJ26_compare_31 : decode cJ26_compare 31 = .ok (.getfield 11, 3) := dk_180 0 11 (dk_at dksJ26_compare_1 7 rfl rfl)
theorem dJ26_compare_34 : decode cJ26_compare 34 = .ok (.istore 4, 2) := dk_54 4 (dk_at dksJ26_compare_1 10 rfl rfl)
theorem dJ26_compare_36 : decode cJ26_compare 36 = .ok (.aload_n 1, 1) := dk_43 (dk_at dksJ26_compare_1 12 rfl rfl)
theorem dJ26_compare_37 : decode cJ26_compare 37 = .ok (.getfield 11, 3) := dk_180 0 11 (dk_at dksJ26_compare_1 13 rfl rfl)
theorem dJ26_compare_40 : decode cJ26_compare 40 = .ok (.istore 5, 2) := dk_54 5 (dk_at dksJ26_compare_1 16 rfl rfl)
theorem dJ26_compare_42 : decode cJ26_compare 42 = .ok (.iload 4, 2) := dk_21 4 (dk_at dksJ26_compare_1 18 rfl rfl)
theorem dJ26_compare_44 : decode cJ26_compare 44 = .ok (.aload_n 0, 1) := dk_42 (dk_at dksJ26_compare_1 20 rfl rfl)
theorem dJ26_compare_45 : decode cJ26_compare 45 = .ok (.getfield 21, 3) := dk_180 0 21 (dk_at dksJ26_compare_1 21 rfl rfl)
theorem dJ26_compare_48 : decode cJ26_compare 48 = .ok (.aload_n 0, 1) := dk_42 (dk_at dksJ26_compare_2 0 rfl rfl)
theorem dJ26_compare_49 : decode cJ26_compare 49 = .ok (.getfield 11, 3) := dk_180 0 11 (dk_at dksJ26_compare_2 1 rfl rfl)
theorem dJ26_compare_52 : decode cJ26_compare 52 = .ok (.iadd, 1) := dk_96 (dk_at dksJ26_compare_2 4 rfl rfl)
theorem dJ26_compare_53 : decode cJ26_compare 53 = .ok (.if_icmp .ge 51, 3) := dk_162 0 51 (dk_at dksJ26_compare_2 5 rfl rfl)
theorem dJ26_compare_56 : decode cJ26_compare 56 = .ok (.aload_n 0, 1) := dk_42 (dk_at dksJ26_compare_2 8 rfl rfl)
theorem dJ26_compare_57 : decode cJ26_compare 57 = .ok (.getfield 17, 3) := dk_180 0 17 (dk_at dksJ26_compare_2 9 rfl rfl)
theorem dJ26_compare_60 : decode cJ26_compare 60 = .ok (.iload 4, 2) := dk_21 4 (dk_at dksJ26_compare_2 12 rfl rfl)
theorem dJ26_compare_62 : decode cJ26_compare 62 = .ok (.iaload, 1) := dk_46 (dk_at dksJ26_compare_2 14 rfl rfl)
theorem dJ26_compare_63 : decode cJ26_compare 63 = .ok (.ldc 88, 2) := dk_18 88 (dk_at dksJ26_compare_2 15 rfl rfl)
theorem dJ26_compare_65 : decode cJ26_compare 65 = .ok (.iadd, 1) := dk_96 (dk_at dksJ26_compare_2 17 rfl rfl)
theorem dJ26_compare_66 : decode cJ26_compare 66 = .ok (.istore 6, 2) := dk_54 6 (dk_at dksJ26_compare_2 18 rfl rfl)
theorem dJ26_compare_68 : decode cJ26_compare 68 = .ok (.aload_n 3, 1) := dk_45 (dk_at dksJ26_compare_2 20 rfl rfl)
theorem dJ26_compare_69 : decode cJ26_compare 69 = .ok (.iload 5, 2) := dk_21 5 (dk_at dksJ26_compare_2 21 rfl rfl)
theorem dJ26_compare_71 : decode cJ26_compare 71 = .ok (.iaload, 1) := dk_46 (dk_at dksJ26_compare_2 23 rfl rfl)
theorem dJ26_compare_72 : decode cJ26_compare 72 = .ok (.ldc 88, 2) := dk_18 88 (dk_at dksJ26_compare_3 0 rfl rfl)
theorem dJ26_compare_74 : decode cJ26_compare 74 = .ok (.iadd, 1) := dk_96 (dk_at dksJ26_compare_3 2 rfl rfl)
theorem dJ26_compare_75 : decode cJ26_compare 75 = .ok (.istore 7, 2) := dk_54 7 (dk_at dksJ26_compare_3 3 rfl rfl)
theorem dJ26_compare_77 : decode cJ26_compare 77 = .ok (.iload 6, 2) := dk_21 6 (dk_at dksJ26_compare_3 5 rfl rfl)
theorem dJ26_compare_79 : decode cJ26_compare 79 = .ok (.iload 7, 2) := dk_21 7 (dk_at dksJ26_compare_3 7 rfl rfl)
theorem dJ26_compare_81 : decode cJ26_compare 81 = .ok (.if_icmp .ge 5, 3) := dk_162 0 5 (dk_at dksJ26_compare_3 9 rfl rfl)
theorem dJ26_compare_84 : decode cJ26_compare 84 = .ok (.iconst (-1), 1) := dk_2 (dk_at dksJ26_compare_3 12 rfl rfl)
theorem dJ26_compare_85 : decode cJ26_compare 85 = .ok (.ireturn, 1) := dk_172 (dk_at dksJ26_compare_3 13 rfl rfl)
theorem dJ26_compare_86 : decode cJ26_compare 86 = .ok (.iload 6, 2) := dk_21 6 (dk_at dksJ26_compare_3 14 rfl rfl)
theorem dJ26_compare_88 : decode cJ26_compare 88 = .ok (.iload 7, 2) := dk_21 7 (dk_at dksJ26_compare_3 16 rfl rfl)
theorem dJ26_compare_90 : decode cJ26_compare 90 = .ok (.if_icmp .le 5, 3) := dk_164 0 5 (dk_at dksJ26_compare_3 18 rfl rfl)
theorem dJ26_compare_93 : decode cJ26_compare 93 = .ok (.iconst 1, 1) := dk_4 (dk_at dksJ26_compare_3 21 rfl rfl)
theorem dJ26_compare_94 : decode cJ26_compare 94 = .ok (.ireturn, 1) := dk_172 (dk_at dksJ26_compare_3 22 rfl rfl)
theorem dJ26_compare_95 : decode cJ26_compare 95 = .ok (.iinc 4 1, 3) := dk_132 4 1 (dk_at dksJ26_compare_4 0 rfl rfl)
theorem dJ26_compare_98 : decode cJ26_compare 98 = .ok (.iinc 5 1, 3) := dk_132 5 1 (dk_at dksJ26_compare_4 3 rfl rfl)
theorem dJ26_compare_101 : decode cJ26_compare 101 = .ok (.goto (-59), 3) := dk_167 255 197 (dk_at dksJ26_compare_4 6 rfl rfl)
theorem dJ26_compare_104 : decode cJ26_compare 104 = .ok (.iconst 0, 1) := dk_3 (dk_at dksJ26_compare_4 9 rfl rfl)
theorem dJ26_compare_105 : decode cJ26_compare 105 = .ok (.ireturn, 1) := dk_172 (dk_at dksJ26_compare_4 10 rfl rfl)
abbrev cJ26_normalize : ByteArray := prog_33_method_21_code
def yJ26_normalize : MethodName := ⟨RJ26, "normalize", "()V"⟩
def dkwJ26_normalize_3 : List UInt8 := [180, 0, 21, 154, 0, 7, 3, 167, 0, 9, 42, 180, 0, 11, 29, 96, 181, 0, 11, 177]
abbrev dktJ26_normalize_3 : List UInt8 := dkwJ26_normalize_3 ++ []
def dkwJ26_normalize_2 : List UInt8 := [46, 153, 255, 242, 27, 42, 180, 0, 11, 100, 62, 42, 89, 180, 0, 21, 29, 100, 181, 0, 21, 42, 42]
abbrev dktJ26_normalize_2 : List UInt8 := dkwJ26_normalize_2 ++ dktJ26_normalize_3
def dkwJ26_normalize_1 : List UInt8 := [153, 0, 4, 177, 27, 42, 180, 0, 21, 96, 61, 132, 1, 1, 27, 28, 162, 0, 12, 42, 180, 0, 17, 27]
abbrev dktJ26_normalize_1 : List UInt8 := dkwJ26_normalize_1 ++ dktJ26_normalize_2
def dkwJ26_normalize_0 : List UInt8 := [42, 180, 0, 21, 154, 0, 9, 42, 3, 181, 0, 11, 177, 42, 180, 0, 11, 60, 42, 180, 0, 17, 27, 46]
abbrev dktJ26_normalize_0 : List UInt8 := dkwJ26_normalize_0 ++ dktJ26_normalize_1
theorem dksJ26_normalize_0 : cJ26_normalize.data.toList.drop 0 = dktJ26_normalize_0 := by decide +kernel
theorem dksJ26_normalize_1 : cJ26_normalize.data.toList.drop 24 = dktJ26_normalize_1 := dk_seg dksJ26_normalize_0 24 rfl rfl
theorem dksJ26_normalize_2 : cJ26_normalize.data.toList.drop 48 = dktJ26_normalize_2 := dk_seg dksJ26_normalize_1 24 rfl rfl
theorem dksJ26_normalize_3 : cJ26_normalize.data.toList.drop 71 = dktJ26_normalize_3 := dk_seg dksJ26_normalize_2 23 rfl rfl
theorem dJ26_normalize_0 : decode cJ26_normalize 0 = .ok (.aload_n 0, 1) := dk_42 (dk_at dksJ26_normalize_0 0 rfl rfl)
theorem dJ26_normalize_1 : decode cJ26_normalize 1 = .ok (.getfield 21, 3) := dk_180 0 21 (dk_at dksJ26_normalize_0 1 rfl rfl)
theorem dJ26_normalize_4 : decode cJ26_normalize 4 = .ok (.ifCond .ne 9, 3) := dk_154 0 9 (dk_at dksJ26_normalize_0 4 rfl rfl)
theorem dJ26_normalize_7 : decode cJ26_normalize 7 = .ok (.aload_n 0, 1) := dk_42 (dk_at dksJ26_normalize_0 7 rfl rfl)
theorem dJ26_normalize_8 : decode cJ26_normalize 8 = .ok (.iconst 0, 1) := dk_3 (dk_at dksJ26_normalize_0 8 rfl rfl)
theorem dJ26_normalize_9 : decode cJ26_normalize 9 = .ok (.putfield 11, 3) := dk_181 0 11 (dk_at dksJ26_normalize_0 9 rfl rfl)
theorem dJ26_normalize_12 : decode cJ26_normalize 12 = .ok (.return_, 1) := dk_177 (dk_at dksJ26_normalize_0 12 rfl rfl)
theorem dJ26_normalize_13 : decode cJ26_normalize 13 = .ok (.aload_n 0, 1) := dk_42 (dk_at dksJ26_normalize_0 13 rfl rfl)
theorem dJ26_normalize_14 : decode cJ26_normalize 14 = .ok (.getfield 11, 3) := dk_180 0 11 (dk_at dksJ26_normalize_0 14 rfl rfl)
theorem dJ26_normalize_17 : decode cJ26_normalize 17 = .ok (.istore_n 1, 1) := dk_60 (dk_at dksJ26_normalize_0 17 rfl rfl)
theorem dJ26_normalize_18 : decode cJ26_normalize 18 = .ok (.aload_n 0, 1) := dk_42 (dk_at dksJ26_normalize_0 18 rfl rfl)
theorem dJ26_normalize_19 : decode cJ26_normalize 19 = .ok (.getfield 17, 3) := dk_180 0 17 (dk_at dksJ26_normalize_0 19 rfl rfl)
theorem dJ26_normalize_22 : decode cJ26_normalize 22 = .ok (.iload_n 1, 1) := dk_27 (dk_at dksJ26_normalize_0 22 rfl rfl)
theorem dJ26_normalize_23 : decode cJ26_normalize 23 = .ok (.iaload, 1) := dk_46 (dk_at dksJ26_normalize_0 23 rfl rfl)
theorem dJ26_normalize_24 : decode cJ26_normalize 24 = .ok (.ifCond .eq 4, 3) := dk_153 0 4 (dk_at dksJ26_normalize_1 0 rfl rfl)
theorem dJ26_normalize_27 : decode cJ26_normalize 27 = .ok (.return_, 1) := dk_177 (dk_at dksJ26_normalize_1 3 rfl rfl)
theorem dJ26_normalize_28 : decode cJ26_normalize 28 = .ok (.iload_n 1, 1) := dk_27 (dk_at dksJ26_normalize_1 4 rfl rfl)
theorem dJ26_normalize_29 : decode cJ26_normalize 29 = .ok (.aload_n 0, 1) := dk_42 (dk_at dksJ26_normalize_1 5 rfl rfl)
theorem dJ26_normalize_30 : decode cJ26_normalize 30 = .ok (.getfield 21, 3) := dk_180 0 21 (dk_at dksJ26_normalize_1 6 rfl rfl)
theorem dJ26_normalize_33 : decode cJ26_normalize 33 = .ok (.iadd, 1) := dk_96 (dk_at dksJ26_normalize_1 9 rfl rfl)
theorem dJ26_normalize_34 : decode cJ26_normalize 34 = .ok (.istore_n 2, 1) := dk_61 (dk_at dksJ26_normalize_1 10 rfl rfl)
theorem dJ26_normalize_35 : decode cJ26_normalize 35 = .ok (.iinc 1 1, 3) := dk_132 1 1 (dk_at dksJ26_normalize_1 11 rfl rfl)
theorem dJ26_normalize_38 : decode cJ26_normalize 38 = .ok (.iload_n 1, 1) := dk_27 (dk_at dksJ26_normalize_1 14 rfl rfl)
theorem dJ26_normalize_39 : decode cJ26_normalize 39 = .ok (.iload_n 2, 1) := dk_28 (dk_at dksJ26_normalize_1 15 rfl rfl)
theorem dJ26_normalize_40 : decode cJ26_normalize 40 = .ok (.if_icmp .ge 12, 3) := dk_162 0 12 (dk_at dksJ26_normalize_1 16 rfl rfl)
theorem dJ26_normalize_43 : decode cJ26_normalize 43 = .ok (.aload_n 0, 1) := dk_42 (dk_at dksJ26_normalize_1 19 rfl rfl)
theorem dJ26_normalize_44 : decode cJ26_normalize 44 = .ok (.getfield 17, 3) := dk_180 0 17 (dk_at dksJ26_normalize_1 20 rfl rfl)
theorem dJ26_normalize_47 : decode cJ26_normalize 47 = .ok (.iload_n 1, 1) := dk_27 (dk_at dksJ26_normalize_1 23 rfl rfl)
theorem dJ26_normalize_48 : decode cJ26_normalize 48 = .ok (.iaload, 1) := dk_46 (dk_at dksJ26_normalize_2 0 rfl rfl)
theorem dJ26_normalize_49 : decode cJ26_normalize 49 = .ok (.ifCond .eq (-14), 3) := dk_153 255 242 (dk_at dksJ26_normalize_2 1 rfl rfl)
theorem dJ26_normalize_52 : decode cJ26_normalize 52 = .ok (.iload_n 1, 1) := dk_27 (dk_at dksJ26_normalize_2 4 rfl rfl)
theorem dJ26_normalize_53 : decode cJ26_normalize 53 = .ok (.aload_n 0, 1) := dk_42 (dk_at dksJ26_normalize_2 5 rfl rfl)
theorem dJ26_normalize_54 : decode cJ26_normalize 54 = .ok (.getfield 11, 3) := dk_180 0 11 (dk_at dksJ26_normalize_2 6 rfl rfl)
theorem dJ26_normalize_57 : decode cJ26_normalize 57 = .ok (.isub, 1) := dk_100 (dk_at dksJ26_normalize_2 9 rfl rfl)
theorem dJ26_normalize_58 : decode cJ26_normalize 58 = .ok (.istore_n 3, 1) := dk_62 (dk_at dksJ26_normalize_2 10 rfl rfl)
theorem dJ26_normalize_59 : decode cJ26_normalize 59 = .ok (.aload_n 0, 1) := dk_42 (dk_at dksJ26_normalize_2 11 rfl rfl)
theorem dJ26_normalize_60 : decode cJ26_normalize 60 = .ok (.dup, 1) := dk_89 (dk_at dksJ26_normalize_2 12 rfl rfl)
theorem dJ26_normalize_61 : decode cJ26_normalize 61 = .ok (.getfield 21, 3) := dk_180 0 21 (dk_at dksJ26_normalize_2 13 rfl rfl)
theorem dJ26_normalize_64 : decode cJ26_normalize 64 = .ok (.iload_n 3, 1) := dk_29 (dk_at dksJ26_normalize_2 16 rfl rfl)
theorem dJ26_normalize_65 : decode cJ26_normalize 65 = .ok (.isub, 1) := dk_100 (dk_at dksJ26_normalize_2 17 rfl rfl)
theorem dJ26_normalize_66 : decode cJ26_normalize 66 = .ok (.putfield 21, 3) := dk_181 0 21 (dk_at dksJ26_normalize_2 18 rfl rfl)
theorem dJ26_normalize_69 : decode cJ26_normalize 69 = .ok (.aload_n 0, 1) := dk_42 (dk_at dksJ26_normalize_2 21 rfl rfl)
theorem dJ26_normalize_70 : decode cJ26_normalize 70 = .ok (.aload_n 0, 1) := dk_42 (dk_at dksJ26_normalize_2 22 rfl rfl)
theorem dJ26_normalize_71 : decode cJ26_normalize 71 = .ok (.getfield 21, 3) := dk_180 0 21 (dk_at dksJ26_normalize_3 0 rfl rfl)
theorem dJ26_normalize_74 : decode cJ26_normalize 74 = .ok (.ifCond .ne 7, 3) := dk_154 0 7 (dk_at dksJ26_normalize_3 3 rfl rfl)
theorem dJ26_normalize_77 : decode cJ26_normalize 77 = .ok (.iconst 0, 1) := dk_3 (dk_at dksJ26_normalize_3 6 rfl rfl)
theorem dJ26_normalize_78 : decode cJ26_normalize 78 = .ok (.goto 9, 3) := dk_167 0 9 (dk_at dksJ26_normalize_3 7 rfl rfl)
theorem dJ26_normalize_81 : decode cJ26_normalize 81 = .ok (.aload_n 0, 1) := dk_42 (dk_at dksJ26_normalize_3 10 rfl rfl)
theorem dJ26_normalize_82 : decode cJ26_normalize 82 = .ok (.getfield 11, 3) := dk_180 0 11 (dk_at dksJ26_normalize_3 11 rfl rfl)
theorem dJ26_normalize_85 : decode cJ26_normalize 85 = .ok (.iload_n 3, 1) := dk_29 (dk_at dksJ26_normalize_3 14 rfl rfl)
theorem dJ26_normalize_86 : decode cJ26_normalize 86 = .ok (.iadd, 1) := dk_96 (dk_at dksJ26_normalize_3 15 rfl rfl)
theorem dJ26_normalize_87 : decode cJ26_normalize 87 = .ok (.putfield 11, 3) := dk_181 0 11 (dk_at dksJ26_normalize_3 16 rfl rfl)
theorem dJ26_normalize_90 : decode cJ26_normalize 90 = .ok (.return_, 1) := dk_177 (dk_at dksJ26_normalize_3 19 rfl rfl)
abbrev cJ26_divide : ByteArray := prog_33_method_54_code
def yJ26_divide : MethodName := ⟨RJ26, "divide", "(Ljava/math/MutableBigInteger;Ljava/math/MutableBigInteger;)Ljava/math/MutableBigInteger;"⟩
def dkwJ26_divide_0 : List UInt8 := [42, 43, 44, 4, 182, 0, 159, 176]
abbrev dktJ26_divide_0 : List UInt8 := dkwJ26_divide_0 ++ []
theorem dksJ26_divide_0 : cJ26_divide.data.toList.drop 0 = dktJ26_divide_0 := by decide +kernel
theorem dJ26_divide_0 : decode cJ26_divide 0 = .ok (.aload_n 0, 1) := dk_42 (dk_at dksJ26_divide_0 0 rfl rfl)
theorem dJ26_divide_1 : decode cJ26_divide 1 = .ok (.aload_n 1, 1) := dk_43 (dk_at dksJ26_divide_0 1 rfl rfl)
theorem dJ26_divide_2 : decode cJ26_divide 2 = .ok (.aload_n 2, 1) := dk_44 (dk_at dksJ26_divide_0 2 rfl rfl)
theorem dJ26_divide_3 : decode cJ26_divide 3 = .ok (.iconst 1, 1) := dk_4 (dk_at dksJ26_divide_0 3 rfl rfl)
theorem dJ26_divide_4 : decode cJ26_divide 4 = .ok (.invokevirtual 159, 3) := dk_182 0 159 (dk_at dksJ26_divide_0 4 rfl rfl)
theorem dJ26_divide_7 : decode cJ26_divide 7 = .ok (.areturn, 1) := dk_176 (dk_at dksJ26_divide_0 7 rfl rfl)
abbrev cJ26_divide_2 : ByteArray := prog_33_method_55_code
def yJ26_divide_2 : MethodName := ⟨RJ26, "divide", "(Ljava/math/MutableBigInteger;Ljava/math/MutableBigInteger;Z)Ljava/math/MutableBigInteger;"⟩
def dkwJ26_divide_2_1 : List UInt8 := [43, 44, 29, 182, 0, 163, 176, 42, 43, 44, 182, 0, 166, 176]
abbrev dktJ26_divide_2_1 : List UInt8 := dkwJ26_divide_2_1 ++ []
def dkwJ26_divide_2_0 : List UInt8 := [43, 180, 0, 21, 16, 80, 161, 0, 17, 42, 180, 0, 21, 43, 180, 0, 21, 100, 16, 40, 162, 0, 11, 42]
abbrev dktJ26_divide_2_0 : List UInt8 := dkwJ26_divide_2_0 ++ dktJ26_divide_2_1
theorem dksJ26_divide_2_0 : cJ26_divide_2.data.toList.drop 0 = dktJ26_divide_2_0 := by decide +kernel
theorem dksJ26_divide_2_1 : cJ26_divide_2.data.toList.drop 24 = dktJ26_divide_2_1 := dk_seg dksJ26_divide_2_0 24 rfl rfl
theorem dJ26_divide_2_0 : decode cJ26_divide_2 0 = .ok (.aload_n 1, 1) := dk_43 (dk_at dksJ26_divide_2_0 0 rfl rfl)
theorem dJ26_divide_2_1 : decode cJ26_divide_2 1 = .ok (.getfield 21, 3) := dk_180 0 21 (dk_at dksJ26_divide_2_0 1 rfl rfl)
theorem dJ26_divide_2_4 : decode cJ26_divide_2 4 = .ok (.bipush 80, 2) := dk_16 80 (dk_at dksJ26_divide_2_0 4 rfl rfl)
theorem dJ26_divide_2_6 : decode cJ26_divide_2 6 = .ok (.if_icmp .lt 17, 3) := dk_161 0 17 (dk_at dksJ26_divide_2_0 6 rfl rfl)
theorem dJ26_divide_2_9 : decode cJ26_divide_2 9 = .ok (.aload_n 0, 1) := dk_42 (dk_at dksJ26_divide_2_0 9 rfl rfl)
theorem dJ26_divide_2_10 : decode cJ26_divide_2 10 = .ok (.getfield 21, 3) := dk_180 0 21 (dk_at dksJ26_divide_2_0 10 rfl rfl)
theorem dJ26_divide_2_13 : decode cJ26_divide_2 13 = .ok (.aload_n 1, 1) := dk_43 (dk_at dksJ26_divide_2_0 13 rfl rfl)
theorem dJ26_divide_2_14 : decode cJ26_divide_2 14 = .ok (.getfield 21, 3) := dk_180 0 21 (dk_at dksJ26_divide_2_0 14 rfl rfl)
theorem dJ26_divide_2_17 : decode cJ26_divide_2 17 = .ok (.isub, 1) := dk_100 (dk_at dksJ26_divide_2_0 17 rfl rfl)
theorem dJ26_divide_2_18 : decode cJ26_divide_2 18 = .ok (.bipush 40, 2) := dk_16 40 (dk_at dksJ26_divide_2_0 18 rfl rfl)
theorem dJ26_divide_2_20 : decode cJ26_divide_2 20 = .ok (.if_icmp .ge 11, 3) := dk_162 0 11 (dk_at dksJ26_divide_2_0 20 rfl rfl)
theorem dJ26_divide_2_23 : decode cJ26_divide_2 23 = .ok (.aload_n 0, 1) := dk_42 (dk_at dksJ26_divide_2_0 23 rfl rfl)
theorem dJ26_divide_2_24 : decode cJ26_divide_2 24 = .ok (.aload_n 1, 1) := dk_43 (dk_at dksJ26_divide_2_1 0 rfl rfl)
theorem dJ26_divide_2_25 : decode cJ26_divide_2 25 = .ok (.aload_n 2, 1) := dk_44 (dk_at dksJ26_divide_2_1 1 rfl rfl)
theorem dJ26_divide_2_26 : decode cJ26_divide_2 26 = .ok (.iload_n 3, 1) := dk_29 (dk_at dksJ26_divide_2_1 2 rfl rfl)
theorem dJ26_divide_2_27 : decode cJ26_divide_2 27 = .ok (.invokevirtual 163, 3) := dk_182 0 163 (dk_at dksJ26_divide_2_1 3 rfl rfl)
theorem dJ26_divide_2_30 : decode cJ26_divide_2 30 = .ok (.areturn, 1) := dk_176 (dk_at dksJ26_divide_2_1 6 rfl rfl)
theorem dJ26_divide_2_31 : decode cJ26_divide_2 31 = .ok (.aload_n 0, 1) := dk_42 (dk_at dksJ26_divide_2_1 7 rfl rfl)
theorem dJ26_divide_2_32 : decode cJ26_divide_2 32 = .ok (.aload_n 1, 1) := dk_43 (dk_at dksJ26_divide_2_1 8 rfl rfl)
theorem dJ26_divide_2_33 : decode cJ26_divide_2 33 = .ok (.aload_n 2, 1) := dk_44 (dk_at dksJ26_divide_2_1 9 rfl rfl)
theorem dJ26_divide_2_34 : decode cJ26_divide_2 34 = .ok (.invokevirtual 166, 3) := dk_182 0 166 (dk_at dksJ26_divide_2_1 10 rfl rfl)
theorem dJ26_divide_2_37 : decode cJ26_divide_2 37 = .ok (.areturn, 1) := dk_176 (dk_at dksJ26_divide_2_1 13 rfl rfl)
abbrev cJ26_divideKnuth : ByteArray := prog_33_method_57_code
def yJ26_divideKnuth : MethodName := ⟨RJ26, "divideKnuth", "(Ljava/math/MutableBigInteger;Ljava/math/MutableBigInteger;Z)Ljava/math/MutableBigInteger;"⟩
def dkwJ26_divideKnuth_11 : List UInt8 := [182, 0, 121, 25, 7, 176, 42, 43, 44, 29, 182, 0, 190, 176]
abbrev dktJ26_divideKnuth_11 : List UInt8 := dkwJ26_divideKnuth_11 ++ []
def dkwJ26_divideKnuth_10 : List UInt8 := [21, 5, 182, 0, 108, 43, 21, 5, 182, 0, 108, 25, 6, 43, 44, 182, 0, 188, 58, 7, 25, 7, 21, 5]
abbrev dktJ26_divideKnuth_10 : List UInt8 := dkwJ26_divideKnuth_10 ++ dktJ26_divideKnuth_11
def dkwJ26_divideKnuth_9 : List UInt8 := [161, 0, 54, 187, 0, 12, 89, 42, 183, 0, 136, 58, 6, 187, 0, 12, 89, 43, 183, 0, 136, 76, 25, 6]
abbrev dktJ26_divideKnuth_9 : List UInt8 := dkwJ26_divideKnuth_9 ++ dktJ26_divideKnuth_10
def dkwJ26_divideKnuth_8 : List UInt8 := [16, 6, 161, 0, 74, 42, 182, 0, 184, 43, 182, 0, 184, 184, 0, 130, 54, 5, 21, 5, 16, 96]
abbrev dktJ26_divideKnuth_8 : List UInt8 := dkwJ26_divideKnuth_8 ++ dktJ26_divideKnuth_9
def dkwJ26_divideKnuth_7 : List UInt8 := [187, 0, 12, 89, 183, 0, 177, 176, 187, 0, 12, 89, 21, 5, 183, 0, 182, 176, 1, 176, 42, 180, 0, 21]
abbrev dktJ26_divideKnuth_7 : List UInt8 := dkwJ26_divideKnuth_7 ++ dktJ26_divideKnuth_8
def dkwJ26_divideKnuth_6 : List UInt8 := [180, 0, 17, 43, 180, 0, 11, 46, 44, 182, 0, 178, 54, 5, 29, 153, 0, 26, 21, 5, 154, 0, 11]
abbrev dktJ26_divideKnuth_6 : List UInt8 := dkwJ26_divideKnuth_6 ++ dktJ26_divideKnuth_7
def dkwJ26_divideKnuth_5 : List UInt8 := [183, 0, 177, 167, 0, 4, 1, 176, 44, 182, 0, 149, 43, 180, 0, 21, 4, 160, 0, 48, 42, 43]
abbrev dktJ26_divideKnuth_5 : List UInt8 := dkwJ26_divideKnuth_5 ++ dktJ26_divideKnuth_6
def dkwJ26_divideKnuth_4 : List UInt8 := [180, 0, 17, 3, 44, 4, 90, 181, 0, 21, 79, 44, 3, 181, 0, 11, 29, 153, 0, 13, 187, 0, 12, 89]
abbrev dktJ26_divideKnuth_4 : List UInt8 := dkwJ26_divideKnuth_4 ++ dktJ26_divideKnuth_5
def dkwJ26_divideKnuth_3 : List UInt8 := [29, 153, 0, 14, 187, 0, 12, 89, 42, 183, 0, 136, 167, 0, 4, 1, 176, 21, 4, 154, 0, 36, 44]
abbrev dktJ26_divideKnuth_3 : List UInt8 := dkwJ26_divideKnuth_3 ++ dktJ26_divideKnuth_4
def dkwJ26_divideKnuth_2 : List UInt8 := [1, 176, 42, 43, 182, 0, 142, 54, 4, 21, 4, 156, 0, 30, 44, 44, 3, 90, 181, 0, 11, 181, 0, 21]
abbrev dktJ26_divideKnuth_2 : List UInt8 := dkwJ26_divideKnuth_2 ++ dktJ26_divideKnuth_3
def dkwJ26_divideKnuth_1 : List UInt8 := [44, 44, 3, 90, 181, 0, 11, 181, 0, 21, 29, 153, 0, 13, 187, 0, 12, 89, 183, 0, 177, 167, 0, 4]
abbrev dktJ26_divideKnuth_1 : List UInt8 := dkwJ26_divideKnuth_1 ++ dktJ26_divideKnuth_2
def dkwJ26_divideKnuth_0 : List UInt8 := [43, 180, 0, 21, 154, 0, 13, 187, 0, 170, 89, 18, 172, 183, 0, 174, 191, 42, 180, 0, 21, 154, 0, 29]
abbrev dktJ26_divideKnuth_0 : List UInt8 := dkwJ26_divideKnuth_0 ++ dktJ26_divideKnuth_1
theorem dksJ26_divideKnuth_0 : cJ26_divideKnuth.data.toList.drop 0 = dktJ26_divideKnuth_0 := by decide +kernel
theorem dksJ26_divideKnuth_1 : cJ26_divideKnuth.data.toList.drop 24 = dktJ26_divideKnuth_1 := dk_seg dksJ26_divideKnuth_0 24 rfl rfl
theorem dksJ26_divideKnuth_2 : cJ26_divideKnuth.data.toList.drop 48 = dktJ26_divideKnuth_2 := dk_seg dksJ26_divideKnuth_1 24 rfl rfl
theorem dksJ26_divideKnuth_3 : cJ26_divideKnuth.data.toList.drop 72 = dktJ26_divideKnuth_3 := dk_seg dksJ26_divideKnuth_2 24 rfl rfl
theorem dksJ26_divideKnuth_4 : cJ26_divideKnuth.data.toList.drop 95 = dktJ26_divideKnuth_4 := dk_seg dksJ26_divideKnuth_3 23 rfl rfl
theorem dksJ26_divideKnuth_5 : cJ26_divideKnuth.data.toList.drop 119 = dktJ26_divideKnuth_5 := dk_seg dksJ26_divideKnuth_4 24 rfl rfl
theorem dksJ26_divideKnuth_6 : cJ26_divideKnuth.data.toList.drop 141 = dktJ26_divideKnuth_6 := dk_seg dksJ26_divideKnuth_5 22 rfl rfl
theorem dksJ26_divideKnuth_7 : cJ26_divideKnuth.data.toList.drop 164 = dktJ26_divideKnuth_7 := dk_seg dksJ26_divideKnuth_6 23 rfl rfl
theorem dksJ26_divideKnuth_8 : cJ26_divideKnuth.data.toList.drop 188 = dktJ26_divideKnuth_8 := dk_seg dksJ26_divideKnuth_7 24 rfl rfl
theorem dksJ26_divideKnuth_9 : cJ26_divideKnuth.data.toList.drop 210 = dktJ26_divideKnuth_9 := dk_seg dksJ26_divideKnuth_8 22 rfl rfl
theorem dksJ26_divideKnuth_10 : cJ26_divideKnuth.data.toList.drop 234 = dktJ26_divideKnuth_10 := dk_seg dksJ26_divideKnuth_9 24 rfl rfl
theorem dksJ26_divideKnuth_11 : cJ26_divideKnuth.data.toList.drop 258 = dktJ26_divideKnuth_11 := dk_seg dksJ26_divideKnuth_10 24 rfl rfl
theorem dJ26_divideKnuth_0 : decode cJ26_divideKnuth 0 = .ok (.aload_n 1, 1) := dk_43 (dk_at dksJ26_divideKnuth_0 0 rfl rfl)
theorem dJ26_divideKnuth_1 : decode cJ26_divideKnuth 1 = .ok (.getfield 21, 3) := dk_180 0 21 (dk_at dksJ26_divideKnuth_0 1 rfl rfl)
theorem dJ26_divideKnuth_4 : decode cJ26_divideKnuth 4 = .ok (.ifCond .ne 13, 3) := dk_154 0 13 (dk_at dksJ26_divideKnuth_0 4 rfl rfl)
theorem dJ26_divideKnuth_7 : decode cJ26_divideKnuth 7 = .ok (.new 170, 3) := dk_187 0 170 (dk_at dksJ26_divideKnuth_0 7 rfl rfl)
theorem dJ26_divideKnuth_10 : decode cJ26_divideKnuth 10 = .ok (.dup, 1) := dk_89 (dk_at dksJ26_divideKnuth_0 10 rfl rfl)
theorem dJ26_divideKnuth_11 : decode cJ26_divideKnuth 11 = .ok (.ldc 172, 2) := dk_18 172 (dk_at dksJ26_divideKnuth_0 11 rfl rfl)
theorem dJ26_divideKnuth_13 : decode cJ26_divideKnuth 13 = .ok (.invokespecial 174, 3) := dk_183 0 174 (dk_at dksJ26_divideKnuth_0 13 rfl rfl)
theorem dJ26_divideKnuth_16 : decode cJ26_divideKnuth 16 = .ok (.athrow, 1) := dk_191 (dk_at dksJ26_divideKnuth_0 16 rfl rfl)
theorem dJ26_divideKnuth_17 : decode cJ26_divideKnuth 17 = .ok (.aload_n 0, 1) := dk_42 (dk_at dksJ26_divideKnuth_0 17 rfl rfl)
theorem dJ26_divideKnuth_18 : decode cJ26_divideKnuth 18 = .ok (.getfield 21, 3) := dk_180 0 21 (dk_at dksJ26_divideKnuth_0 18 rfl rfl)
theorem dJ26_divideKnuth_21 : decode cJ26_divideKnuth 21 = .ok (.ifCond .ne 29, 3) := dk_154 0 29 (dk_at dksJ26_divideKnuth_0 21 rfl rfl)
theorem dJ26_divideKnuth_24 : decode cJ26_divideKnuth 24 = .ok (.aload_n 2, 1) := dk_44 (dk_at dksJ26_divideKnuth_1 0 rfl rfl)
theorem dJ26_divideKnuth_25 : decode cJ26_divideKnuth 25 = .ok (.aload_n 2, 1) := dk_44 (dk_at dksJ26_divideKnuth_1 1 rfl rfl)
theorem dJ26_divideKnuth_26 : decode cJ26_divideKnuth 26 = .ok (.iconst 0, 1) := dk_3 (dk_at dksJ26_divideKnuth_1 2 rfl rfl)
theorem dJ26_divideKnuth_27 : decode cJ26_divideKnuth 27 = .ok (.dup_x1, 1) := dk_90 (dk_at dksJ26_divideKnuth_1 3 rfl rfl)
theorem dJ26_divideKnuth_28 : decode cJ26_divideKnuth 28 = .ok (.putfield 11, 3) := dk_181 0 11 (dk_at dksJ26_divideKnuth_1 4 rfl rfl)
theorem dJ26_divideKnuth_31 : decode cJ26_divideKnuth 31 = .ok (.putfield 21, 3) := dk_181 0 21 (dk_at dksJ26_divideKnuth_1 7 rfl rfl)
theorem dJ26_divideKnuth_34 : decode cJ26_divideKnuth 34 = .ok (.iload_n 3, 1) := dk_29 (dk_at dksJ26_divideKnuth_1 10 rfl rfl)
theorem dJ26_divideKnuth_35 : decode cJ26_divideKnuth 35 = .ok (.ifCond .eq 13, 3) := dk_153 0 13 (dk_at dksJ26_divideKnuth_1 11 rfl rfl)
theorem dJ26_divideKnuth_38 : decode cJ26_divideKnuth 38 = .ok (.new 12, 3) := dk_187 0 12 (dk_at dksJ26_divideKnuth_1 14 rfl rfl)
theorem dJ26_divideKnuth_41 : decode cJ26_divideKnuth 41 = .ok (.dup, 1) := dk_89 (dk_at dksJ26_divideKnuth_1 17 rfl rfl)
theorem dJ26_divideKnuth_42 : decode cJ26_divideKnuth 42 = .ok (.invokespecial 177, 3) := dk_183 0 177 (dk_at dksJ26_divideKnuth_1 18 rfl rfl)
theorem dJ26_divideKnuth_45 : decode cJ26_divideKnuth 45 = .ok (.goto 4, 3) := dk_167 0 4 (dk_at dksJ26_divideKnuth_1 21 rfl rfl)
theorem dJ26_divideKnuth_48 : decode cJ26_divideKnuth 48 = .ok (.aconst_null, 1) := dk_1 (dk_at dksJ26_divideKnuth_2 0 rfl rfl)
theorem dJ26_divideKnuth_49 : decode cJ26_divideKnuth 49 = .ok (.areturn, 1) := dk_176 (dk_at dksJ26_divideKnuth_2 1 rfl rfl)
theorem dJ26_divideKnuth_50 : decode cJ26_divideKnuth 50 = .ok (.aload_n 0, 1) := dk_42 (dk_at dksJ26_divideKnuth_2 2 rfl rfl)
theorem dJ26_divideKnuth_51 : decode cJ26_divideKnuth 51 = .ok (.aload_n 1, 1) := dk_43 (dk_at dksJ26_divideKnuth_2 3 rfl rfl)
theorem dJ26_divideKnuth_52 : decode cJ26_divideKnuth 52 = .ok (.invokevirtual 142, 3) := dk_182 0 142 (dk_at dksJ26_divideKnuth_2 4 rfl rfl)
theorem dJ26_divideKnuth_55 : decode cJ26_divideKnuth 55 = .ok (.istore 4, 2) := dk_54 4 (dk_at dksJ26_divideKnuth_2 7 rfl rfl)
theorem dJ26_divideKnuth_57 : decode cJ26_divideKnuth 57 = .ok (.iload 4, 2) := dk_21 4 (dk_at dksJ26_divideKnuth_2 9 rfl rfl)
theorem dJ26_divideKnuth_59 : decode cJ26_divideKnuth 59 = .ok (.ifCond .ge 30, 3) := dk_156 0 30 (dk_at dksJ26_divideKnuth_2 11 rfl rfl)
theorem dJ26_divideKnuth_62 : decode cJ26_divideKnuth 62 = .ok (.aload_n 2, 1) := dk_44 (dk_at dksJ26_divideKnuth_2 14 rfl rfl)
theorem dJ26_divideKnuth_63 : decode cJ26_divideKnuth 63 = .ok (.aload_n 2, 1) := dk_44 (dk_at dksJ26_divideKnuth_2 15 rfl rfl)
theorem dJ26_divideKnuth_64 : decode cJ26_divideKnuth 64 = .ok (.iconst 0, 1) := dk_3 (dk_at dksJ26_divideKnuth_2 16 rfl rfl)
theorem dJ26_divideKnuth_65 : decode cJ26_divideKnuth 65 = .ok (.dup_x1, 1) := dk_90 (dk_at dksJ26_divideKnuth_2 17 rfl rfl)
theorem dJ26_divideKnuth_66 : decode cJ26_divideKnuth 66 = .ok (.putfield 11, 3) := dk_181 0 11 (dk_at dksJ26_divideKnuth_2 18 rfl rfl)
theorem dJ26_divideKnuth_69 : decode cJ26_divideKnuth 69 = .ok (.putfield 21, 3) := dk_181 0 21 (dk_at dksJ26_divideKnuth_2 21 rfl rfl)
theorem dJ26_divideKnuth_72 : decode cJ26_divideKnuth 72 = .ok (.iload_n 3, 1) := dk_29 (dk_at dksJ26_divideKnuth_3 0 rfl rfl)
theorem dJ26_divideKnuth_73 : decode cJ26_divideKnuth 73 = .ok (.ifCond .eq 14, 3) := dk_153 0 14 (dk_at dksJ26_divideKnuth_3 1 rfl rfl)
theorem dJ26_divideKnuth_76 : decode cJ26_divideKnuth 76 = .ok (.new 12, 3) := dk_187 0 12 (dk_at dksJ26_divideKnuth_3 4 rfl rfl)
theorem dJ26_divideKnuth_79 : decode cJ26_divideKnuth 79 = .ok (.dup, 1) := dk_89 (dk_at dksJ26_divideKnuth_3 7 rfl rfl)
theorem dJ26_divideKnuth_80 : decode cJ26_divideKnuth 80 = .ok (.aload_n 0, 1) := dk_42 (dk_at dksJ26_divideKnuth_3 8 rfl rfl)
theorem dJ26_divideKnuth_81 : decode cJ26_divideKnuth 81 = .ok (.invokespecial 136, 3) := dk_183 0 136 (dk_at dksJ26_divideKnuth_3 9 rfl rfl)
theorem dJ26_divideKnuth_84 : decode cJ26_divideKnuth 84 = .ok (.goto 4, 3) := dk_167 0 4 (dk_at dksJ26_divideKnuth_3 12 rfl rfl)
theorem dJ26_divideKnuth_87 : decode cJ26_divideKnuth 87 = .ok (.aconst_null, 1) := dk_1 (dk_at dksJ26_divideKnuth_3 15 rfl rfl)
theorem dJ26_divideKnuth_88 : decode cJ26_divideKnuth 88 = .ok (.areturn, 1) := dk_176 (dk_at dksJ26_divideKnuth_3 16 rfl rfl)
theorem dJ26_divideKnuth_89 : decode cJ26_divideKnuth 89 = .ok (.iload 4, 2) := dk_21 4 (dk_at dksJ26_divideKnuth_3 17 rfl rfl)
theorem dJ26_divideKnuth_91 : decode cJ26_divideKnuth 91 = .ok (.ifCond .ne 36, 3) := dk_154 0 36 (dk_at dksJ26_divideKnuth_3 19 rfl rfl)
theorem dJ26_divideKnuth_94 : decode cJ26_divideKnuth 94 = .ok (.aload_n 2, 1) := dk_44 (dk_at dksJ26_divideKnuth_3 22 rfl rfl)
theorem dJ26_divideKnuth_95 : decode cJ26_divideKnuth 95 = .ok (.getfield 17, 3) := dk_180 0 17 (dk_at dksJ26_divideKnuth_4 0 rfl rfl)
theorem dJ26_divideKnuth_98 : decode cJ26_divideKnuth 98 = .ok (.iconst 0, 1) := dk_3 (dk_at dksJ26_divideKnuth_4 3 rfl rfl)
theorem dJ26_divideKnuth_99 : decode cJ26_divideKnuth 99 = .ok (.aload_n 2, 1) := dk_44 (dk_at dksJ26_divideKnuth_4 4 rfl rfl)
theorem dJ26_divideKnuth_100 : decode cJ26_divideKnuth 100 = .ok (.iconst 1, 1) := dk_4 (dk_at dksJ26_divideKnuth_4 5 rfl rfl)
theorem dJ26_divideKnuth_101 : decode cJ26_divideKnuth 101 = .ok (.dup_x1, 1) := dk_90 (dk_at dksJ26_divideKnuth_4 6 rfl rfl)
theorem dJ26_divideKnuth_102 : decode cJ26_divideKnuth 102 = .ok (.putfield 21, 3) := dk_181 0 21 (dk_at dksJ26_divideKnuth_4 7 rfl rfl)
theorem dJ26_divideKnuth_105 : decode cJ26_divideKnuth 105 = .ok (.iastore, 1) := dk_79 (dk_at dksJ26_divideKnuth_4 10 rfl rfl)
theorem dJ26_divideKnuth_106 : decode cJ26_divideKnuth 106 = .ok (.aload_n 2, 1) := dk_44 (dk_at dksJ26_divideKnuth_4 11 rfl rfl)
theorem dJ26_divideKnuth_107 : decode cJ26_divideKnuth 107 = .ok (.iconst 0, 1) := dk_3 (dk_at dksJ26_divideKnuth_4 12 rfl rfl)
theorem dJ26_divideKnuth_108 : decode cJ26_divideKnuth 108 = .ok (.putfield 11, 3) := dk_181 0 11 (dk_at dksJ26_divideKnuth_4 13 rfl rfl)
theorem dJ26_divideKnuth_111 : decode cJ26_divideKnuth 111 = .ok (.iload_n 3, 1) := dk_29 (dk_at dksJ26_divideKnuth_4 16 rfl rfl)
theorem dJ26_divideKnuth_112 : decode cJ26_divideKnuth 112 = .ok (.ifCond .eq 13, 3) := dk_153 0 13 (dk_at dksJ26_divideKnuth_4 17 rfl rfl)
theorem dJ26_divideKnuth_115 : decode cJ26_divideKnuth 115 = .ok (.new 12, 3) := dk_187 0 12 (dk_at dksJ26_divideKnuth_4 20 rfl rfl)
theorem dJ26_divideKnuth_118 : decode cJ26_divideKnuth 118 = .ok (.dup, 1) := dk_89 (dk_at dksJ26_divideKnuth_4 23 rfl rfl)
theorem dJ26_divideKnuth_119 : decode cJ26_divideKnuth 119 = .ok (.invokespecial 177, 3) := dk_183 0 177 (dk_at dksJ26_divideKnuth_5 0 rfl rfl)
theorem dJ26_divideKnuth_122 : decode cJ26_divideKnuth 122 = .ok (.goto 4, 3) := dk_167 0 4 (dk_at dksJ26_divideKnuth_5 3 rfl rfl)
theorem dJ26_divideKnuth_125 : decode cJ26_divideKnuth 125 = .ok (.aconst_null, 1) := dk_1 (dk_at dksJ26_divideKnuth_5 6 rfl rfl)
theorem dJ26_divideKnuth_126 : decode cJ26_divideKnuth 126 = .ok (.areturn, 1) := dk_176 (dk_at dksJ26_divideKnuth_5 7 rfl rfl)
theorem dJ26_divideKnuth_127 : decode cJ26_divideKnuth 127 = .ok (.aload_n 2, 1) := dk_44 (dk_at dksJ26_divideKnuth_5 8 rfl rfl)
theorem dJ26_divideKnuth_128 : decode cJ26_divideKnuth 128 = .ok (.invokevirtual 149, 3) := dk_182 0 149 (dk_at dksJ26_divideKnuth_5 9 rfl rfl)
theorem dJ26_divideKnuth_131 : decode cJ26_divideKnuth 131 = .ok (.aload_n 1, 1) := dk_43 (dk_at dksJ26_divideKnuth_5 12 rfl rfl)
theorem dJ26_divideKnuth_132 : decode cJ26_divideKnuth 132 = .ok (.getfield 21, 3) := dk_180 0 21 (dk_at dksJ26_divideKnuth_5 13 rfl rfl)
theorem dJ26_divideKnuth_135 : decode cJ26_divideKnuth 135 = .ok (.iconst 1, 1) := dk_4 (dk_at dksJ26_divideKnuth_5 16 rfl rfl)
theorem dJ26_divideKnuth_136 : decode cJ26_divideKnuth 136 = .ok (.if_icmp .ne 48, 3) := dk_160 0 48 (dk_at dksJ26_divideKnuth_5 17 rfl rfl)
theorem dJ26_divideKnuth_139 : decode cJ26_divideKnuth 139 = .ok (.aload_n 0, 1) := dk_42 (dk_at dksJ26_divideKnuth_5 20 rfl rfl)
theorem dJ26_divideKnuth_140 : decode cJ26_divideKnuth 140 = .ok (.aload_n 1, 1) := dk_43 (dk_at dksJ26_divideKnuth_5 21 rfl rfl)
theorem dJ26_divideKnuth_141 : decode cJ26_divideKnuth 141 = .ok (.getfield 17, 3) := dk_180 0 17 (dk_at dksJ26_divideKnuth_6 0 rfl rfl)
theorem dJ26_divideKnuth_144 : decode cJ26_divideKnuth 144 = .ok (.aload_n 1, 1) := dk_43 (dk_at dksJ26_divideKnuth_6 3 rfl rfl)
theorem dJ26_divideKnuth_145 : decode cJ26_divideKnuth 145 = .ok (.getfield 11, 3) := dk_180 0 11 (dk_at dksJ26_divideKnuth_6 4 rfl rfl)
theorem dJ26_divideKnuth_148 : decode cJ26_divideKnuth 148 = .ok (.iaload, 1) := dk_46 (dk_at dksJ26_divideKnuth_6 7 rfl rfl)
theorem dJ26_divideKnuth_149 : decode cJ26_divideKnuth 149 = .ok (.aload_n 2, 1) := dk_44 (dk_at dksJ26_divideKnuth_6 8 rfl rfl)
theorem dJ26_divideKnuth_150 : decode cJ26_divideKnuth 150 = .ok (.invokevirtual 178, 3) := dk_182 0 178 (dk_at dksJ26_divideKnuth_6 9 rfl rfl)
theorem dJ26_divideKnuth_153 : decode cJ26_divideKnuth 153 = .ok (.istore 5, 2) := dk_54 5 (dk_at dksJ26_divideKnuth_6 12 rfl rfl)
theorem dJ26_divideKnuth_155 : decode cJ26_divideKnuth 155 = .ok (.iload_n 3, 1) := dk_29 (dk_at dksJ26_divideKnuth_6 14 rfl rfl)
theorem dJ26_divideKnuth_156 : decode cJ26_divideKnuth 156 = .ok (.ifCond .eq 26, 3) := dk_153 0 26 (dk_at dksJ26_divideKnuth_6 15 rfl rfl)
theorem dJ26_divideKnuth_159 : decode cJ26_divideKnuth 159 = .ok (.iload 5, 2) := dk_21 5 (dk_at dksJ26_divideKnuth_6 18 rfl rfl)
theorem dJ26_divideKnuth_161 : decode cJ26_divideKnuth 161 = .ok (.ifCond .ne 11, 3) := dk_154 0 11 (dk_at dksJ26_divideKnuth_6 20 rfl rfl)
theorem dJ26_divideKnuth_164 : decode cJ26_divideKnuth 164 = .ok (.new 12, 3) := dk_187 0 12 (dk_at dksJ26_divideKnuth_7 0 rfl rfl)
theorem dJ26_divideKnuth_167 : decode cJ26_divideKnuth 167 = .ok (.dup, 1) := dk_89 (dk_at dksJ26_divideKnuth_7 3 rfl rfl)
theorem dJ26_divideKnuth_168 : decode cJ26_divideKnuth 168 = .ok (.invokespecial 177, 3) := dk_183 0 177 (dk_at dksJ26_divideKnuth_7 4 rfl rfl)
theorem dJ26_divideKnuth_171 : decode cJ26_divideKnuth 171 = .ok (.areturn, 1) := dk_176 (dk_at dksJ26_divideKnuth_7 7 rfl rfl)
theorem dJ26_divideKnuth_172 : decode cJ26_divideKnuth 172 = .ok (.new 12, 3) := dk_187 0 12 (dk_at dksJ26_divideKnuth_7 8 rfl rfl)
theorem dJ26_divideKnuth_175 : decode cJ26_divideKnuth 175 = .ok (.dup, 1) := dk_89 (dk_at dksJ26_divideKnuth_7 11 rfl rfl)
theorem dJ26_divideKnuth_176 : decode cJ26_divideKnuth 176 = .ok (.iload 5, 2) := dk_21 5 (dk_at dksJ26_divideKnuth_7 12 rfl rfl)
theorem dJ26_divideKnuth_178 : decode cJ26_divideKnuth 178 = .ok (.invokespecial 182, 3) := dk_183 0 182 (dk_at dksJ26_divideKnuth_7 14 rfl rfl)
theorem dJ26_divideKnuth_181 : decode cJ26_divideKnuth 181 = .ok (.areturn, 1) := dk_176 (dk_at dksJ26_divideKnuth_7 17 rfl rfl)
theorem dJ26_divideKnuth_182 : decode cJ26_divideKnuth 182 = .ok (.aconst_null, 1) := dk_1 (dk_at dksJ26_divideKnuth_7 18 rfl rfl)
theorem dJ26_divideKnuth_183 : decode cJ26_divideKnuth 183 = .ok (.areturn, 1) := dk_176 (dk_at dksJ26_divideKnuth_7 19 rfl rfl)
theorem dJ26_divideKnuth_184 : decode cJ26_divideKnuth 184 = .ok (.aload_n 0, 1) := dk_42 (dk_at dksJ26_divideKnuth_7 20 rfl rfl)
theorem dJ26_divideKnuth_185 : decode cJ26_divideKnuth 185 = .ok (.getfield 21, 3) := dk_180 0 21 (dk_at dksJ26_divideKnuth_7 21 rfl rfl)
theorem dJ26_divideKnuth_188 : decode cJ26_divideKnuth 188 = .ok (.bipush 6, 2) := dk_16 6 (dk_at dksJ26_divideKnuth_8 0 rfl rfl)
theorem dJ26_divideKnuth_190 : decode cJ26_divideKnuth 190 = .ok (.if_icmp .lt 74, 3) := dk_161 0 74 (dk_at dksJ26_divideKnuth_8 2 rfl rfl)
theorem dJ26_divideKnuth_193 : decode cJ26_divideKnuth 193 = .ok (.aload_n 0, 1) := dk_42 (dk_at dksJ26_divideKnuth_8 5 rfl rfl)
theorem dJ26_divideKnuth_194 : decode cJ26_divideKnuth 194 = .ok (.invokevirtual 184, 3) := dk_182 0 184 (dk_at dksJ26_divideKnuth_8 6 rfl rfl)
theorem dJ26_divideKnuth_197 : decode cJ26_divideKnuth 197 = .ok (.aload_n 1, 1) := dk_43 (dk_at dksJ26_divideKnuth_8 9 rfl rfl)
theorem dJ26_divideKnuth_198 : decode cJ26_divideKnuth 198 = .ok (.invokevirtual 184, 3) := dk_182 0 184 (dk_at dksJ26_divideKnuth_8 10 rfl rfl)
theorem dJ26_divideKnuth_201 : decode cJ26_divideKnuth 201 = .ok (.invokestatic 130, 3) := dk_184 0 130 (dk_at dksJ26_divideKnuth_8 13 rfl rfl)
theorem dJ26_divideKnuth_204 : decode cJ26_divideKnuth 204 = .ok (.istore 5, 2) := dk_54 5 (dk_at dksJ26_divideKnuth_8 16 rfl rfl)
theorem dJ26_divideKnuth_206 : decode cJ26_divideKnuth 206 = .ok (.iload 5, 2) := dk_21 5 (dk_at dksJ26_divideKnuth_8 18 rfl rfl)
theorem dJ26_divideKnuth_208 : decode cJ26_divideKnuth 208 = .ok (.bipush 96, 2) := dk_16 96 (dk_at dksJ26_divideKnuth_8 20 rfl rfl)
theorem dJ26_divideKnuth_210 : decode cJ26_divideKnuth 210 = .ok (.if_icmp .lt 54, 3) := dk_161 0 54 (dk_at dksJ26_divideKnuth_9 0 rfl rfl)
theorem dJ26_divideKnuth_213 : decode cJ26_divideKnuth 213 = .ok (.new 12, 3) := dk_187 0 12 (dk_at dksJ26_divideKnuth_9 3 rfl rfl)
theorem dJ26_divideKnuth_216 : decode cJ26_divideKnuth 216 = .ok (.dup, 1) := dk_89 (dk_at dksJ26_divideKnuth_9 6 rfl rfl)
theorem dJ26_divideKnuth_217 : decode cJ26_divideKnuth 217 = .ok (.aload_n 0, 1) := dk_42 (dk_at dksJ26_divideKnuth_9 7 rfl rfl)
theorem dJ26_divideKnuth_218 : decode cJ26_divideKnuth 218 = .ok (.invokespecial 136, 3) := dk_183 0 136 (dk_at dksJ26_divideKnuth_9 8 rfl rfl)
theorem dJ26_divideKnuth_221 : decode cJ26_divideKnuth 221 = .ok (.astore 6, 2) := dk_58 6 (dk_at dksJ26_divideKnuth_9 11 rfl rfl)
theorem dJ26_divideKnuth_223 : decode cJ26_divideKnuth 223 = .ok (.new 12, 3) := dk_187 0 12 (dk_at dksJ26_divideKnuth_9 13 rfl rfl)
theorem dJ26_divideKnuth_226 : decode cJ26_divideKnuth 226 = .ok (.dup, 1) := dk_89 (dk_at dksJ26_divideKnuth_9 16 rfl rfl)
theorem dJ26_divideKnuth_227 : decode cJ26_divideKnuth 227 = .ok (.aload_n 1, 1) := dk_43 (dk_at dksJ26_divideKnuth_9 17 rfl rfl)
theorem dJ26_divideKnuth_228 : decode cJ26_divideKnuth 228 = .ok (.invokespecial 136, 3) := dk_183 0 136 (dk_at dksJ26_divideKnuth_9 18 rfl rfl)
theorem dJ26_divideKnuth_231 : decode cJ26_divideKnuth 231 = .ok (.astore_n 1, 1) := dk_76 (dk_at dksJ26_divideKnuth_9 21 rfl rfl)
theorem dJ26_divideKnuth_232 : decode cJ26_divideKnuth 232 = .ok (.aload 6, 2) := dk_25 6 (dk_at dksJ26_divideKnuth_9 22 rfl rfl)
theorem dJ26_divideKnuth_234 : decode cJ26_divideKnuth 234 = .ok (.iload 5, 2) := dk_21 5 (dk_at dksJ26_divideKnuth_10 0 rfl rfl)
theorem dJ26_divideKnuth_236 : decode cJ26_divideKnuth 236 = .ok (.invokevirtual 108, 3) := dk_182 0 108 (dk_at dksJ26_divideKnuth_10 2 rfl rfl)
theorem dJ26_divideKnuth_239 : decode cJ26_divideKnuth 239 = .ok (.aload_n 1, 1) := dk_43 (dk_at dksJ26_divideKnuth_10 5 rfl rfl)
theorem dJ26_divideKnuth_240 : decode cJ26_divideKnuth 240 = .ok (.iload 5, 2) := dk_21 5 (dk_at dksJ26_divideKnuth_10 6 rfl rfl)
theorem dJ26_divideKnuth_242 : decode cJ26_divideKnuth 242 = .ok (.invokevirtual 108, 3) := dk_182 0 108 (dk_at dksJ26_divideKnuth_10 8 rfl rfl)
theorem dJ26_divideKnuth_245 : decode cJ26_divideKnuth 245 = .ok (.aload 6, 2) := dk_25 6 (dk_at dksJ26_divideKnuth_10 11 rfl rfl)
theorem dJ26_divideKnuth_247 : decode cJ26_divideKnuth 247 = .ok (.aload_n 1, 1) := dk_43 (dk_at dksJ26_divideKnuth_10 13 rfl rfl)
theorem dJ26_divideKnuth_248 : decode cJ26_divideKnuth 248 = .ok (.aload_n 2, 1) := dk_44 (dk_at dksJ26_divideKnuth_10 14 rfl rfl)
theorem dJ26_divideKnuth_249 : decode cJ26_divideKnuth 249 = .ok (.invokevirtual 188, 3) := dk_182 0 188 (dk_at dksJ26_divideKnuth_10 15 rfl rfl)
theorem dJ26_divideKnuth_252 : decode cJ26_divideKnuth 252 = .ok (.astore 7, 2) := dk_58 7 (dk_at dksJ26_divideKnuth_10 18 rfl rfl)
theorem dJ26_divideKnuth_254 : decode cJ26_divideKnuth 254 = .ok (.aload 7, 2) := dk_25 7 (dk_at dksJ26_divideKnuth_10 20 rfl rfl)
theorem dJ26_divideKnuth_256 : decode cJ26_divideKnuth 256 = .ok (.iload 5, 2) := dk_21 5 (dk_at dksJ26_divideKnuth_10 22 rfl rfl)
theorem dJ26_divideKnuth_258 : decode cJ26_divideKnuth 258 = .ok (.invokevirtual 121, 3) := dk_182 0 121 (dk_at dksJ26_divideKnuth_11 0 rfl rfl)
theorem dJ26_divideKnuth_261 : decode cJ26_divideKnuth 261 = .ok (.aload 7, 2) := dk_25 7 (dk_at dksJ26_divideKnuth_11 3 rfl rfl)
theorem dJ26_divideKnuth_263 : decode cJ26_divideKnuth 263 = .ok (.areturn, 1) := dk_176 (dk_at dksJ26_divideKnuth_11 5 rfl rfl)
theorem dJ26_divideKnuth_264 : decode cJ26_divideKnuth 264 = .ok (.aload_n 0, 1) := dk_42 (dk_at dksJ26_divideKnuth_11 6 rfl rfl)
theorem dJ26_divideKnuth_265 : decode cJ26_divideKnuth 265 = .ok (.aload_n 1, 1) := dk_43 (dk_at dksJ26_divideKnuth_11 7 rfl rfl)
theorem dJ26_divideKnuth_266 : decode cJ26_divideKnuth 266 = .ok (.aload_n 2, 1) := dk_44 (dk_at dksJ26_divideKnuth_11 8 rfl rfl)
theorem dJ26_divideKnuth_267 : decode cJ26_divideKnuth 267 = .ok (.iload_n 3, 1) := dk_29 (dk_at dksJ26_divideKnuth_11 9 rfl rfl)
theorem dJ26_divideKnuth_268 : decode cJ26_divideKnuth 268 = .ok (.invokevirtual 190, 3) := dk_182 0 190 (dk_at dksJ26_divideKnuth_11 10 rfl rfl)
theorem dJ26_divideKnuth_271 : decode cJ26_divideKnuth 271 = .ok (.areturn, 1) := dk_176 (dk_at dksJ26_divideKnuth_11 13 rfl rfl)
abbrev cJ26_init_3 : ByteArray := prog_33_method_5_code
def yJ26_init_3 : MethodName := ⟨RJ26, "<init>", "(Ljava/math/MutableBigInteger;)V"⟩
def dkwJ26_init_3_1 : List UInt8 := [180, 0, 11, 43, 180, 0, 11, 42, 180, 0, 21, 96, 184, 0, 33, 181, 0, 17, 177]
abbrev dktJ26_init_3_1 : List UInt8 := dkwJ26_init_3_1 ++ []
def dkwJ26_init_3_0 : List UInt8 := [42, 183, 0, 5, 42, 3, 181, 0, 11, 42, 43, 180, 0, 21, 181, 0, 21, 42, 43, 180, 0, 17, 43]
abbrev dktJ26_init_3_0 : List UInt8 := dkwJ26_init_3_0 ++ dktJ26_init_3_1
theorem dksJ26_init_3_0 : cJ26_init_3.data.toList.drop 0 = dktJ26_init_3_0 := by decide +kernel
theorem dksJ26_init_3_1 : cJ26_init_3.data.toList.drop 23 = dktJ26_init_3_1 := dk_seg dksJ26_init_3_0 23 rfl rfl
theorem dJ26_init_3_0 : decode cJ26_init_3 0 = .ok (.aload_n 0, 1) := dk_42 (dk_at dksJ26_init_3_0 0 rfl rfl)
theorem dJ26_init_3_1 : decode cJ26_init_3 1 = .ok (.invokespecial 5, 3) := dk_183 0 5 (dk_at dksJ26_init_3_0 1 rfl rfl)
theorem dJ26_init_3_4 : decode cJ26_init_3 4 = .ok (.aload_n 0, 1) := dk_42 (dk_at dksJ26_init_3_0 4 rfl rfl)
theorem dJ26_init_3_5 : decode cJ26_init_3 5 = .ok (.iconst 0, 1) := dk_3 (dk_at dksJ26_init_3_0 5 rfl rfl)
theorem dJ26_init_3_6 : decode cJ26_init_3 6 = .ok (.putfield 11, 3) := dk_181 0 11 (dk_at dksJ26_init_3_0 6 rfl rfl)
theorem dJ26_init_3_9 : decode cJ26_init_3 9 = .ok (.aload_n 0, 1) := dk_42 (dk_at dksJ26_init_3_0 9 rfl rfl)
theorem dJ26_init_3_10 : decode cJ26_init_3 10 = .ok (.aload_n 1, 1) := dk_43 (dk_at dksJ26_init_3_0 10 rfl rfl)
theorem dJ26_init_3_11 : decode cJ26_init_3 11 = .ok (.getfield 21, 3) := dk_180 0 21 (dk_at dksJ26_init_3_0 11 rfl rfl)
theorem dJ26_init_3_14 : decode cJ26_init_3 14 = .ok (.putfield 21, 3) := dk_181 0 21 (dk_at dksJ26_init_3_0 14 rfl rfl)
theorem dJ26_init_3_17 : decode cJ26_init_3 17 = .ok (.aload_n 0, 1) := dk_42 (dk_at dksJ26_init_3_0 17 rfl rfl)
theorem dJ26_init_3_18 : decode cJ26_init_3 18 = .ok (.aload_n 1, 1) := dk_43 (dk_at dksJ26_init_3_0 18 rfl rfl)
theorem dJ26_init_3_19 : decode cJ26_init_3 19 = .ok (.getfield 17, 3) := dk_180 0 17 (dk_at dksJ26_init_3_0 19 rfl rfl)
theorem dJ26_init_3_22 : decode cJ26_init_3 22 = .ok (.aload_n 1, 1) := dk_43 (dk_at dksJ26_init_3_0 22 rfl rfl)
theorem dJ26_init_3_23 : decode cJ26_init_3 23 = .ok (.getfield 11, 3) := dk_180 0 11 (dk_at dksJ26_init_3_1 0 rfl rfl)
theorem dJ26_init_3_26 : decode cJ26_init_3 26 = .ok (.aload_n 1, 1) := dk_43 (dk_at dksJ26_init_3_1 3 rfl rfl)
theorem dJ26_init_3_27 : decode cJ26_init_3 27 = .ok (.getfield 11, 3) := dk_180 0 11 (dk_at dksJ26_init_3_1 4 rfl rfl)
theorem dJ26_init_3_30 : decode cJ26_init_3 30 = .ok (.aload_n 0, 1) := dk_42 (dk_at dksJ26_init_3_1 7 rfl rfl)
theorem dJ26_init_3_31 : decode cJ26_init_3 31 = .ok (.getfield 21, 3) := dk_180 0 21 (dk_at dksJ26_init_3_1 8 rfl rfl)
theorem dJ26_init_3_34 : decode cJ26_init_3 34 = .ok (.iadd, 1) := dk_96 (dk_at dksJ26_init_3_1 11 rfl rfl)
theorem dJ26_init_3_35 : decode cJ26_init_3 35 = .ok (.invokestatic 33, 3) := dk_184 0 33 (dk_at dksJ26_init_3_1 12 rfl rfl)
theorem dJ26_init_3_38 : decode cJ26_init_3 38 = .ok (.putfield 17, 3) := dk_181 0 17 (dk_at dksJ26_init_3_1 15 rfl rfl)
theorem dJ26_init_3_41 : decode cJ26_init_3 41 = .ok (.return_, 1) := dk_177 (dk_at dksJ26_init_3_1 18 rfl rfl)
abbrev cJ26_clear : ByteArray := prog_33_method_13_code
def yJ26_clear : MethodName := ⟨RJ26, "clear", "()V"⟩
def dkwJ26_clear_1 : List UInt8 := [180, 0, 17, 27, 3, 79, 132, 1, 1, 167, 255, 241, 177]
abbrev dktJ26_clear_1 : List UInt8 := dkwJ26_clear_1 ++ []
def dkwJ26_clear_0 : List UInt8 := [42, 42, 3, 90, 181, 0, 21, 181, 0, 11, 3, 60, 42, 180, 0, 17, 190, 61, 27, 28, 162, 0, 16, 42]
abbrev dktJ26_clear_0 : List UInt8 := dkwJ26_clear_0 ++ dktJ26_clear_1
theorem dksJ26_clear_0 : cJ26_clear.data.toList.drop 0 = dktJ26_clear_0 := by decide +kernel
theorem dksJ26_clear_1 : cJ26_clear.data.toList.drop 24 = dktJ26_clear_1 := dk_seg dksJ26_clear_0 24 rfl rfl
theorem dJ26_clear_0 : decode cJ26_clear 0 = .ok (.aload_n 0, 1) := dk_42 (dk_at dksJ26_clear_0 0 rfl rfl)
theorem dJ26_clear_1 : decode cJ26_clear 1 = .ok (.aload_n 0, 1) := dk_42 (dk_at dksJ26_clear_0 1 rfl rfl)
theorem dJ26_clear_2 : decode cJ26_clear 2 = .ok (.iconst 0, 1) := dk_3 (dk_at dksJ26_clear_0 2 rfl rfl)
theorem dJ26_clear_3 : decode cJ26_clear 3 = .ok (.dup_x1, 1) := dk_90 (dk_at dksJ26_clear_0 3 rfl rfl)
theorem dJ26_clear_4 : decode cJ26_clear 4 = .ok (.putfield 21, 3) := dk_181 0 21 (dk_at dksJ26_clear_0 4 rfl rfl)
theorem dJ26_clear_7 : decode cJ26_clear 7 = .ok (.putfield 11, 3) := dk_181 0 11 (dk_at dksJ26_clear_0 7 rfl rfl)
theorem dJ26_clear_10 : decode cJ26_clear 10 = .ok (.iconst 0, 1) := dk_3 (dk_at dksJ26_clear_0 10 rfl rfl)
theorem dJ26_clear_11 : decode cJ26_clear 11 = .ok (.istore_n 1, 1) := dk_60 (dk_at dksJ26_clear_0 11 rfl rfl)
theorem dJ26_clear_12 : decode cJ26_clear 12 = .ok (.aload_n 0, 1) := dk_42 (dk_at dksJ26_clear_0 12 rfl rfl)
theorem dJ26_clear_13 : decode cJ26_clear 13 = .ok (.getfield 17, 3) := dk_180 0 17 (dk_at dksJ26_clear_0 13 rfl rfl)
theorem dJ26_clear_16 : decode cJ26_clear 16 = .ok (.arraylength, 1) := dk_190 (dk_at dksJ26_clear_0 16 rfl rfl)
theorem dJ26_clear_17 : decode cJ26_clear 17 = .ok (.istore_n 2, 1) := dk_61 (dk_at dksJ26_clear_0 17 rfl rfl)
theorem dJ26_clear_18 : decode cJ26_clear 18 = .ok (.iload_n 1, 1) := dk_27 (dk_at dksJ26_clear_0 18 rfl rfl)
theorem dJ26_clear_19 : decode cJ26_clear 19 = .ok (.iload_n 2, 1) := dk_28 (dk_at dksJ26_clear_0 19 rfl rfl)
theorem dJ26_clear_20 : decode cJ26_clear 20 = .ok (.if_icmp .ge 16, 3) := dk_162 0 16 (dk_at dksJ26_clear_0 20 rfl rfl)
theorem dJ26_clear_23 : decode cJ26_clear 23 = .ok (.aload_n 0, 1) := dk_42 (dk_at dksJ26_clear_0 23 rfl rfl)
theorem dJ26_clear_24 : decode cJ26_clear 24 = .ok (.getfield 17, 3) := dk_180 0 17 (dk_at dksJ26_clear_1 0 rfl rfl)
theorem dJ26_clear_27 : decode cJ26_clear 27 = .ok (.iload_n 1, 1) := dk_27 (dk_at dksJ26_clear_1 3 rfl rfl)
theorem dJ26_clear_28 : decode cJ26_clear 28 = .ok (.iconst 0, 1) := dk_3 (dk_at dksJ26_clear_1 4 rfl rfl)
theorem dJ26_clear_29 : decode cJ26_clear 29 = .ok (.iastore, 1) := dk_79 (dk_at dksJ26_clear_1 5 rfl rfl)
theorem dJ26_clear_30 : decode cJ26_clear 30 = .ok (.iinc 1 1, 3) := dk_132 1 1 (dk_at dksJ26_clear_1 6 rfl rfl)
theorem dJ26_clear_33 : decode cJ26_clear 33 = .ok (.goto (-15), 3) := dk_167 255 241 (dk_at dksJ26_clear_1 9 rfl rfl)
theorem dJ26_clear_36 : decode cJ26_clear 36 = .ok (.return_, 1) := dk_177 (dk_at dksJ26_clear_1 12 rfl rfl)
abbrev cJ26_divideOneWord : ByteArray := prog_33_method_53_code
def yJ26_divideOneWord : MethodName := ⟨RJ26, "divideOneWord", "(ILjava/math/MutableBigInteger;)I"⟩
def dkwJ26_divideOneWord_14 : List UInt8 := [21, 6, 172]
abbrev dktJ26_divideOneWord_14 : List UInt8 := dkwJ26_divideOneWord_14 ++ []
def dkwJ26_divideOneWord_13 : List UInt8 := [133, 20, 0, 52, 127, 55, 7, 167, 255, 142, 44, 182, 0, 64, 21, 5, 158, 0, 8, 21, 6, 27, 112, 172]
abbrev dktJ26_divideOneWord_13 : List UInt8 := dkwJ26_divideOneWord_13 ++ dktJ26_divideOneWord_14
def dkwJ26_divideOneWord_12 : List UInt8 := [22, 13, 16, 32, 125, 136, 54, 6, 44, 180, 0, 17, 42, 180, 0, 21, 21, 9, 100, 21, 12, 79, 21, 6]
abbrev dktJ26_divideOneWord_12 : List UInt8 := dkwJ26_divideOneWord_12 ++ dktJ26_divideOneWord_13
def dkwJ26_divideOneWord_11 : List UInt8 := [136, 54, 6, 167, 0, 28, 22, 10, 27, 184, 0, 155, 55, 13, 22, 13, 20, 0, 52, 127, 136, 54, 12]
abbrev dktJ26_divideOneWord_11 : List UInt8 := dkwJ26_divideOneWord_11 ++ dktJ26_divideOneWord_12
def dkwJ26_divideOneWord_10 : List UInt8 := [55, 10, 22, 10, 9, 148, 155, 0, 24, 22, 10, 33, 109, 136, 54, 12, 22, 10, 21, 12, 133, 33, 105, 101]
abbrev dktJ26_divideOneWord_10 : List UInt8 := dkwJ26_divideOneWord_10 ++ dktJ26_divideOneWord_11
def dkwJ26_divideOneWord_9 : List UInt8 := [121, 42, 180, 0, 17, 42, 180, 0, 11, 42, 180, 0, 21, 96, 21, 9, 100, 46, 133, 20, 0, 52, 127, 129]
abbrev dktJ26_divideOneWord_9 : List UInt8 := dkwJ26_divideOneWord_9 ++ dktJ26_divideOneWord_10
def dkwJ26_divideOneWord_8 : List UInt8 := [20, 0, 52, 127, 55, 7, 42, 180, 0, 21, 54, 9, 132, 9, 255, 21, 9, 158, 0, 112, 22, 7, 16, 32]
abbrev dktJ26_divideOneWord_8 : List UInt8 := dkwJ26_divideOneWord_8 ++ dktJ26_divideOneWord_9
def dkwJ26_divideOneWord_7 : List UInt8 := [22, 7, 33, 109, 136, 79, 22, 7, 44, 180, 0, 17, 3, 46, 133, 33, 105, 101, 136, 54, 6, 21, 6, 133]
abbrev dktJ26_divideOneWord_7 : List UInt8 := dkwJ26_divideOneWord_7 ++ dktJ26_divideOneWord_8
def dkwJ26_divideOneWord_6 : List UInt8 := [55, 7, 22, 7, 33, 148, 156, 0, 13, 44, 180, 0, 17, 3, 3, 79, 167, 0, 38, 44, 180, 0, 17, 3]
abbrev dktJ26_divideOneWord_6 : List UInt8 := dkwJ26_divideOneWord_6 ++ dktJ26_divideOneWord_7
def dkwJ26_divideOneWord_5 : List UInt8 := [184, 0, 152, 54, 5, 42, 180, 0, 17, 42, 180, 0, 11, 46, 54, 6, 21, 6, 133, 20, 0, 52, 127]
abbrev dktJ26_divideOneWord_5 : List UInt8 := dkwJ26_divideOneWord_5 ++ dktJ26_divideOneWord_6
def dkwJ26_divideOneWord_4 : List UInt8 := [180, 0, 21, 188, 10, 181, 0, 17, 44, 3, 181, 0, 11, 44, 42, 180, 0, 21, 181, 0, 21, 27]
abbrev dktJ26_divideOneWord_4 : List UInt8 := dkwJ26_divideOneWord_4 ++ dktJ26_divideOneWord_5
def dkwJ26_divideOneWord_3 : List UInt8 := [44, 3, 181, 0, 11, 21, 8, 172, 44, 180, 0, 17, 190, 42, 180, 0, 21, 162, 0, 13, 44, 42]
abbrev dktJ26_divideOneWord_3 : List UInt8 := dkwJ26_divideOneWord_3 ++ dktJ26_divideOneWord_4
def dkwJ26_divideOneWord_2 : List UInt8 := [54, 8, 44, 180, 0, 17, 3, 21, 7, 79, 44, 21, 7, 154, 0, 7, 3, 167, 0, 4, 4, 181, 0, 21]
abbrev dktJ26_divideOneWord_2 : List UInt8 := dkwJ26_divideOneWord_2 ++ dktJ26_divideOneWord_3
def dkwJ26_divideOneWord_1 : List UInt8 := [133, 20, 0, 52, 127, 55, 5, 22, 5, 33, 109, 136, 54, 7, 22, 5, 21, 7, 133, 33, 105, 101, 136]
abbrev dktJ26_divideOneWord_1 : List UInt8 := dkwJ26_divideOneWord_1 ++ dktJ26_divideOneWord_2
def dkwJ26_divideOneWord_0 : List UInt8 := [27, 133, 20, 0, 52, 127, 66, 42, 180, 0, 21, 4, 160, 0, 67, 42, 180, 0, 17, 42, 180, 0, 11, 46]
abbrev dktJ26_divideOneWord_0 : List UInt8 := dkwJ26_divideOneWord_0 ++ dktJ26_divideOneWord_1
theorem dksJ26_divideOneWord_0 : cJ26_divideOneWord.data.toList.drop 0 = dktJ26_divideOneWord_0 := by decide +kernel
theorem dksJ26_divideOneWord_1 : cJ26_divideOneWord.data.toList.drop 24 = dktJ26_divideOneWord_1 := dk_seg dksJ26_divideOneWord_0 24 rfl rfl
theorem dksJ26_divideOneWord_2 : cJ26_divideOneWord.data.toList.drop 47 = dktJ26_divideOneWord_2 := dk_seg dksJ26_divideOneWord_1 23 rfl rfl
theorem dksJ26_divideOneWord_3 : cJ26_divideOneWord.data.toList.drop 71 = dktJ26_divideOneWord_3 := dk_seg dksJ26_divideOneWord_2 24 rfl rfl
theorem dksJ26_divideOneWord_4 : cJ26_divideOneWord.data.toList.drop 93 = dktJ26_divideOneWord_4 := dk_seg dksJ26_divideOneWord_3 22 rfl rfl
theorem dksJ26_divideOneWord_5 : cJ26_divideOneWord.data.toList.drop 115 = dktJ26_divideOneWord_5 := dk_seg dksJ26_divideOneWord_4 22 rfl rfl
theorem dksJ26_divideOneWord_6 : cJ26_divideOneWord.data.toList.drop 138 = dktJ26_divideOneWord_6 := dk_seg dksJ26_divideOneWord_5 23 rfl rfl
theorem dksJ26_divideOneWord_7 : cJ26_divideOneWord.data.toList.drop 162 = dktJ26_divideOneWord_7 := dk_seg dksJ26_divideOneWord_6 24 rfl rfl
theorem dksJ26_divideOneWord_8 : cJ26_divideOneWord.data.toList.drop 186 = dktJ26_divideOneWord_8 := dk_seg dksJ26_divideOneWord_7 24 rfl rfl
theorem dksJ26_divideOneWord_9 : cJ26_divideOneWord.data.toList.drop 210 = dktJ26_divideOneWord_9 := dk_seg dksJ26_divideOneWord_8 24 rfl rfl
theorem dksJ26_divideOneWord_10 : cJ26_divideOneWord.data.toList.drop 234 = dktJ26_divideOneWord_10 := dk_seg dksJ26_divideOneWord_9 24 rfl rfl
theorem dksJ26_divideOneWord_11 : cJ26_divideOneWord.data.toList.drop 258 = dktJ26_divideOneWord_11 := dk_seg dksJ26_divideOneWord_10 24 rfl rfl
theorem dksJ26_divideOneWord_12 : cJ26_divideOneWord.data.toList.drop 281 = dktJ26_divideOneWord_12 := dk_seg dksJ26_divideOneWord_11 23 rfl rfl
theorem dksJ26_divideOneWord_13 : cJ26_divideOneWord.data.toList.drop 305 = dktJ26_divideOneWord_13 := dk_seg dksJ26_divideOneWord_12 24 rfl rfl
theorem dksJ26_divideOneWord_14 : cJ26_divideOneWord.data.toList.drop 329 = dktJ26_divideOneWord_14 := dk_seg dksJ26_divideOneWord_13 24 rfl rfl
theorem dJ26_divideOneWord_0 : decode cJ26_divideOneWord 0 = .ok (.iload_n 1, 1) := dk_27 (dk_at dksJ26_divideOneWord_0 0 rfl rfl)
theorem dJ26_divideOneWord_1 : decode cJ26_divideOneWord 1 = .ok (.i2l, 1) := dk_133 (dk_at dksJ26_divideOneWord_0 1 rfl rfl)
theorem dJ26_divideOneWord_2 : decode cJ26_divideOneWord 2 = .ok (.ldc2_w 52, 3) := dk_20 0 52 (dk_at dksJ26_divideOneWord_0 2 rfl rfl)
theorem dJ26_divideOneWord_5 : decode cJ26_divideOneWord 5 = .ok (.land, 1) := dk_127 (dk_at dksJ26_divideOneWord_0 5 rfl rfl)
theorem dJ26_divideOneWord_6 : decode cJ26_divideOneWord 6 = .ok (.lstore_n 3, 1) := dk_66 (dk_at dksJ26_divideOneWord_0 6 rfl rfl)
theorem dJ26_divideOneWord_7 : decode cJ26_divideOneWord 7 = .ok (.aload_n 0, 1) := dk_42 (dk_at dksJ26_divideOneWord_0 7 rfl rfl)
theorem dJ26_divideOneWord_8 : decode cJ26_divideOneWord 8 = .ok (.getfield 21, 3) := dk_180 0 21 (dk_at dksJ26_divideOneWord_0 8 rfl rfl)
theorem dJ26_divideOneWord_11 : decode cJ26_divideOneWord 11 = .ok (.iconst 1, 1) := dk_4 (dk_at dksJ26_divideOneWord_0 11 rfl rfl)
theorem dJ26_divideOneWord_12 : decode cJ26_divideOneWord 12 = .ok (.if_icmp .ne 67, 3) := dk_160 0 67 (dk_at dksJ26_divideOneWord_0 12 rfl rfl)
theorem dJ26_divideOneWord_15 : decode cJ26_divideOneWord 15 = .ok (.aload_n 0, 1) := dk_42 (dk_at dksJ26_divideOneWord_0 15 rfl rfl)
theorem dJ26_divideOneWord_16 : decode cJ26_divideOneWord 16 = .ok (.getfield 17, 3) := dk_180 0 17 (dk_at dksJ26_divideOneWord_0 16 rfl rfl)
theorem dJ26_divideOneWord_19 : decode cJ26_divideOneWord 19 = .ok (.aload_n 0, 1) := dk_42 (dk_at dksJ26_divideOneWord_0 19 rfl rfl)
theorem dJ26_divideOneWord_20 : decode cJ26_divideOneWord 20 = .ok (.getfield 11, 3) := dk_180 0 11 (dk_at dksJ26_divideOneWord_0 20 rfl rfl)
theorem dJ26_divideOneWord_23 : decode cJ26_divideOneWord 23 = .ok (.iaload, 1) := dk_46 (dk_at dksJ26_divideOneWord_0 23 rfl rfl)
theorem dJ26_divideOneWord_24 : decode cJ26_divideOneWord 24 = .ok (.i2l, 1) := dk_133 (dk_at dksJ26_divideOneWord_1 0 rfl rfl)
theorem dJ26_divideOneWord_25 : decode cJ26_divideOneWord 25 = .ok (.ldc2_w 52, 3) := dk_20 0 52 (dk_at dksJ26_divideOneWord_1 1 rfl rfl)
theorem dJ26_divideOneWord_28 : decode cJ26_divideOneWord 28 = .ok (.land, 1) := dk_127 (dk_at dksJ26_divideOneWord_1 4 rfl rfl)
theorem dJ26_divideOneWord_29 : decode cJ26_divideOneWord 29 = .ok (.lstore 5, 2) := dk_55 5 (dk_at dksJ26_divideOneWord_1 5 rfl rfl)
theorem dJ26_divideOneWord_31 : decode cJ26_divideOneWord 31 = .ok (.lload 5, 2) := dk_22 5 (dk_at dksJ26_divideOneWord_1 7 rfl rfl)
theorem dJ26_divideOneWord_33 : decode cJ26_divideOneWord 33 = .ok (.lload_n 3, 1) := dk_33 (dk_at dksJ26_divideOneWord_1 9 rfl rfl)
theorem dJ26_divideOneWord_34 : decode cJ26_divideOneWord 34 = .ok (.ldiv, 1) := dk_109 (dk_at dksJ26_divideOneWord_1 10 rfl rfl)
theorem dJ26_divideOneWord_35 : decode cJ26_divideOneWord 35 = .ok (.l2i, 1) := dk_136 (dk_at dksJ26_divideOneWord_1 11 rfl rfl)
theorem dJ26_divideOneWord_36 : decode cJ26_divideOneWord 36 = .ok (.istore 7, 2) := dk_54 7 (dk_at dksJ26_divideOneWord_1 12 rfl rfl)
theorem dJ26_divideOneWord_38 : decode cJ26_divideOneWord 38 = .ok (.lload 5, 2) := dk_22 5 (dk_at dksJ26_divideOneWord_1 14 rfl rfl)
theorem dJ26_divideOneWord_40 : decode cJ26_divideOneWord 40 = .ok (.iload 7, 2) := dk_21 7 (dk_at dksJ26_divideOneWord_1 16 rfl rfl)
theorem dJ26_divideOneWord_42 : decode cJ26_divideOneWord 42 = .ok (.i2l, 1) := dk_133 (dk_at dksJ26_divideOneWord_1 18 rfl rfl)
theorem dJ26_divideOneWord_43 : decode cJ26_divideOneWord 43 = .ok (.lload_n 3, 1) := dk_33 (dk_at dksJ26_divideOneWord_1 19 rfl rfl)
theorem dJ26_divideOneWord_44 : decode cJ26_divideOneWord 44 = .ok (.lmul, 1) := dk_105 (dk_at dksJ26_divideOneWord_1 20 rfl rfl)
theorem dJ26_divideOneWord_45 : decode cJ26_divideOneWord 45 = .ok (.lsub, 1) := dk_101 (dk_at dksJ26_divideOneWord_1 21 rfl rfl)
theorem dJ26_divideOneWord_46 : decode cJ26_divideOneWord 46 = .ok (.l2i, 1) := dk_136 (dk_at dksJ26_divideOneWord_1 22 rfl rfl)
theorem dJ26_divideOneWord_47 : decode cJ26_divideOneWord 47 = .ok (.istore 8, 2) := dk_54 8 (dk_at dksJ26_divideOneWord_2 0 rfl rfl)
theorem dJ26_divideOneWord_49 : decode cJ26_divideOneWord 49 = .ok (.aload_n 2, 1) := dk_44 (dk_at dksJ26_divideOneWord_2 2 rfl rfl)
theorem dJ26_divideOneWord_50 : decode cJ26_divideOneWord 50 = .ok (.getfield 17, 3) := dk_180 0 17 (dk_at dksJ26_divideOneWord_2 3 rfl rfl)
theorem dJ26_divideOneWord_53 : decode cJ26_divideOneWord 53 = .ok (.iconst 0, 1) := dk_3 (dk_at dksJ26_divideOneWord_2 6 rfl rfl)
theorem dJ26_divideOneWord_54 : decode cJ26_divideOneWord 54 = .ok (.iload 7, 2) := dk_21 7 (dk_at dksJ26_divideOneWord_2 7 rfl rfl)
theorem dJ26_divideOneWord_56 : decode cJ26_divideOneWord 56 = .ok (.iastore, 1) := dk_79 (dk_at dksJ26_divideOneWord_2 9 rfl rfl)
theorem dJ26_divideOneWord_57 : decode cJ26_divideOneWord 57 = .ok (.aload_n 2, 1) := dk_44 (dk_at dksJ26_divideOneWord_2 10 rfl rfl)
theorem dJ26_divideOneWord_58 : decode cJ26_divideOneWord 58 = .ok (.iload 7, 2) := dk_21 7 (dk_at dksJ26_divideOneWord_2 11 rfl rfl)
theorem dJ26_divideOneWord_60 : decode cJ26_divideOneWord 60 = .ok (.ifCond .ne 7, 3) := dk_154 0 7 (dk_at dksJ26_divideOneWord_2 13 rfl rfl)
theorem dJ26_divideOneWord_63 : decode cJ26_divideOneWord 63 = .ok (.iconst 0, 1) := dk_3 (dk_at dksJ26_divideOneWord_2 16 rfl rfl)
theorem dJ26_divideOneWord_64 : decode cJ26_divideOneWord 64 = .ok (.goto 4, 3) := dk_167 0 4 (dk_at dksJ26_divideOneWord_2 17 rfl rfl)
theorem dJ26_divideOneWord_67 : decode cJ26_divideOneWord 67 = .ok (.iconst 1, 1) := dk_4 (dk_at dksJ26_divideOneWord_2 20 rfl rfl)
theorem dJ26_divideOneWord_68 : decode cJ26_divideOneWord 68 = .ok (.putfield 21, 3) := dk_181 0 21 (dk_at dksJ26_divideOneWord_2 21 rfl rfl)
theorem dJ26_divideOneWord_71 : decode cJ26_divideOneWord 71 = .ok (.aload_n 2, 1) := dk_44 (dk_at dksJ26_divideOneWord_3 0 rfl rfl)
theorem dJ26_divideOneWord_72 : decode cJ26_divideOneWord 72 = .ok (.iconst 0, 1) := dk_3 (dk_at dksJ26_divideOneWord_3 1 rfl rfl)
theorem dJ26_divideOneWord_73 : decode cJ26_divideOneWord 73 = .ok (.putfield 11, 3) := dk_181 0 11 (dk_at dksJ26_divideOneWord_3 2 rfl rfl)
theorem dJ26_divideOneWord_76 : decode cJ26_divideOneWord 76 = .ok (.iload 8, 2) := dk_21 8 (dk_at dksJ26_divideOneWord_3 5 rfl rfl)
theorem dJ26_divideOneWord_78 : decode cJ26_divideOneWord 78 = .ok (.ireturn, 1) := dk_172 (dk_at dksJ26_divideOneWord_3 7 rfl rfl)
theorem dJ26_divideOneWord_79 : decode cJ26_divideOneWord 79 = .ok (.aload_n 2, 1) := dk_44 (dk_at dksJ26_divideOneWord_3 8 rfl rfl)
theorem dJ26_divideOneWord_80 : decode cJ26_divideOneWord 80 = .ok (.getfield 17, 3) := dk_180 0 17 (dk_at dksJ26_divideOneWord_3 9 rfl rfl)
theorem dJ26_divideOneWord_83 : decode cJ26_divideOneWord 83 = .ok (.arraylength, 1) := dk_190 (dk_at dksJ26_divideOneWord_3 12 rfl rfl)
theorem dJ26_divideOneWord_84 : decode cJ26_divideOneWord 84 = .ok (.aload_n 0, 1) := dk_42 (dk_at dksJ26_divideOneWord_3 13 rfl rfl)
theorem dJ26_divideOneWord_85 : decode cJ26_divideOneWord 85 = .ok (.getfield 21, 3) := dk_180 0 21 (dk_at dksJ26_divideOneWord_3 14 rfl rfl)
theorem dJ26_divideOneWord_88 : decode cJ26_divideOneWord 88 = .ok (.if_icmp .ge 13, 3) := dk_162 0 13 (dk_at dksJ26_divideOneWord_3 17 rfl rfl)
theorem dJ26_divideOneWord_91 : decode cJ26_divideOneWord 91 = .ok (.aload_n 2, 1) := dk_44 (dk_at dksJ26_divideOneWord_3 20 rfl rfl)
theorem dJ26_divideOneWord_92 : decode cJ26_divideOneWord 92 = .ok (.aload_n 0, 1) := dk_42 (dk_at dksJ26_divideOneWord_3 21 rfl rfl)
theorem dJ26_divideOneWord_93 : decode cJ26_divideOneWord 93 = .ok (.getfield 21, 3) := dk_180 0 21 (dk_at dksJ26_divideOneWord_4 0 rfl rfl)
theorem dJ26_divideOneWord_96 : decode cJ26_divideOneWord 96 = .ok (.newarray .int, 2) := dk_188_10 (dk_at dksJ26_divideOneWord_4 3 rfl rfl)
theorem dJ26_divideOneWord_98 : decode cJ26_divideOneWord 98 = .ok (.putfield 17, 3) := dk_181 0 17 (dk_at dksJ26_divideOneWord_4 5 rfl rfl)
theorem dJ26_divideOneWord_101 : decode cJ26_divideOneWord 101 = .ok (.aload_n 2, 1) := dk_44 (dk_at dksJ26_divideOneWord_4 8 rfl rfl)
theorem dJ26_divideOneWord_102 : decode cJ26_divideOneWord 102 = .ok (.iconst 0, 1) := dk_3 (dk_at dksJ26_divideOneWord_4 9 rfl rfl)
theorem dJ26_divideOneWord_103 : decode cJ26_divideOneWord 103 = .ok (.putfield 11, 3) := dk_181 0 11 (dk_at dksJ26_divideOneWord_4 10 rfl rfl)
theorem dJ26_divideOneWord_106 : decode cJ26_divideOneWord 106 = .ok (.aload_n 2, 1) := dk_44 (dk_at dksJ26_divideOneWord_4 13 rfl rfl)
theorem dJ26_divideOneWord_107 : decode cJ26_divideOneWord 107 = .ok (.aload_n 0, 1) := dk_42 (dk_at dksJ26_divideOneWord_4 14 rfl rfl)
theorem dJ26_divideOneWord_108 : decode cJ26_divideOneWord 108 = .ok (.getfield 21, 3) := dk_180 0 21 (dk_at dksJ26_divideOneWord_4 15 rfl rfl)
theorem dJ26_divideOneWord_111 : decode cJ26_divideOneWord 111 = .ok (.putfield 21, 3) := dk_181 0 21 (dk_at dksJ26_divideOneWord_4 18 rfl rfl)
theorem dJ26_divideOneWord_114 : decode cJ26_divideOneWord 114 = .ok (.iload_n 1, 1) := dk_27 (dk_at dksJ26_divideOneWord_4 21 rfl rfl)
theorem dJ26_divideOneWord_115 : decode cJ26_divideOneWord 115 = .ok (.invokestatic 152, 3) := dk_184 0 152 (dk_at dksJ26_divideOneWord_5 0 rfl rfl)
theorem dJ26_divideOneWord_118 : decode cJ26_divideOneWord 118 = .ok (.istore 5, 2) := dk_54 5 (dk_at dksJ26_divideOneWord_5 3 rfl rfl)
theorem dJ26_divideOneWord_120 : decode cJ26_divideOneWord 120 = .ok (.aload_n 0, 1) := dk_42 (dk_at dksJ26_divideOneWord_5 5 rfl rfl)
theorem dJ26_divideOneWord_121 : decode cJ26_divideOneWord 121 = .ok (.getfield 17, 3) := dk_180 0 17 (dk_at dksJ26_divideOneWord_5 6 rfl rfl)
theorem dJ26_divideOneWord_124 : decode cJ26_divideOneWord 124 = .ok (.aload_n 0, 1) := dk_42 (dk_at dksJ26_divideOneWord_5 9 rfl rfl)
theorem dJ26_divideOneWord_125 : decode cJ26_divideOneWord 125 = .ok (.getfield 11, 3) := dk_180 0 11 (dk_at dksJ26_divideOneWord_5 10 rfl rfl)
theorem dJ26_divideOneWord_128 : decode cJ26_divideOneWord 128 = .ok (.iaload, 1) := dk_46 (dk_at dksJ26_divideOneWord_5 13 rfl rfl)
theorem dJ26_divideOneWord_129 : decode cJ26_divideOneWord 129 = .ok (.istore 6, 2) := dk_54 6 (dk_at dksJ26_divideOneWord_5 14 rfl rfl)
theorem dJ26_divideOneWord_131 : decode cJ26_divideOneWord 131 = .ok (.iload 6, 2) := dk_21 6 (dk_at dksJ26_divideOneWord_5 16 rfl rfl)
theorem dJ26_divideOneWord_133 : decode cJ26_divideOneWord 133 = .ok (.i2l, 1) := dk_133 (dk_at dksJ26_divideOneWord_5 18 rfl rfl)
theorem dJ26_divideOneWord_134 : decode cJ26_divideOneWord 134 = .ok (.ldc2_w 52, 3) := dk_20 0 52 (dk_at dksJ26_divideOneWord_5 19 rfl rfl)
theorem dJ26_divideOneWord_137 : decode cJ26_divideOneWord 137 = .ok (.land, 1) := dk_127 (dk_at dksJ26_divideOneWord_5 22 rfl rfl)
theorem dJ26_divideOneWord_138 : decode cJ26_divideOneWord 138 = .ok (.lstore 7, 2) := dk_55 7 (dk_at dksJ26_divideOneWord_6 0 rfl rfl)
theorem dJ26_divideOneWord_140 : decode cJ26_divideOneWord 140 = .ok (.lload 7, 2) := dk_22 7 (dk_at dksJ26_divideOneWord_6 2 rfl rfl)
theorem dJ26_divideOneWord_142 : decode cJ26_divideOneWord 142 = .ok (.lload_n 3, 1) := dk_33 (dk_at dksJ26_divideOneWord_6 4 rfl rfl)
theorem dJ26_divideOneWord_143 : decode cJ26_divideOneWord 143 = .ok (.lcmp, 1) := dk_148 (dk_at dksJ26_divideOneWord_6 5 rfl rfl)
theorem dJ26_divideOneWord_144 : decode cJ26_divideOneWord 144 = .ok (.ifCond .ge 13, 3) := dk_156 0 13 (dk_at dksJ26_divideOneWord_6 6 rfl rfl)
theorem dJ26_divideOneWord_147 : decode cJ26_divideOneWord 147 = .ok (.aload_n 2, 1) := dk_44 (dk_at dksJ26_divideOneWord_6 9 rfl rfl)
theorem dJ26_divideOneWord_148 : decode cJ26_divideOneWord 148 = .ok (.getfield 17, 3) := dk_180 0 17 (dk_at dksJ26_divideOneWord_6 10 rfl rfl)
theorem dJ26_divideOneWord_151 : decode cJ26_divideOneWord 151 = .ok (.iconst 0, 1) := dk_3 (dk_at dksJ26_divideOneWord_6 13 rfl rfl)
theorem dJ26_divideOneWord_152 : decode cJ26_divideOneWord 152 = .ok (.iconst 0, 1) := dk_3 (dk_at dksJ26_divideOneWord_6 14 rfl rfl)
theorem dJ26_divideOneWord_153 : decode cJ26_divideOneWord 153 = .ok (.iastore, 1) := dk_79 (dk_at dksJ26_divideOneWord_6 15 rfl rfl)
theorem dJ26_divideOneWord_154 : decode cJ26_divideOneWord 154 = .ok (.goto 38, 3) := dk_167 0 38 (dk_at dksJ26_divideOneWord_6 16 rfl rfl)
theorem dJ26_divideOneWord_157 : decode cJ26_divideOneWord 157 = .ok (.aload_n 2, 1) := dk_44 (dk_at dksJ26_divideOneWord_6 19 rfl rfl)
theorem dJ26_divideOneWord_158 : decode cJ26_divideOneWord 158 = .ok (.getfield 17, 3) := dk_180 0 17 (dk_at dksJ26_divideOneWord_6 20 rfl rfl)
theorem dJ26_divideOneWord_161 : decode cJ26_divideOneWord 161 = .ok (.iconst 0, 1) := dk_3 (dk_at dksJ26_divideOneWord_6 23 rfl rfl)
theorem dJ26_divideOneWord_162 : decode cJ26_divideOneWord 162 = .ok (.lload 7, 2) := dk_22 7 (dk_at dksJ26_divideOneWord_7 0 rfl rfl)
theorem dJ26_divideOneWord_164 : decode cJ26_divideOneWord 164 = .ok (.lload_n 3, 1) := dk_33 (dk_at dksJ26_divideOneWord_7 2 rfl rfl)
theorem dJ26_divideOneWord_165 : decode cJ26_divideOneWord 165 = .ok (.ldiv, 1) := dk_109 (dk_at dksJ26_divideOneWord_7 3 rfl rfl)
theorem dJ26_divideOneWord_166 : decode cJ26_divideOneWord 166 = .ok (.l2i, 1) := dk_136 (dk_at dksJ26_divideOneWord_7 4 rfl rfl)
theorem dJ26_divideOneWord_167 : decode cJ26_divideOneWord 167 = .ok (.iastore, 1) := dk_79 (dk_at dksJ26_divideOneWord_7 5 rfl rfl)
theorem dJ26_divideOneWord_168 : decode cJ26_divideOneWord 168 = .ok (.lload 7, 2) := dk_22 7 (dk_at dksJ26_divideOneWord_7 6 rfl rfl)
theorem dJ26_divideOneWord_170 : decode cJ26_divideOneWord 170 = .ok (.aload_n 2, 1) := dk_44 (dk_at dksJ26_divideOneWord_7 8 rfl rfl)
theorem dJ26_divideOneWord_171 : decode cJ26_divideOneWord 171 = .ok (.getfield 17, 3) := dk_180 0 17 (dk_at dksJ26_divideOneWord_7 9 rfl rfl)
theorem dJ26_divideOneWord_174 : decode cJ26_divideOneWord 174 = .ok (.iconst 0, 1) := dk_3 (dk_at dksJ26_divideOneWord_7 12 rfl rfl)
theorem dJ26_divideOneWord_175 : decode cJ26_divideOneWord 175 = .ok (.iaload, 1) := dk_46 (dk_at dksJ26_divideOneWord_7 13 rfl rfl)
theorem dJ26_divideOneWord_176 : decode cJ26_divideOneWord 176 = .ok (.i2l, 1) := dk_133 (dk_at dksJ26_divideOneWord_7 14 rfl rfl)
theorem dJ26_divideOneWord_177 : decode cJ26_divideOneWord 177 = .ok (.lload_n 3, 1) := dk_33 (dk_at dksJ26_divideOneWord_7 15 rfl rfl)
theorem dJ26_divideOneWord_178 : decode cJ26_divideOneWord 178 = .ok (.lmul, 1) := dk_105 (dk_at dksJ26_divideOneWord_7 16 rfl rfl)
theorem dJ26_divideOneWord_179 : decode cJ26_divideOneWord 179 = .ok (.lsub, 1) := dk_101 (dk_at dksJ26_divideOneWord_7 17 rfl rfl)
theorem dJ26_divideOneWord_180 : decode cJ26_divideOneWord 180 = .ok (.l2i, 1) := dk_136 (dk_at dksJ26_divideOneWord_7 18 rfl rfl)
theorem dJ26_divideOneWord_181 : decode cJ26_divideOneWord 181 = .ok (.istore 6, 2) := dk_54 6 (dk_at dksJ26_divideOneWord_7 19 rfl rfl)
theorem dJ26_divideOneWord_183 : decode cJ26_divideOneWord 183 = .ok (.iload 6, 2) := dk_21 6 (dk_at dksJ26_divideOneWord_7 21 rfl rfl)
theorem dJ26_divideOneWord_185 : decode cJ26_divideOneWord 185 = .ok (.i2l, 1) := dk_133 (dk_at dksJ26_divideOneWord_7 23 rfl rfl)
theorem dJ26_divideOneWord_186 : decode cJ26_divideOneWord 186 = .ok (.ldc2_w 52, 3) := dk_20 0 52 (dk_at dksJ26_divideOneWord_8 0 rfl rfl)
theorem dJ26_divideOneWord_189 : decode cJ26_divideOneWord 189 = .ok (.land, 1) := dk_127 (dk_at dksJ26_divideOneWord_8 3 rfl rfl)
theorem dJ26_divideOneWord_190 : decode cJ26_divideOneWord 190 = .ok (.lstore 7, 2) := dk_55 7 (dk_at dksJ26_divideOneWord_8 4 rfl rfl)
theorem dJ26_divideOneWord_192 : decode cJ26_divideOneWord 192 = .ok (.aload_n 0, 1) := dk_42 (dk_at dksJ26_divideOneWord_8 6 rfl rfl)
theorem dJ26_divideOneWord_193 : decode cJ26_divideOneWord 193 = .ok (.getfield 21, 3) := dk_180 0 21 (dk_at dksJ26_divideOneWord_8 7 rfl rfl)
theorem dJ26_divideOneWord_196 : decode cJ26_divideOneWord 196 = .ok (.istore 9, 2) := dk_54 9 (dk_at dksJ26_divideOneWord_8 10 rfl rfl)
theorem dJ26_divideOneWord_198 : decode cJ26_divideOneWord 198 = .ok (.iinc 9 (-1), 3) := dk_132 9 255 (dk_at dksJ26_divideOneWord_8 12 rfl rfl)
theorem dJ26_divideOneWord_201 : decode cJ26_divideOneWord 201 = .ok (.iload 9, 2) := dk_21 9 (dk_at dksJ26_divideOneWord_8 15 rfl rfl)
theorem dJ26_divideOneWord_203 : decode cJ26_divideOneWord 203 = .ok (.ifCond .le 112, 3) := dk_158 0 112 (dk_at dksJ26_divideOneWord_8 17 rfl rfl)
theorem dJ26_divideOneWord_206 : decode cJ26_divideOneWord 206 = .ok (.lload 7, 2) := dk_22 7 (dk_at dksJ26_divideOneWord_8 20 rfl rfl)
theorem dJ26_divideOneWord_208 : decode cJ26_divideOneWord 208 = .ok (.bipush 32, 2) := dk_16 32 (dk_at dksJ26_divideOneWord_8 22 rfl rfl)
theorem dJ26_divideOneWord_210 : decode cJ26_divideOneWord 210 = .ok (.lshl, 1) := dk_121 (dk_at dksJ26_divideOneWord_9 0 rfl rfl)
theorem dJ26_divideOneWord_211 : decode cJ26_divideOneWord 211 = .ok (.aload_n 0, 1) := dk_42 (dk_at dksJ26_divideOneWord_9 1 rfl rfl)
theorem dJ26_divideOneWord_212 : decode cJ26_divideOneWord 212 = .ok (.getfield 17, 3) := dk_180 0 17 (dk_at dksJ26_divideOneWord_9 2 rfl rfl)
theorem dJ26_divideOneWord_215 : decode cJ26_divideOneWord 215 = .ok (.aload_n 0, 1) := dk_42 (dk_at dksJ26_divideOneWord_9 5 rfl rfl)
theorem dJ26_divideOneWord_216 : decode cJ26_divideOneWord 216 = .ok (.getfield 11, 3) := dk_180 0 11 (dk_at dksJ26_divideOneWord_9 6 rfl rfl)
theorem dJ26_divideOneWord_219 : decode cJ26_divideOneWord 219 = .ok (.aload_n 0, 1) := dk_42 (dk_at dksJ26_divideOneWord_9 9 rfl rfl)
theorem dJ26_divideOneWord_220 : decode cJ26_divideOneWord 220 = .ok (.getfield 21, 3) := dk_180 0 21 (dk_at dksJ26_divideOneWord_9 10 rfl rfl)
theorem dJ26_divideOneWord_223 : decode cJ26_divideOneWord 223 = .ok (.iadd, 1) := dk_96 (dk_at dksJ26_divideOneWord_9 13 rfl rfl)
theorem dJ26_divideOneWord_224 : decode cJ26_divideOneWord 224 = .ok (.iload 9, 2) := dk_21 9 (dk_at dksJ26_divideOneWord_9 14 rfl rfl)
theorem dJ26_divideOneWord_226 : decode cJ26_divideOneWord 226 = .ok (.isub, 1) := dk_100 (dk_at dksJ26_divideOneWord_9 16 rfl rfl)
theorem dJ26_divideOneWord_227 : decode cJ26_divideOneWord 227 = .ok (.iaload, 1) := dk_46 (dk_at dksJ26_divideOneWord_9 17 rfl rfl)
theorem dJ26_divideOneWord_228 : decode cJ26_divideOneWord 228 = .ok (.i2l, 1) := dk_133 (dk_at dksJ26_divideOneWord_9 18 rfl rfl)
theorem dJ26_divideOneWord_229 : decode cJ26_divideOneWord 229 = .ok (.ldc2_w 52, 3) := dk_20 0 52 (dk_at dksJ26_divideOneWord_9 19 rfl rfl)
theorem dJ26_divideOneWord_232 : decode cJ26_divideOneWord 232 = .ok (.land, 1) := dk_127 (dk_at dksJ26_divideOneWord_9 22 rfl rfl)
theorem dJ26_divideOneWord_233 : decode cJ26_divideOneWord 233 = .ok (.lor, 1) := dk_129 (dk_at dksJ26_divideOneWord_9 23 rfl rfl)
theorem dJ26_divideOneWord_234 : decode cJ26_divideOneWord 234 = .ok (.lstore 10, 2) := dk_55 10 (dk_at dksJ26_divideOneWord_10 0 rfl rfl)
theorem dJ26_divideOneWord_236 : decode cJ26_divideOneWord 236 = .ok (.lload 10, 2) := dk_22 10 (dk_at dksJ26_divideOneWord_10 2 rfl rfl)
theorem dJ26_divideOneWord_238 : decode cJ26_divideOneWord 238 = .ok (.lconst 0, 1) := dk_9 (dk_at dksJ26_divideOneWord_10 4 rfl rfl)
theorem dJ26_divideOneWord_239 : decode cJ26_divideOneWord 239 = .ok (.lcmp, 1) := dk_148 (dk_at dksJ26_divideOneWord_10 5 rfl rfl)
theorem dJ26_divideOneWord_240 : decode cJ26_divideOneWord 240 = .ok (.ifCond .lt 24, 3) := dk_155 0 24 (dk_at dksJ26_divideOneWord_10 6 rfl rfl)
theorem dJ26_divideOneWord_243 : decode cJ26_divideOneWord 243 = .ok (.lload 10, 2) := dk_22 10 (dk_at dksJ26_divideOneWord_10 9 rfl rfl)
theorem dJ26_divideOneWord_245 : decode cJ26_divideOneWord 245 = .ok (.lload_n 3, 1) := dk_33 (dk_at dksJ26_divideOneWord_10 11 rfl rfl)
theorem dJ26_divideOneWord_246 : decode cJ26_divideOneWord 246 = .ok (.ldiv, 1) := dk_109 (dk_at dksJ26_divideOneWord_10 12 rfl rfl)
theorem dJ26_divideOneWord_247 : decode cJ26_divideOneWord 247 = .ok (.l2i, 1) := dk_136 (dk_at dksJ26_divideOneWord_10 13 rfl rfl)
theorem dJ26_divideOneWord_248 : decode cJ26_divideOneWord 248 = .ok (.istore 12, 2) := dk_54 12 (dk_at dksJ26_divideOneWord_10 14 rfl rfl)
theorem dJ26_divideOneWord_250 : decode cJ26_divideOneWord 250 = .ok (.lload 10, 2) := dk_22 10 (dk_at dksJ26_divideOneWord_10 16 rfl rfl)
theorem dJ26_divideOneWord_252 : decode cJ26_divideOneWord 252 = .ok (.iload 12, 2) := dk_21 12 (dk_at dksJ26_divideOneWord_10 18 rfl rfl)
theorem dJ26_divideOneWord_254 : decode cJ26_divideOneWord 254 = .ok (.i2l, 1) := dk_133 (dk_at dksJ26_divideOneWord_10 20 rfl rfl)
theorem dJ26_divideOneWord_255 : decode cJ26_divideOneWord 255 = .ok (.lload_n 3, 1) := dk_33 (dk_at dksJ26_divideOneWord_10 21 rfl rfl)
theorem dJ26_divideOneWord_256 : decode cJ26_divideOneWord 256 = .ok (.lmul, 1) := dk_105 (dk_at dksJ26_divideOneWord_10 22 rfl rfl)
theorem dJ26_divideOneWord_257 : decode cJ26_divideOneWord 257 = .ok (.lsub, 1) := dk_101 (dk_at dksJ26_divideOneWord_10 23 rfl rfl)
theorem dJ26_divideOneWord_258 : decode cJ26_divideOneWord 258 = .ok (.l2i, 1) := dk_136 (dk_at dksJ26_divideOneWord_11 0 rfl rfl)
theorem dJ26_divideOneWord_259 : decode cJ26_divideOneWord 259 = .ok (.istore 6, 2) := dk_54 6 (dk_at dksJ26_divideOneWord_11 1 rfl rfl)
theorem dJ26_divideOneWord_261 : decode cJ26_divideOneWord 261 = .ok (.goto 28, 3) := dk_167 0 28 (dk_at dksJ26_divideOneWord_11 3 rfl rfl)
theorem dJ26_divideOneWord_264 : decode cJ26_divideOneWord 264 = .ok (.lload 10, 2) := dk_22 10 (dk_at dksJ26_divideOneWord_11 6 rfl rfl)
theorem dJ26_divideOneWord_266 : decode cJ26_divideOneWord 266 = .ok (.iload_n 1, 1) := dk_27 (dk_at dksJ26_divideOneWord_11 8 rfl rfl)
theorem dJ26_divideOneWord_267 : decode cJ26_divideOneWord 267 = .ok (.invokestatic 155, 3) := dk_184 0 155 (dk_at dksJ26_divideOneWord_11 9 rfl rfl)
theorem dJ26_divideOneWord_270 : decode cJ26_divideOneWord 270 = .ok (.lstore 13, 2) := dk_55 13 (dk_at dksJ26_divideOneWord_11 12 rfl rfl)
theorem dJ26_divideOneWord_272 : decode cJ26_divideOneWord 272 = .ok (.lload 13, 2) := dk_22 13 (dk_at dksJ26_divideOneWord_11 14 rfl rfl)
theorem dJ26_divideOneWord_274 : decode cJ26_divideOneWord 274 = .ok (.ldc2_w 52, 3) := dk_20 0 52 (dk_at dksJ26_divideOneWord_11 16 rfl rfl)
theorem dJ26_divideOneWord_277 : decode cJ26_divideOneWord 277 = .ok (.land, 1) := dk_127 (dk_at dksJ26_divideOneWord_11 19 rfl rfl)
theorem dJ26_divideOneWord_278 : decode cJ26_divideOneWord 278 = .ok (.l2i, 1) := dk_136 (dk_at dksJ26_divideOneWord_11 20 rfl rfl)
theorem dJ26_divideOneWord_279 : decode cJ26_divideOneWord 279 = .ok (.istore 12, 2) := dk_54 12 (dk_at dksJ26_divideOneWord_11 21 rfl rfl)
theorem dJ26_divideOneWord_281 : decode cJ26_divideOneWord 281 = .ok (.lload 13, 2) := dk_22 13 (dk_at dksJ26_divideOneWord_12 0 rfl rfl)
theorem dJ26_divideOneWord_283 : decode cJ26_divideOneWord 283 = .ok (.bipush 32, 2) := dk_16 32 (dk_at dksJ26_divideOneWord_12 2 rfl rfl)
theorem dJ26_divideOneWord_285 : decode cJ26_divideOneWord 285 = .ok (.lushr, 1) := dk_125 (dk_at dksJ26_divideOneWord_12 4 rfl rfl)
theorem dJ26_divideOneWord_286 : decode cJ26_divideOneWord 286 = .ok (.l2i, 1) := dk_136 (dk_at dksJ26_divideOneWord_12 5 rfl rfl)
theorem dJ26_divideOneWord_287 : decode cJ26_divideOneWord 287 = .ok (.istore 6, 2) := dk_54 6 (dk_at dksJ26_divideOneWord_12 6 rfl rfl)
theorem dJ26_divideOneWord_289 : decode cJ26_divideOneWord 289 = .ok (.aload_n 2, 1) := dk_44 (dk_at dksJ26_divideOneWord_12 8 rfl rfl)
theorem dJ26_divideOneWord_290 : decode cJ26_divideOneWord 290 = .ok (.getfield 17, 3) := dk_180 0 17 (dk_at dksJ26_divideOneWord_12 9 rfl rfl)
theorem dJ26_divideOneWord_293 : decode cJ26_divideOneWord 293 = .ok (.aload_n 0, 1) := dk_42 (dk_at dksJ26_divideOneWord_12 12 rfl rfl)
theorem dJ26_divideOneWord_294 : decode cJ26_divideOneWord 294 = .ok (.getfield 21, 3) := dk_180 0 21 (dk_at dksJ26_divideOneWord_12 13 rfl rfl)
theorem dJ26_divideOneWord_297 : decode cJ26_divideOneWord 297 = .ok (.iload 9, 2) := dk_21 9 (dk_at dksJ26_divideOneWord_12 16 rfl rfl)
theorem dJ26_divideOneWord_299 : decode cJ26_divideOneWord 299 = .ok (.isub, 1) := dk_100 (dk_at dksJ26_divideOneWord_12 18 rfl rfl)
theorem dJ26_divideOneWord_300 : decode cJ26_divideOneWord 300 = .ok (.iload 12, 2) := dk_21 12 (dk_at dksJ26_divideOneWord_12 19 rfl rfl)
theorem dJ26_divideOneWord_302 : decode cJ26_divideOneWord 302 = .ok (.iastore, 1) := dk_79 (dk_at dksJ26_divideOneWord_12 21 rfl rfl)
theorem dJ26_divideOneWord_303 : decode cJ26_divideOneWord 303 = .ok (.iload 6, 2) := dk_21 6 (dk_at dksJ26_divideOneWord_12 22 rfl rfl)
theorem dJ26_divideOneWord_305 : decode cJ26_divideOneWord 305 = .ok (.i2l, 1) := dk_133 (dk_at dksJ26_divideOneWord_13 0 rfl rfl)
theorem dJ26_divideOneWord_306 : decode cJ26_divideOneWord 306 = .ok (.ldc2_w 52, 3) := dk_20 0 52 (dk_at dksJ26_divideOneWord_13 1 rfl rfl)
theorem dJ26_divideOneWord_309 : decode cJ26_divideOneWord 309 = .ok (.land, 1) := dk_127 (dk_at dksJ26_divideOneWord_13 4 rfl rfl)
theorem dJ26_divideOneWord_310 : decode cJ26_divideOneWord 310 = .ok (.lstore 7, 2) := dk_55 7 (dk_at dksJ26_divideOneWord_13 5 rfl rfl)
theorem dJ26_divideOneWord_312 : decode cJ26_divideOneWord 312 = .ok (.goto (-114), 3) := dk_167 255 142 (dk_at dksJ26_divideOneWord_13 7 rfl rfl)
theorem dJ26_divideOneWord_315 : decode cJ26_divideOneWord 315 = .ok (.aload_n 2, 1) := dk_44 (dk_at dksJ26_divideOneWord_13 10 rfl rfl)
theorem dJ26_divideOneWord_316 : decode cJ26_divideOneWord 316 = .ok (.invokevirtual 64, 3) := dk_182 0 64 (dk_at dksJ26_divideOneWord_13 11 rfl rfl)
theorem dJ26_divideOneWord_319 : decode cJ26_divideOneWord 319 = .ok (.iload 5, 2) := dk_21 5 (dk_at dksJ26_divideOneWord_13 14 rfl rfl)
theorem dJ26_divideOneWord_321 : decode cJ26_divideOneWord 321 = .ok (.ifCond .le 8, 3) := dk_158 0 8 (dk_at dksJ26_divideOneWord_13 16 rfl rfl)
theorem dJ26_divideOneWord_324 : decode cJ26_divideOneWord 324 = .ok (.iload 6, 2) := dk_21 6 (dk_at dksJ26_divideOneWord_13 19 rfl rfl)
theorem dJ26_divideOneWord_326 : decode cJ26_divideOneWord 326 = .ok (.iload_n 1, 1) := dk_27 (dk_at dksJ26_divideOneWord_13 21 rfl rfl)
theorem dJ26_divideOneWord_327 : decode cJ26_divideOneWord 327 = .ok (.irem, 1) := dk_112 (dk_at dksJ26_divideOneWord_13 22 rfl rfl)
theorem dJ26_divideOneWord_328 : decode cJ26_divideOneWord 328 = .ok (.ireturn, 1) := dk_172 (dk_at dksJ26_divideOneWord_13 23 rfl rfl)
theorem dJ26_divideOneWord_329 : decode cJ26_divideOneWord 329 = .ok (.iload 6, 2) := dk_21 6 (dk_at dksJ26_divideOneWord_14 0 rfl rfl)
theorem dJ26_divideOneWord_331 : decode cJ26_divideOneWord 331 = .ok (.ireturn, 1) := dk_172 (dk_at dksJ26_divideOneWord_14 2 rfl rfl)
abbrev cJ26_divWord : ByteArray := prog_33_method_70_code
def yJ26_divWord : MethodName := ⟨RJ26, "divWord", "(JI)J"⟩
def dkwJ26_divWord_4 : List UInt8 := [167, 255, 237, 22, 5, 16, 32, 121, 22, 7, 20, 0, 52, 127, 129, 173]
abbrev dktJ26_divWord_4 : List UInt8 := dkwJ26_divWord_4 ++ []
def dkwJ26_divWord_3 : List UInt8 := [167, 255, 237, 22, 5, 33, 148, 155, 0, 18, 22, 5, 33, 101, 55, 5, 22, 7, 10, 97, 55, 7]
abbrev dktJ26_divWord_3 : List UInt8 := dkwJ26_divWord_3 ++ dktJ26_divWord_4
def dkwJ26_divWord_2 : List UInt8 := [105, 101, 55, 5, 22, 5, 9, 148, 156, 0, 18, 22, 5, 33, 97, 55, 5, 22, 7, 10, 101, 55, 7]
abbrev dktJ26_divWord_2 : List UInt8 := dkwJ26_divWord_2 ++ dktJ26_divWord_3
def dkwJ26_divWord_1 : List UInt8 := [16, 32, 121, 22, 7, 20, 0, 52, 127, 129, 173, 30, 4, 125, 33, 4, 125, 109, 55, 7, 30, 22, 7, 33]
abbrev dktJ26_divWord_1 : List UInt8 := dkwJ26_divWord_1 ++ dktJ26_divWord_2
def dkwJ26_divWord_0 : List UInt8 := [28, 133, 20, 0, 52, 127, 66, 33, 10, 148, 154, 0, 24, 30, 136, 133, 55, 7, 9, 55, 5, 22, 5]
abbrev dktJ26_divWord_0 : List UInt8 := dkwJ26_divWord_0 ++ dktJ26_divWord_1
theorem dksJ26_divWord_0 : cJ26_divWord.data.toList.drop 0 = dktJ26_divWord_0 := by decide +kernel
theorem dksJ26_divWord_1 : cJ26_divWord.data.toList.drop 23 = dktJ26_divWord_1 := dk_seg dksJ26_divWord_0 23 rfl rfl
theorem dksJ26_divWord_2 : cJ26_divWord.data.toList.drop 47 = dktJ26_divWord_2 := dk_seg dksJ26_divWord_1 24 rfl rfl
theorem dksJ26_divWord_3 : cJ26_divWord.data.toList.drop 70 = dktJ26_divWord_3 := dk_seg dksJ26_divWord_2 23 rfl rfl
theorem dksJ26_divWord_4 : cJ26_divWord.data.toList.drop 92 = dktJ26_divWord_4 := dk_seg dksJ26_divWord_3 22 rfl rfl
theorem dJ26_divWord_0 : decode cJ26_divWord 0 = .ok (.iload_n 2, 1) := dk_28 (dk_at dksJ26_divWord_0 0 rfl rfl)
theorem dJ26_divWord_1 : decode cJ26_divWord 1 = .ok (.i2l, 1) := dk_133 (dk_at dksJ26_divWord_0 1 rfl rfl)
theorem dJ26_divWord_2 : decode cJ26_divWord 2 = .ok (.ldc2_w 52, 3) := dk_20 0 52 (dk_at dksJ26_divWord_0 2 rfl rfl)
theorem dJ26_divWord_5 : decode cJ26_divWord 5 = .ok (.land, 1) := dk_127 (dk_at dksJ26_divWord_0 5 rfl rfl)
theorem dJ26_divWord_6 : decode cJ26_divWord 6 = .ok (.lstore_n 3, 1) := dk_66 (dk_at dksJ26_divWord_0 6 rfl rfl)
theorem dJ26_divWord_7 : decode cJ26_divWord 7 = .ok (.lload_n 3, 1) := dk_33 (dk_at dksJ26_divWord_0 7 rfl rfl)
theorem dJ26_divWord_8 : decode cJ26_divWord 8 = .ok (.lconst 1, 1) := dk_10 (dk_at dksJ26_divWord_0 8 rfl rfl)
theorem dJ26_divWord_9 : decode cJ26_divWord 9 = .ok (.lcmp, 1) := dk_148 (dk_at dksJ26_divWord_0 9 rfl rfl)
theorem dJ26_divWord_10 : decode cJ26_divWord 10 = .ok (.ifCond .ne 24, 3) := dk_154 0 24 (dk_at dksJ26_divWord_0 10 rfl rfl)
theorem dJ26_divWord_13 : decode cJ26_divWord 13 = .ok (.lload_n 0, 1) := dk_30 (dk_at dksJ26_divWord_0 13 rfl rfl)
theorem dJ26_divWord_14 : decode cJ26_divWord 14 = .ok (.l2i, 1) := dk_136 (dk_at dksJ26_divWord_0 14 rfl rfl)
theorem dJ26_divWord_15 : decode cJ26_divWord 15 = .ok (.i2l, 1) := dk_133 (dk_at dksJ26_divWord_0 15 rfl rfl)
theorem dJ26_divWord_16 : decode cJ26_divWord 16 = .ok (.lstore 7, 2) := dk_55 7 (dk_at dksJ26_divWord_0 16 rfl rfl)
theorem dJ26_divWord_18 : decode cJ26_divWord 18 = .ok (.lconst 0, 1) := dk_9 (dk_at dksJ26_divWord_0 18 rfl rfl)
theorem dJ26_divWord_19 : decode cJ26_divWord 19 = .ok (.lstore 5, 2) := dk_55 5 (dk_at dksJ26_divWord_0 19 rfl rfl)
theorem dJ26_divWord_21 : decode cJ26_divWord 21 = .ok (.lload 5, 2) := dk_22 5 (dk_at dksJ26_divWord_0 21 rfl rfl)
theorem dJ26_divWord_23 : decode cJ26_divWord 23 = .ok (.bipush 32, 2) := dk_16 32 (dk_at dksJ26_divWord_1 0 rfl rfl)
theorem dJ26_divWord_25 : decode cJ26_divWord 25 = .ok (.lshl, 1) := dk_121 (dk_at dksJ26_divWord_1 2 rfl rfl)
theorem dJ26_divWord_26 : decode cJ26_divWord 26 = .ok (.lload 7, 2) := dk_22 7 (dk_at dksJ26_divWord_1 3 rfl rfl)
theorem dJ26_divWord_28 : decode cJ26_divWord 28 = .ok (.ldc2_w 52, 3) := dk_20 0 52 (dk_at dksJ26_divWord_1 5 rfl rfl)
theorem dJ26_divWord_31 : decode cJ26_divWord 31 = .ok (.land, 1) := dk_127 (dk_at dksJ26_divWord_1 8 rfl rfl)
theorem dJ26_divWord_32 : decode cJ26_divWord 32 = .ok (.lor, 1) := dk_129 (dk_at dksJ26_divWord_1 9 rfl rfl)
theorem dJ26_divWord_33 : decode cJ26_divWord 33 = .ok (.lreturn, 1) := dk_173 (dk_at dksJ26_divWord_1 10 rfl rfl)
theorem dJ26_divWord_34 : decode cJ26_divWord 34 = .ok (.lload_n 0, 1) := dk_30 (dk_at dksJ26_divWord_1 11 rfl rfl)
theorem dJ26_divWord_35 : decode cJ26_divWord 35 = .ok (.iconst 1, 1) := dk_4 (dk_at dksJ26_divWord_1 12 rfl rfl)
theorem dJ26_divWord_36 : decode cJ26_divWord 36 = .ok (.lushr, 1) := dk_125 (dk_at dksJ26_divWord_1 13 rfl rfl)
theorem dJ26_divWord_37 : decode cJ26_divWord 37 = .ok (.lload_n 3, 1) := dk_33 (dk_at dksJ26_divWord_1 14 rfl rfl)
theorem dJ26_divWord_38 : decode cJ26_divWord 38 = .ok (.iconst 1, 1) := dk_4 (dk_at dksJ26_divWord_1 15 rfl rfl)
theorem dJ26_divWord_39 : decode cJ26_divWord 39 = .ok (.lushr, 1) := dk_125 (dk_at dksJ26_divWord_1 16 rfl rfl)
theorem dJ26_divWord_40 : decode cJ26_divWord 40 = .ok (.ldiv, 1) := dk_109 (dk_at dksJ26_divWord_1 17 rfl rfl)
theorem dJ26_divWord_41 : decode cJ26_divWord 41 = .ok (.lstore 7, 2) := dk_55 7 (dk_at dksJ26_divWord_1 18 rfl rfl)
theorem dJ26_divWord_43 : decode cJ26_divWord 43 = .ok (.lload_n 0, 1) := dk_30 (dk_at dksJ26_divWord_1 20 rfl rfl)
theorem dJ26_divWord_44 : decode cJ26_divWord 44 = .ok (.lload 7, 2) := dk_22 7 (dk_at dksJ26_divWord_1 21 rfl rfl)
theorem dJ26_divWord_46 : decode cJ26_divWord 46 = .ok (.lload_n 3, 1) := dk_33 (dk_at dksJ26_divWord_1 23 rfl rfl)
theorem dJ26_divWord_47 : decode cJ26_divWord 47 = .ok (.lmul, 1) := dk_105 (dk_at dksJ26_divWord_2 0 rfl rfl)
theorem dJ26_divWord_48 : decode cJ26_divWord 48 = .ok (.lsub, 1) := dk_101 (dk_at dksJ26_divWord_2 1 rfl rfl)
theorem dJ26_divWord_49 : decode cJ26_divWord 49 = .ok (.lstore 5, 2) := dk_55 5 (dk_at dksJ26_divWord_2 2 rfl rfl)
theorem dJ26_divWord_51 : decode cJ26_divWord 51 = .ok (.lload 5, 2) := dk_22 5 (dk_at dksJ26_divWord_2 4 rfl rfl)
theorem dJ26_divWord_53 : decode cJ26_divWord 53 = .ok (.lconst 0, 1) := dk_9 (dk_at dksJ26_divWord_2 6 rfl rfl)
theorem dJ26_divWord_54 : decode cJ26_divWord 54 = .ok (.lcmp, 1) := dk_148 (dk_at dksJ26_divWord_2 7 rfl rfl)
theorem dJ26_divWord_55 : decode cJ26_divWord 55 = .ok (.ifCond .ge 18, 3) := dk_156 0 18 (dk_at dksJ26_divWord_2 8 rfl rfl)
theorem dJ26_divWord_58 : decode cJ26_divWord 58 = .ok (.lload 5, 2) := dk_22 5 (dk_at dksJ26_divWord_2 11 rfl rfl)
theorem dJ26_divWord_60 : decode cJ26_divWord 60 = .ok (.lload_n 3, 1) := dk_33 (dk_at dksJ26_divWord_2 13 rfl rfl)
theorem dJ26_divWord_61 : decode cJ26_divWord 61 = .ok (.ladd, 1) := dk_97 (dk_at dksJ26_divWord_2 14 rfl rfl)
theorem dJ26_divWord_62 : decode cJ26_divWord 62 = .ok (.lstore 5, 2) := dk_55 5 (dk_at dksJ26_divWord_2 15 rfl rfl)
theorem dJ26_divWord_64 : decode cJ26_divWord 64 = .ok (.lload 7, 2) := dk_22 7 (dk_at dksJ26_divWord_2 17 rfl rfl)
theorem dJ26_divWord_66 : decode cJ26_divWord 66 = .ok (.lconst 1, 1) := dk_10 (dk_at dksJ26_divWord_2 19 rfl rfl)
theorem dJ26_divWord_67 : decode cJ26_divWord 67 = .ok (.lsub, 1) := dk_101 (dk_at dksJ26_divWord_2 20 rfl rfl)
theorem dJ26_divWord_68 : decode cJ26_divWord 68 = .ok (.lstore 7, 2) := dk_55 7 (dk_at dksJ26_divWord_2 21 rfl rfl)
theorem dJ26_divWord_70 : decode cJ26_divWord 70 = .ok (.goto (-19), 3) := dk_167 255 237 (dk_at dksJ26_divWord_3 0 rfl rfl)
theorem dJ26_divWord_73 : decode cJ26_divWord 73 = .ok (.lload 5, 2) := dk_22 5 (dk_at dksJ26_divWord_3 3 rfl rfl)
theorem dJ26_divWord_75 : decode cJ26_divWord 75 = .ok (.lload_n 3, 1) := dk_33 (dk_at dksJ26_divWord_3 5 rfl rfl)
theorem dJ26_divWord_76 : decode cJ26_divWord 76 = .ok (.lcmp, 1) := dk_148 (dk_at dksJ26_divWord_3 6 rfl rfl)
theorem dJ26_divWord_77 : decode cJ26_divWord 77 = .ok (.ifCond .lt 18, 3) := dk_155 0 18 (dk_at dksJ26_divWord_3 7 rfl rfl)
theorem dJ26_divWord_80 : decode cJ26_divWord 80 = .ok (.lload 5, 2) := dk_22 5 (dk_at dksJ26_divWord_3 10 rfl rfl)
theorem dJ26_divWord_82 : decode cJ26_divWord 82 = .ok (.lload_n 3, 1) := dk_33 (dk_at dksJ26_divWord_3 12 rfl rfl)
theorem dJ26_divWord_83 : decode cJ26_divWord 83 = .ok (.lsub, 1) := dk_101 (dk_at dksJ26_divWord_3 13 rfl rfl)
theorem dJ26_divWord_84 : decode cJ26_divWord 84 = .ok (.lstore 5, 2) := dk_55 5 (dk_at dksJ26_divWord_3 14 rfl rfl)
theorem dJ26_divWord_86 : decode cJ26_divWord 86 = .ok (.lload 7, 2) := dk_22 7 (dk_at dksJ26_divWord_3 16 rfl rfl)
theorem dJ26_divWord_88 : decode cJ26_divWord 88 = .ok (.lconst 1, 1) := dk_10 (dk_at dksJ26_divWord_3 18 rfl rfl)
theorem dJ26_divWord_89 : decode cJ26_divWord 89 = .ok (.ladd, 1) := dk_97 (dk_at dksJ26_divWord_3 19 rfl rfl)
theorem dJ26_divWord_90 : decode cJ26_divWord 90 = .ok (.lstore 7, 2) := dk_55 7 (dk_at dksJ26_divWord_3 20 rfl rfl)
theorem dJ26_divWord_92 : decode cJ26_divWord 92 = .ok (.goto (-19), 3) := dk_167 255 237 (dk_at dksJ26_divWord_4 0 rfl rfl)
theorem dJ26_divWord_95 : decode cJ26_divWord 95 = .ok (.lload 5, 2) := dk_22 5 (dk_at dksJ26_divWord_4 3 rfl rfl)
theorem dJ26_divWord_97 : decode cJ26_divWord 97 = .ok (.bipush 32, 2) := dk_16 32 (dk_at dksJ26_divWord_4 5 rfl rfl)
theorem dJ26_divWord_99 : decode cJ26_divWord 99 = .ok (.lshl, 1) := dk_121 (dk_at dksJ26_divWord_4 7 rfl rfl)
theorem dJ26_divWord_100 : decode cJ26_divWord 100 = .ok (.lload 7, 2) := dk_22 7 (dk_at dksJ26_divWord_4 8 rfl rfl)
theorem dJ26_divWord_102 : decode cJ26_divWord 102 = .ok (.ldc2_w 52, 3) := dk_20 0 52 (dk_at dksJ26_divWord_4 10 rfl rfl)
theorem dJ26_divWord_105 : decode cJ26_divWord 105 = .ok (.land, 1) := dk_127 (dk_at dksJ26_divWord_4 13 rfl rfl)
theorem dJ26_divWord_106 : decode cJ26_divWord 106 = .ok (.lor, 1) := dk_129 (dk_at dksJ26_divWord_4 14 rfl rfl)
theorem dJ26_divWord_107 : decode cJ26_divWord 107 = .ok (.lreturn, 1) := dk_173 (dk_at dksJ26_divWord_4 15 rfl rfl)
abbrev cJ26_init_4 : ByteArray := prog_33_method_2_code
def yJ26_init_4 : MethodName := ⟨RJ26, "<init>", "(I)V"⟩
def dkwJ26_init_4_1 : List UInt8 := [180, 0, 17, 3, 27, 79, 177]
abbrev dktJ26_init_4_1 : List UInt8 := dkwJ26_init_4_1 ++ []
def dkwJ26_init_4_0 : List UInt8 := [42, 183, 0, 5, 42, 3, 181, 0, 11, 42, 4, 188, 10, 181, 0, 17, 42, 4, 181, 0, 21, 42]
abbrev dktJ26_init_4_0 : List UInt8 := dkwJ26_init_4_0 ++ dktJ26_init_4_1
theorem dksJ26_init_4_0 : cJ26_init_4.data.toList.drop 0 = dktJ26_init_4_0 := by decide +kernel
theorem dksJ26_init_4_1 : cJ26_init_4.data.toList.drop 22 = dktJ26_init_4_1 := dk_seg dksJ26_init_4_0 22 rfl rfl
theorem dJ26_init_4_0 : decode cJ26_init_4 0 = .ok (.aload_n 0, 1) := dk_42 (dk_at dksJ26_init_4_0 0 rfl rfl)
theorem dJ26_init_4_1 : decode cJ26_init_4 1 = .ok (.invokespecial 5, 3) := dk_183 0 5 (dk_at dksJ26_init_4_0 1 rfl rfl)
theorem dJ26_init_4_4 : decode cJ26_init_4 4 = .ok (.aload_n 0, 1) := dk_42 (dk_at dksJ26_init_4_0 4 rfl rfl)
theorem dJ26_init_4_5 : decode cJ26_init_4 5 = .ok (.iconst 0, 1) := dk_3 (dk_at dksJ26_init_4_0 5 rfl rfl)
theorem dJ26_init_4_6 : decode cJ26_init_4 6 = .ok (.putfield 11, 3) := dk_181 0 11 (dk_at dksJ26_init_4_0 6 rfl rfl)
theorem dJ26_init_4_9 : decode cJ26_init_4 9 = .ok (.aload_n 0, 1) := dk_42 (dk_at dksJ26_init_4_0 9 rfl rfl)
theorem dJ26_init_4_10 : decode cJ26_init_4 10 = .ok (.iconst 1, 1) := dk_4 (dk_at dksJ26_init_4_0 10 rfl rfl)
theorem dJ26_init_4_11 : decode cJ26_init_4 11 = .ok (.newarray .int, 2) := dk_188_10 (dk_at dksJ26_init_4_0 11 rfl rfl)
theorem dJ26_init_4_13 : decode cJ26_init_4 13 = .ok (.putfield 17, 3) := dk_181 0 17 (dk_at dksJ26_init_4_0 13 rfl rfl)
theorem dJ26_init_4_16 : decode cJ26_init_4 16 = .ok (.aload_n 0, 1) := dk_42 (dk_at dksJ26_init_4_0 16 rfl rfl)
theorem dJ26_init_4_17 : decode cJ26_init_4 17 = .ok (.iconst 1, 1) := dk_4 (dk_at dksJ26_init_4_0 17 rfl rfl)
theorem dJ26_init_4_18 : decode cJ26_init_4 18 = .ok (.putfield 21, 3) := dk_181 0 21 (dk_at dksJ26_init_4_0 18 rfl rfl)
theorem dJ26_init_4_21 : decode cJ26_init_4 21 = .ok (.aload_n 0, 1) := dk_42 (dk_at dksJ26_init_4_0 21 rfl rfl)
theorem dJ26_init_4_22 : decode cJ26_init_4 22 = .ok (.getfield 17, 3) := dk_180 0 17 (dk_at dksJ26_init_4_1 0 rfl rfl)
theorem dJ26_init_4_25 : decode cJ26_init_4 25 = .ok (.iconst 0, 1) := dk_3 (dk_at dksJ26_init_4_1 3 rfl rfl)
theorem dJ26_init_4_26 : decode cJ26_init_4 26 = .ok (.iload_n 1, 1) := dk_27 (dk_at dksJ26_init_4_1 4 rfl rfl)
theorem dJ26_init_4_27 : decode cJ26_init_4 27 = .ok (.iastore, 1) := dk_79 (dk_at dksJ26_init_4_1 5 rfl rfl)
theorem dJ26_init_4_28 : decode cJ26_init_4 28 = .ok (.return_, 1) := dk_177 (dk_at dksJ26_init_4_1 6 rfl rfl)
abbrev cJ26_divideKnuth_2 : ByteArray := prog_33_method_56_code
def yJ26_divideKnuth_2 : MethodName := ⟨RJ26, "divideKnuth", "(Ljava/math/MutableBigInteger;Ljava/math/MutableBigInteger;)Ljava/math/MutableBigInteger;"⟩
def dkwJ26_divideKnuth_2_0 : List UInt8 := [42, 43, 44, 4, 182, 0, 163, 176]
abbrev dktJ26_divideKnuth_2_0 : List UInt8 := dkwJ26_divideKnuth_2_0 ++ []
theorem dksJ26_divideKnuth_2_0 : cJ26_divideKnuth_2.data.toList.drop 0 = dktJ26_divideKnuth_2_0 := by decide +kernel
theorem dJ26_divideKnuth_2_0 : decode cJ26_divideKnuth_2 0 = .ok (.aload_n 0, 1) := dk_42 (dk_at dksJ26_divideKnuth_2_0 0 rfl rfl)
theorem dJ26_divideKnuth_2_1 : decode cJ26_divideKnuth_2 1 = .ok (.aload_n 1, 1) := dk_43 (dk_at dksJ26_divideKnuth_2_0 1 rfl rfl)
theorem dJ26_divideKnuth_2_2 : decode cJ26_divideKnuth_2 2 = .ok (.aload_n 2, 1) := dk_44 (dk_at dksJ26_divideKnuth_2_0 2 rfl rfl)
theorem dJ26_divideKnuth_2_3 : decode cJ26_divideKnuth_2 3 = .ok (.iconst 1, 1) := dk_4 (dk_at dksJ26_divideKnuth_2_0 3 rfl rfl)
theorem dJ26_divideKnuth_2_4 : decode cJ26_divideKnuth_2 4 = .ok (.invokevirtual 163, 3) := dk_182 0 163 (dk_at dksJ26_divideKnuth_2_0 4 rfl rfl)
theorem dJ26_divideKnuth_2_7 : decode cJ26_divideKnuth_2 7 = .ok (.areturn, 1) := dk_176 (dk_at dksJ26_divideKnuth_2_0 7 rfl rfl)
abbrev cJ26_divideMagnitude : ByteArray := prog_33_method_65_code
def yJ26_divideMagnitude : MethodName := ⟨RJ26, "divideMagnitude", "(Ljava/math/MutableBigInteger;Ljava/math/MutableBigInteger;Z)Ljava/math/MutableBigInteger;"⟩
def dkwJ26_divideMagnitude_55 : List UInt8 := [153, 0, 8, 25, 7, 167, 0, 4, 1, 176]
abbrev dktJ26_divideMagnitude_55 : List UInt8 := dkwJ26_divideMagnitude_55 ++ []
def dkwJ26_divideMagnitude_54 : List UInt8 := [21, 4, 158, 0, 10, 25, 7, 21, 4, 182, 0, 108, 25, 7, 182, 0, 64, 44, 182, 0, 64, 29]
abbrev dktJ26_divideMagnitude_54 : List UInt8 := dkwJ26_divideMagnitude_54 ++ dktJ26_divideMagnitude_55
def dkwJ26_divideMagnitude_53 : List UInt8 := [180, 0, 11, 96, 182, 1, 25, 87, 132, 15, 255, 25, 10, 21, 9, 4, 100, 21, 15, 79, 29, 153, 0, 20]
abbrev dktJ26_divideMagnitude_53 : List UInt8 := dkwJ26_divideMagnitude_53 ++ dktJ26_divideMagnitude_54
def dkwJ26_divideMagnitude_52 : List UInt8 := [164, 0, 34, 29, 153, 0, 27, 42, 25, 6, 25, 7, 180, 0, 17, 21, 9, 4, 100, 4, 96, 25, 7]
abbrev dktJ26_divideMagnitude_52 : List UInt8 := dkwJ26_divideMagnitude_52 ++ dktJ26_divideMagnitude_53
def dkwJ26_divideMagnitude_51 : List UInt8 := [21, 9, 4, 100, 25, 7, 180, 0, 11, 96, 182, 1, 29, 54, 21, 21, 21, 18, 88, 96, 21, 19]
abbrev dktJ26_divideMagnitude_51 : List UInt8 := dkwJ26_divideMagnitude_51 ++ dktJ26_divideMagnitude_52
def dkwJ26_divideMagnitude_50 : List UInt8 := [180, 0, 11, 96, 182, 1, 21, 54, 21, 167, 0, 30, 42, 25, 7, 180, 0, 17, 25, 6, 21, 15, 21, 5]
abbrev dktJ26_divideMagnitude_50 : List UInt8 := dkwJ26_divideMagnitude_50 ++ dktJ26_divideMagnitude_51
def dkwJ26_divideMagnitude_49 : List UInt8 := [3, 79, 29, 153, 0, 33, 42, 25, 7, 180, 0, 17, 25, 6, 21, 15, 21, 5, 21, 9, 4, 100, 25, 7]
abbrev dktJ26_divideMagnitude_49 : List UInt8 := dkwJ26_divideMagnitude_49 ++ dktJ26_divideMagnitude_50
def dkwJ26_divideMagnitude_48 : List UInt8 := [182, 1, 17, 153, 0, 6, 132, 15, 255, 25, 7, 180, 0, 17, 21, 9, 4, 100, 25, 7, 180, 0, 11, 96]
abbrev dktJ26_divideMagnitude_48 : List UInt8 := dkwJ26_divideMagnitude_48 ++ dktJ26_divideMagnitude_49
def dkwJ26_divideMagnitude_47 : List UInt8 := [101, 55, 25, 21, 16, 133, 20, 0, 52, 127, 16, 32, 121, 22, 21, 129, 55, 23, 42, 22, 25, 22, 23]
abbrev dktJ26_divideMagnitude_47 : List UInt8 := dkwJ26_divideMagnitude_47 ++ dktJ26_divideMagnitude_48
def dkwJ26_divideMagnitude_46 : List UInt8 := [54, 16, 21, 16, 133, 20, 0, 52, 127, 22, 12, 148, 155, 0, 44, 22, 25, 21, 14, 133, 20, 0, 52, 127]
abbrev dktJ26_divideMagnitude_46 : List UInt8 := dkwJ26_divideMagnitude_46 ++ dktJ26_divideMagnitude_47
def dkwJ26_divideMagnitude_45 : List UInt8 := [22, 25, 22, 23, 182, 1, 17, 153, 0, 73, 132, 15, 255, 21, 16, 133, 20, 0, 52, 127, 22, 12, 97, 136]
abbrev dktJ26_divideMagnitude_45 : List UInt8 := dkwJ26_divideMagnitude_45 ++ dktJ26_divideMagnitude_46
def dkwJ26_divideMagnitude_44 : List UInt8 := [121, 22, 21, 129, 55, 23, 21, 14, 133, 20, 0, 52, 127, 21, 15, 133, 20, 0, 52, 127, 105, 55, 25, 42]
abbrev dktJ26_divideMagnitude_44 : List UInt8 := dkwJ26_divideMagnitude_44 ++ dktJ26_divideMagnitude_45
def dkwJ26_divideMagnitude_43 : List UInt8 := [96, 25, 7, 180, 0, 11, 96, 46, 133, 20, 0, 52, 127, 55, 21, 21, 16, 133, 20, 0, 52, 127, 16, 32]
abbrev dktJ26_divideMagnitude_43 : List UInt8 := dkwJ26_divideMagnitude_43 ++ dktJ26_divideMagnitude_44
def dkwJ26_divideMagnitude_42 : List UInt8 := [16, 32, 125, 136, 54, 16, 21, 15, 153, 1, 16, 21, 17, 154, 0, 139, 25, 7, 180, 0, 17, 21, 9, 4]
abbrev dktJ26_divideMagnitude_42 : List UInt8 := dkwJ26_divideMagnitude_42 ++ dktJ26_divideMagnitude_43
def dkwJ26_divideMagnitude_41 : List UInt8 := [167, 0, 29, 22, 21, 21, 11, 184, 0, 155, 55, 23, 22, 23, 20, 0, 52, 127, 136, 54, 15, 22, 23]
abbrev dktJ26_divideMagnitude_41 : List UInt8 := dkwJ26_divideMagnitude_41 ++ dktJ26_divideMagnitude_42
def dkwJ26_divideMagnitude_40 : List UInt8 := [155, 0, 26, 22, 21, 22, 12, 109, 136, 54, 15, 22, 21, 21, 15, 133, 22, 12, 105, 101, 136, 54, 16]
abbrev dktJ26_divideMagnitude_40 : List UInt8 := dkwJ26_divideMagnitude_40 ++ dktJ26_divideMagnitude_41
def dkwJ26_divideMagnitude_39 : List UInt8 := [167, 0, 75, 21, 18, 133, 16, 32, 121, 21, 20, 133, 20, 0, 52, 127, 129, 55, 21, 22, 21, 9, 148]
abbrev dktJ26_divideMagnitude_39 : List UInt8 := dkwJ26_divideMagnitude_39 ++ dktJ26_divideMagnitude_40
def dkwJ26_divideMagnitude_38 : List UInt8 := [21, 18, 21, 20, 96, 54, 16, 21, 16, 18, 88, 96, 21, 19, 162, 0, 7, 4, 167, 0, 4, 3, 54, 17]
abbrev dktJ26_divideMagnitude_38 : List UInt8 := dkwJ26_divideMagnitude_38 ++ dktJ26_divideMagnitude_39
def dkwJ26_divideMagnitude_37 : List UInt8 := [180, 0, 17, 21, 9, 25, 7, 180, 0, 11, 96, 46, 54, 20, 21, 18, 21, 11, 160, 0, 33, 2, 54, 15]
abbrev dktJ26_divideMagnitude_37 : List UInt8 := dkwJ26_divideMagnitude_37 ++ dktJ26_divideMagnitude_38
def dkwJ26_divideMagnitude_36 : List UInt8 := [21, 9, 4, 100, 25, 7, 180, 0, 11, 96, 46, 54, 18, 21, 18, 18, 88, 96, 54, 19, 25, 7]
abbrev dktJ26_divideMagnitude_36 : List UInt8 := dkwJ26_divideMagnitude_36 ++ dktJ26_divideMagnitude_37
def dkwJ26_divideMagnitude_35 : List UInt8 := [21, 16, 79, 132, 15, 1, 167, 254, 110, 3, 54, 15, 3, 54, 16, 3, 54, 17, 25, 7, 180, 0, 17]
abbrev dktJ26_divideMagnitude_35 : List UInt8 := dkwJ26_divideMagnitude_35 ++ dktJ26_divideMagnitude_36
def dkwJ26_divideMagnitude_34 : List UInt8 := [180, 0, 17, 21, 15, 4, 96, 25, 7, 180, 0, 11, 96, 182, 1, 25, 87, 132, 16, 255, 25, 10, 21, 15]
abbrev dktJ26_divideMagnitude_34 : List UInt8 := dkwJ26_divideMagnitude_34 ++ dktJ26_divideMagnitude_35
def dkwJ26_divideMagnitude_33 : List UInt8 := [180, 0, 11, 96, 182, 1, 21, 54, 22, 21, 22, 18, 88, 96, 21, 20, 164, 0, 28, 42, 25, 6, 25, 7]
abbrev dktJ26_divideMagnitude_33 : List UInt8 := dkwJ26_divideMagnitude_33 ++ dktJ26_divideMagnitude_34
def dkwJ26_divideMagnitude_32 : List UInt8 := [180, 0, 11, 96, 3, 79, 42, 25, 7, 180, 0, 17, 25, 6, 21, 16, 21, 5, 21, 15, 25, 7]
abbrev dktJ26_divideMagnitude_32 : List UInt8 := dkwJ26_divideMagnitude_32 ++ dktJ26_divideMagnitude_33
def dkwJ26_divideMagnitude_31 : List UInt8 := [22, 26, 22, 24, 182, 1, 17, 153, 0, 6, 132, 16, 255, 25, 7, 180, 0, 17, 21, 15, 25, 7]
abbrev dktJ26_divideMagnitude_31 : List UInt8 := dkwJ26_divideMagnitude_31 ++ dktJ26_divideMagnitude_32
def dkwJ26_divideMagnitude_30 : List UInt8 := [20, 0, 52, 127, 101, 55, 26, 21, 17, 133, 20, 0, 52, 127, 16, 32, 121, 22, 22, 129, 55, 24, 42]
abbrev dktJ26_divideMagnitude_30 : List UInt8 := dkwJ26_divideMagnitude_30 ++ dktJ26_divideMagnitude_31
def dkwJ26_divideMagnitude_29 : List UInt8 := [22, 12, 97, 136, 54, 17, 21, 17, 133, 20, 0, 52, 127, 22, 12, 148, 155, 0, 44, 22, 26, 21, 14, 133]
abbrev dktJ26_divideMagnitude_29 : List UInt8 := dkwJ26_divideMagnitude_29 ++ dktJ26_divideMagnitude_30
def dkwJ26_divideMagnitude_28 : List UInt8 := [55, 26, 42, 22, 26, 22, 24, 182, 1, 17, 153, 0, 73, 132, 16, 255, 21, 17, 133, 20, 0, 52, 127]
abbrev dktJ26_divideMagnitude_28 : List UInt8 := dkwJ26_divideMagnitude_28 ++ dktJ26_divideMagnitude_29
def dkwJ26_divideMagnitude_27 : List UInt8 := [127, 16, 32, 121, 22, 22, 129, 55, 24, 21, 14, 133, 20, 0, 52, 127, 21, 16, 133, 20, 0, 52, 127, 105]
abbrev dktJ26_divideMagnitude_27 : List UInt8 := dkwJ26_divideMagnitude_27 ++ dktJ26_divideMagnitude_28
def dkwJ26_divideMagnitude_26 : List UInt8 := [21, 15, 5, 96, 25, 7, 180, 0, 11, 96, 46, 133, 20, 0, 52, 127, 55, 22, 21, 17, 133, 20, 0, 52]
abbrev dktJ26_divideMagnitude_26 : List UInt8 := dkwJ26_divideMagnitude_26 ++ dktJ26_divideMagnitude_27
def dkwJ26_divideMagnitude_25 : List UInt8 := [16, 32, 125, 136, 54, 17, 21, 16, 154, 0, 6, 167, 0, 226, 21, 18, 154, 0, 139, 25, 7, 180, 0, 17]
abbrev dktJ26_divideMagnitude_25 : List UInt8 := dkwJ26_divideMagnitude_25 ++ dktJ26_divideMagnitude_26
def dkwJ26_divideMagnitude_24 : List UInt8 := [167, 0, 29, 22, 22, 21, 11, 184, 0, 155, 55, 24, 22, 24, 20, 0, 52, 127, 136, 54, 16, 22, 24]
abbrev dktJ26_divideMagnitude_24 : List UInt8 := dkwJ26_divideMagnitude_24 ++ dktJ26_divideMagnitude_25
def dkwJ26_divideMagnitude_23 : List UInt8 := [148, 155, 0, 26, 22, 22, 22, 12, 109, 136, 54, 16, 22, 22, 21, 16, 133, 22, 12, 105, 101, 136, 54, 17]
abbrev dktJ26_divideMagnitude_23 : List UInt8 := dkwJ26_divideMagnitude_23 ++ dktJ26_divideMagnitude_24
def dkwJ26_divideMagnitude_22 : List UInt8 := [54, 18, 167, 0, 75, 21, 19, 133, 16, 32, 121, 21, 21, 133, 20, 0, 52, 127, 129, 55, 22, 22, 22, 9]
abbrev dktJ26_divideMagnitude_22 : List UInt8 := dkwJ26_divideMagnitude_22 ++ dktJ26_divideMagnitude_23
def dkwJ26_divideMagnitude_21 : List UInt8 := [54, 16, 21, 19, 21, 21, 96, 54, 17, 21, 17, 18, 88, 96, 21, 20, 162, 0, 7, 4, 167, 0, 4, 3]
abbrev dktJ26_divideMagnitude_21 : List UInt8 := dkwJ26_divideMagnitude_21 ++ dktJ26_divideMagnitude_22
def dkwJ26_divideMagnitude_20 : List UInt8 := [180, 0, 17, 21, 15, 4, 96, 25, 7, 180, 0, 11, 96, 46, 54, 21, 21, 19, 21, 11, 160, 0, 33, 2]
abbrev dktJ26_divideMagnitude_20 : List UInt8 := dkwJ26_divideMagnitude_20 ++ dktJ26_divideMagnitude_21
def dkwJ26_divideMagnitude_19 : List UInt8 := [180, 0, 17, 21, 15, 25, 7, 180, 0, 11, 96, 46, 54, 19, 21, 19, 18, 88, 96, 54, 20, 25, 7]
abbrev dktJ26_divideMagnitude_19 : List UInt8 := dkwJ26_divideMagnitude_19 ++ dktJ26_divideMagnitude_20
def dkwJ26_divideMagnitude_18 : List UInt8 := [3, 54, 15, 21, 15, 21, 9, 4, 100, 162, 1, 143, 3, 54, 16, 3, 54, 17, 3, 54, 18, 25, 7]
abbrev dktJ26_divideMagnitude_18 : List UInt8 := dkwJ26_divideMagnitude_18 ++ dktJ26_divideMagnitude_19
def dkwJ26_divideMagnitude_17 : List UInt8 := [181, 0, 21, 25, 6, 3, 46, 54, 11, 21, 11, 133, 20, 0, 52, 127, 55, 12, 25, 6, 4, 46, 54, 14]
abbrev dktJ26_divideMagnitude_17 : List UInt8 := dkwJ26_divideMagnitude_17 ++ dktJ26_divideMagnitude_18
def dkwJ26_divideMagnitude_16 : List UInt8 := [58, 10, 25, 7, 3, 181, 0, 11, 25, 7, 180, 0, 17, 3, 3, 79, 25, 7, 89, 180, 0, 21, 4, 96]
abbrev dktJ26_divideMagnitude_16 : List UInt8 := dkwJ26_divideMagnitude_16 ++ dktJ26_divideMagnitude_17
def dkwJ26_divideMagnitude_15 : List UInt8 := [44, 21, 9, 188, 10, 181, 0, 17, 44, 3, 181, 0, 11, 44, 21, 9, 181, 0, 21, 44, 180, 0, 17]
abbrev dktJ26_divideMagnitude_15 : List UInt8 := dkwJ26_divideMagnitude_15 ++ dktJ26_divideMagnitude_16
def dkwJ26_divideMagnitude_14 : List UInt8 := [180, 0, 21, 54, 8, 21, 8, 21, 5, 100, 4, 96, 54, 9, 44, 180, 0, 17, 190, 21, 9, 162, 0, 16]
abbrev dktJ26_divideMagnitude_14 : List UInt8 := dkwJ26_divideMagnitude_14 ++ dktJ26_divideMagnitude_15
def dkwJ26_divideMagnitude_13 : List UInt8 := [180, 0, 21, 184, 0, 95, 25, 7, 42, 180, 0, 21, 181, 0, 21, 25, 7, 4, 181, 0, 11, 25, 7]
abbrev dktJ26_divideMagnitude_13 : List UInt8 := dkwJ26_divideMagnitude_13 ++ dktJ26_divideMagnitude_14
def dkwJ26_divideMagnitude_12 : List UInt8 := [188, 10, 183, 1, 3, 58, 7, 42, 180, 0, 17, 42, 180, 0, 11, 25, 7, 180, 0, 17, 4, 42]
abbrev dktJ26_divideMagnitude_12 : List UInt8 := dkwJ26_divideMagnitude_12 ++ dktJ26_divideMagnitude_13
def dkwJ26_divideMagnitude_11 : List UInt8 := [180, 0, 11, 43, 180, 0, 21, 96, 184, 0, 33, 58, 6, 187, 0, 12, 89, 42, 180, 0, 21, 4, 96]
abbrev dktJ26_divideMagnitude_11 : List UInt8 := dkwJ26_divideMagnitude_11 ++ dktJ26_divideMagnitude_12
def dkwJ26_divideMagnitude_10 : List UInt8 := [180, 0, 21, 4, 96, 21, 10, 21, 4, 120, 79, 167, 0, 78, 43, 180, 0, 17, 43, 180, 0, 11, 43]
abbrev dktJ26_divideMagnitude_10 : List UInt8 := dkwJ26_divideMagnitude_10 ++ dktJ26_divideMagnitude_11
def dkwJ26_divideMagnitude_9 : List UInt8 := [21, 4, 120, 21, 10, 21, 11, 124, 128, 79, 132, 12, 1, 132, 9, 1, 167, 255, 210, 25, 8, 42]
abbrev dktJ26_divideMagnitude_9 : List UInt8 := dkwJ26_divideMagnitude_9 ++ dktJ26_divideMagnitude_10
def dkwJ26_divideMagnitude_8 : List UInt8 := [4, 96, 162, 0, 41, 21, 10, 54, 13, 42, 180, 0, 17, 21, 9, 46, 54, 10, 25, 8, 21, 12, 21, 13]
abbrev dktJ26_divideMagnitude_8 : List UInt8 := dkwJ26_divideMagnitude_8 ++ dktJ26_divideMagnitude_9
def dkwJ26_divideMagnitude_7 : List UInt8 := [180, 0, 11, 54, 9, 3, 54, 10, 16, 32, 21, 4, 100, 54, 11, 4, 54, 12, 21, 12, 42, 180, 0, 21]
abbrev dktJ26_divideMagnitude_7 : List UInt8 := dkwJ26_divideMagnitude_7 ++ dktJ26_divideMagnitude_8
def dkwJ26_divideMagnitude_6 : List UInt8 := [183, 1, 3, 58, 7, 25, 7, 42, 180, 0, 21, 4, 96, 181, 0, 21, 25, 7, 4, 181, 0, 11, 42]
abbrev dktJ26_divideMagnitude_6 : List UInt8 := dkwJ26_divideMagnitude_6 ++ dktJ26_divideMagnitude_7
def dkwJ26_divideMagnitude_5 : List UInt8 := [21, 4, 184, 1, 13, 167, 0, 201, 42, 180, 0, 21, 5, 96, 188, 10, 58, 8, 187, 0, 12, 89, 25, 8]
abbrev dktJ26_divideMagnitude_5 : List UInt8 := dkwJ26_divideMagnitude_5 ++ dktJ26_divideMagnitude_6
def dkwJ26_divideMagnitude_4 : List UInt8 := [181, 0, 21, 25, 7, 4, 181, 0, 11, 42, 180, 0, 17, 42, 180, 0, 11, 42, 180, 0, 21, 25, 8, 4]
abbrev dktJ26_divideMagnitude_4 : List UInt8 := dkwJ26_divideMagnitude_4 ++ dktJ26_divideMagnitude_5
def dkwJ26_divideMagnitude_3 : List UInt8 := [4, 96, 188, 10, 58, 8, 187, 0, 12, 89, 25, 8, 183, 1, 3, 58, 7, 25, 7, 42, 180, 0, 21]
abbrev dktJ26_divideMagnitude_3 : List UInt8 := dkwJ26_divideMagnitude_3 ++ dktJ26_divideMagnitude_4
def dkwJ26_divideMagnitude_2 : List UInt8 := [184, 1, 13, 42, 180, 0, 17, 42, 180, 0, 11, 46, 184, 0, 152, 21, 4, 161, 0, 62, 42, 180, 0, 21]
abbrev dktJ26_divideMagnitude_2 : List UInt8 := dkwJ26_divideMagnitude_2 ++ dktJ26_divideMagnitude_3
def dkwJ26_divideMagnitude_1 : List UInt8 := [158, 0, 226, 21, 5, 188, 10, 58, 6, 43, 180, 0, 17, 43, 180, 0, 11, 21, 5, 25, 6, 3, 21, 4]
abbrev dktJ26_divideMagnitude_1 : List UInt8 := dkwJ26_divideMagnitude_1 ++ dktJ26_divideMagnitude_2
def dkwJ26_divideMagnitude_0 : List UInt8 := [43, 180, 0, 17, 43, 180, 0, 11, 46, 184, 0, 152, 54, 4, 43, 180, 0, 21, 54, 5, 21, 4]
abbrev dktJ26_divideMagnitude_0 : List UInt8 := dkwJ26_divideMagnitude_0 ++ dktJ26_divideMagnitude_1
theorem dksJ26_divideMagnitude_0 : cJ26_divideMagnitude.data.toList.drop 0 = dktJ26_divideMagnitude_0 := by decide +kernel
theorem dksJ26_divideMagnitude_1 : cJ26_divideMagnitude.data.toList.drop 22 = dktJ26_divideMagnitude_1 := dk_seg dksJ26_divideMagnitude_0 22 rfl rfl
theorem dksJ26_divideMagnitude_2 : cJ26_divideMagnitude.data.toList.drop 46 = dktJ26_divideMagnitude_2 := dk_seg dksJ26_divideMagnitude_1 24 rfl rfl
theorem dksJ26_divideMagnitude_3 : cJ26_divideMagnitude.data.toList.drop 70 = dktJ26_divideMagnitude_3 := dk_seg dksJ26_divideMagnitude_2 24 rfl rfl
theorem dksJ26_divideMagnitude_4 : cJ26_divideMagnitude.data.toList.drop 93 = dktJ26_divideMagnitude_4 := dk_seg dksJ26_divideMagnitude_3 23 rfl rfl
theorem dksJ26_divideMagnitude_5 : cJ26_divideMagnitude.data.toList.drop 117 = dktJ26_divideMagnitude_5 := dk_seg dksJ26_divideMagnitude_4 24 rfl rfl
theorem dksJ26_divideMagnitude_6 : cJ26_divideMagnitude.data.toList.drop 141 = dktJ26_divideMagnitude_6 := dk_seg dksJ26_divideMagnitude_5 24 rfl rfl
theorem dksJ26_divideMagnitude_7 : cJ26_divideMagnitude.data.toList.drop 164 = dktJ26_divideMagnitude_7 := dk_seg dksJ26_divideMagnitude_6 23 rfl rfl
theorem dksJ26_divideMagnitude_8 : cJ26_divideMagnitude.data.toList.drop 188 = dktJ26_divideMagnitude_8 := dk_seg dksJ26_divideMagnitude_7 24 rfl rfl
theorem dksJ26_divideMagnitude_9 : cJ26_divideMagnitude.data.toList.drop 212 = dktJ26_divideMagnitude_9 := dk_seg dksJ26_divideMagnitude_8 24 rfl rfl
theorem dksJ26_divideMagnitude_10 : cJ26_divideMagnitude.data.toList.drop 234 = dktJ26_divideMagnitude_10 := dk_seg dksJ26_divideMagnitude_9 22 rfl rfl
theorem dksJ26_divideMagnitude_11 : cJ26_divideMagnitude.data.toList.drop 257 = dktJ26_divideMagnitude_11 := dk_seg dksJ26_divideMagnitude_10 23 rfl rfl
theorem dksJ26_divideMagnitude_12 : cJ26_divideMagnitude.data.toList.drop 280 = dktJ26_divideMagnitude_12 := dk_seg dksJ26_divideMagnitude_11 23 rfl rfl
theorem dksJ26_divideMagnitude_13 : cJ26_divideMagnitude.data.toList.drop 302 = dktJ26_divideMagnitude_13 := dk_seg dksJ26_divideMagnitude_12 22 rfl rfl
theorem dksJ26_divideMagnitude_14 : cJ26_divideMagnitude.data.toList.drop 325 = dktJ26_divideMagnitude_14 := dk_seg dksJ26_divideMagnitude_13 23 rfl rfl
theorem dksJ26_divideMagnitude_15 : cJ26_divideMagnitude.data.toList.drop 349 = dktJ26_divideMagnitude_15 := dk_seg dksJ26_divideMagnitude_14 24 rfl rfl
theorem dksJ26_divideMagnitude_16 : cJ26_divideMagnitude.data.toList.drop 372 = dktJ26_divideMagnitude_16 := dk_seg dksJ26_divideMagnitude_15 23 rfl rfl
theorem dksJ26_divideMagnitude_17 : cJ26_divideMagnitude.data.toList.drop 396 = dktJ26_divideMagnitude_17 := dk_seg dksJ26_divideMagnitude_16 24 rfl rfl
theorem dksJ26_divideMagnitude_18 : cJ26_divideMagnitude.data.toList.drop 420 = dktJ26_divideMagnitude_18 := dk_seg dksJ26_divideMagnitude_17 24 rfl rfl
theorem dksJ26_divideMagnitude_19 : cJ26_divideMagnitude.data.toList.drop 443 = dktJ26_divideMagnitude_19 := dk_seg dksJ26_divideMagnitude_18 23 rfl rfl
theorem dksJ26_divideMagnitude_20 : cJ26_divideMagnitude.data.toList.drop 466 = dktJ26_divideMagnitude_20 := dk_seg dksJ26_divideMagnitude_19 23 rfl rfl
theorem dksJ26_divideMagnitude_21 : cJ26_divideMagnitude.data.toList.drop 490 = dktJ26_divideMagnitude_21 := dk_seg dksJ26_divideMagnitude_20 24 rfl rfl
theorem dksJ26_divideMagnitude_22 : cJ26_divideMagnitude.data.toList.drop 514 = dktJ26_divideMagnitude_22 := dk_seg dksJ26_divideMagnitude_21 24 rfl rfl
theorem dksJ26_divideMagnitude_23 : cJ26_divideMagnitude.data.toList.drop 538 = dktJ26_divideMagnitude_23 := dk_seg dksJ26_divideMagnitude_22 24 rfl rfl
theorem dksJ26_divideMagnitude_24 : cJ26_divideMagnitude.data.toList.drop 562 = dktJ26_divideMagnitude_24 := dk_seg dksJ26_divideMagnitude_23 24 rfl rfl
theorem dksJ26_divideMagnitude_25 : cJ26_divideMagnitude.data.toList.drop 585 = dktJ26_divideMagnitude_25 := dk_seg dksJ26_divideMagnitude_24 23 rfl rfl
theorem dksJ26_divideMagnitude_26 : cJ26_divideMagnitude.data.toList.drop 609 = dktJ26_divideMagnitude_26 := dk_seg dksJ26_divideMagnitude_25 24 rfl rfl
theorem dksJ26_divideMagnitude_27 : cJ26_divideMagnitude.data.toList.drop 633 = dktJ26_divideMagnitude_27 := dk_seg dksJ26_divideMagnitude_26 24 rfl rfl
theorem dksJ26_divideMagnitude_28 : cJ26_divideMagnitude.data.toList.drop 657 = dktJ26_divideMagnitude_28 := dk_seg dksJ26_divideMagnitude_27 24 rfl rfl
theorem dksJ26_divideMagnitude_29 : cJ26_divideMagnitude.data.toList.drop 680 = dktJ26_divideMagnitude_29 := dk_seg dksJ26_divideMagnitude_28 23 rfl rfl
theorem dksJ26_divideMagnitude_30 : cJ26_divideMagnitude.data.toList.drop 704 = dktJ26_divideMagnitude_30 := dk_seg dksJ26_divideMagnitude_29 24 rfl rfl
theorem dksJ26_divideMagnitude_31 : cJ26_divideMagnitude.data.toList.drop 727 = dktJ26_divideMagnitude_31 := dk_seg dksJ26_divideMagnitude_30 23 rfl rfl
theorem dksJ26_divideMagnitude_32 : cJ26_divideMagnitude.data.toList.drop 749 = dktJ26_divideMagnitude_32 := dk_seg dksJ26_divideMagnitude_31 22 rfl rfl
theorem dksJ26_divideMagnitude_33 : cJ26_divideMagnitude.data.toList.drop 771 = dktJ26_divideMagnitude_33 := dk_seg dksJ26_divideMagnitude_32 22 rfl rfl
theorem dksJ26_divideMagnitude_34 : cJ26_divideMagnitude.data.toList.drop 795 = dktJ26_divideMagnitude_34 := dk_seg dksJ26_divideMagnitude_33 24 rfl rfl
theorem dksJ26_divideMagnitude_35 : cJ26_divideMagnitude.data.toList.drop 819 = dktJ26_divideMagnitude_35 := dk_seg dksJ26_divideMagnitude_34 24 rfl rfl
theorem dksJ26_divideMagnitude_36 : cJ26_divideMagnitude.data.toList.drop 842 = dktJ26_divideMagnitude_36 := dk_seg dksJ26_divideMagnitude_35 23 rfl rfl
theorem dksJ26_divideMagnitude_37 : cJ26_divideMagnitude.data.toList.drop 864 = dktJ26_divideMagnitude_37 := dk_seg dksJ26_divideMagnitude_36 22 rfl rfl
theorem dksJ26_divideMagnitude_38 : cJ26_divideMagnitude.data.toList.drop 888 = dktJ26_divideMagnitude_38 := dk_seg dksJ26_divideMagnitude_37 24 rfl rfl
theorem dksJ26_divideMagnitude_39 : cJ26_divideMagnitude.data.toList.drop 912 = dktJ26_divideMagnitude_39 := dk_seg dksJ26_divideMagnitude_38 24 rfl rfl
theorem dksJ26_divideMagnitude_40 : cJ26_divideMagnitude.data.toList.drop 935 = dktJ26_divideMagnitude_40 := dk_seg dksJ26_divideMagnitude_39 23 rfl rfl
theorem dksJ26_divideMagnitude_41 : cJ26_divideMagnitude.data.toList.drop 958 = dktJ26_divideMagnitude_41 := dk_seg dksJ26_divideMagnitude_40 23 rfl rfl
theorem dksJ26_divideMagnitude_42 : cJ26_divideMagnitude.data.toList.drop 981 = dktJ26_divideMagnitude_42 := dk_seg dksJ26_divideMagnitude_41 23 rfl rfl
theorem dksJ26_divideMagnitude_43 : cJ26_divideMagnitude.data.toList.drop 1005 = dktJ26_divideMagnitude_43 := dk_seg dksJ26_divideMagnitude_42 24 rfl rfl
theorem dksJ26_divideMagnitude_44 : cJ26_divideMagnitude.data.toList.drop 1029 = dktJ26_divideMagnitude_44 := dk_seg dksJ26_divideMagnitude_43 24 rfl rfl
theorem dksJ26_divideMagnitude_45 : cJ26_divideMagnitude.data.toList.drop 1053 = dktJ26_divideMagnitude_45 := dk_seg dksJ26_divideMagnitude_44 24 rfl rfl
theorem dksJ26_divideMagnitude_46 : cJ26_divideMagnitude.data.toList.drop 1077 = dktJ26_divideMagnitude_46 := dk_seg dksJ26_divideMagnitude_45 24 rfl rfl
theorem dksJ26_divideMagnitude_47 : cJ26_divideMagnitude.data.toList.drop 1101 = dktJ26_divideMagnitude_47 := dk_seg dksJ26_divideMagnitude_46 24 rfl rfl
theorem dksJ26_divideMagnitude_48 : cJ26_divideMagnitude.data.toList.drop 1124 = dktJ26_divideMagnitude_48 := dk_seg dksJ26_divideMagnitude_47 23 rfl rfl
theorem dksJ26_divideMagnitude_49 : cJ26_divideMagnitude.data.toList.drop 1148 = dktJ26_divideMagnitude_49 := dk_seg dksJ26_divideMagnitude_48 24 rfl rfl
theorem dksJ26_divideMagnitude_50 : cJ26_divideMagnitude.data.toList.drop 1172 = dktJ26_divideMagnitude_50 := dk_seg dksJ26_divideMagnitude_49 24 rfl rfl
theorem dksJ26_divideMagnitude_51 : cJ26_divideMagnitude.data.toList.drop 1196 = dktJ26_divideMagnitude_51 := dk_seg dksJ26_divideMagnitude_50 24 rfl rfl
theorem dksJ26_divideMagnitude_52 : cJ26_divideMagnitude.data.toList.drop 1218 = dktJ26_divideMagnitude_52 := dk_seg dksJ26_divideMagnitude_51 22 rfl rfl
theorem dksJ26_divideMagnitude_53 : cJ26_divideMagnitude.data.toList.drop 1241 = dktJ26_divideMagnitude_53 := dk_seg dksJ26_divideMagnitude_52 23 rfl rfl
theorem dksJ26_divideMagnitude_54 : cJ26_divideMagnitude.data.toList.drop 1265 = dktJ26_divideMagnitude_54 := dk_seg dksJ26_divideMagnitude_53 24 rfl rfl
theorem dksJ26_divideMagnitude_55 : cJ26_divideMagnitude.data.toList.drop 1287 = dktJ26_divideMagnitude_55 := dk_seg dksJ26_divideMagnitude_54 22 rfl rfl
theorem dJ26_divideMagnitude_0 : decode cJ26_divideMagnitude 0 = .ok (.aload_n 1, 1) := dk_43 (dk_at dksJ26_divideMagnitude_0 0 rfl rfl)
theorem dJ26_divideMagnitude_1 : decode cJ26_divideMagnitude 1 = .ok (.getfield 17, 3) := dk_180 0 17 (dk_at dksJ26_divideMagnitude_0 1 rfl rfl)
theorem dJ26_divideMagnitude_4 : decode cJ26_divideMagnitude 4 = .ok (.aload_n 1, 1) := dk_43 (dk_at dksJ26_divideMagnitude_0 4 rfl rfl)
theorem dJ26_divideMagnitude_5 : decode cJ26_divideMagnitude 5 = .ok (.getfield 11, 3) := dk_180 0 11 (dk_at dksJ26_divideMagnitude_0 5 rfl rfl)
theorem dJ26_divideMagnitude_8 : decode cJ26_divideMagnitude 8 = .ok (.iaload, 1) := dk_46 (dk_at dksJ26_divideMagnitude_0 8 rfl rfl)
theorem dJ26_divideMagnitude_9 : decode cJ26_divideMagnitude 9 = .ok (.invokestatic 152, 3) := dk_184 0 152 (dk_at dksJ26_divideMagnitude_0 9 rfl rfl)
theorem dJ26_divideMagnitude_12 : decode cJ26_divideMagnitude 12 = .ok (.istore 4, 2) := dk_54 4 (dk_at dksJ26_divideMagnitude_0 12 rfl rfl)
theorem dJ26_divideMagnitude_14 : decode cJ26_divideMagnitude 14 = .ok (.aload_n 1, 1) := dk_43 (dk_at dksJ26_divideMagnitude_0 14 rfl rfl)
theorem dJ26_divideMagnitude_15 : decode cJ26_divideMagnitude 15 = .ok (.getfield 21, 3) := dk_180 0 21 (dk_at dksJ26_divideMagnitude_0 15 rfl rfl)
theorem dJ26_divideMagnitude_18 : decode cJ26_divideMagnitude 18 = .ok (.istore 5, 2) := dk_54 5 (dk_at dksJ26_divideMagnitude_0 18 rfl rfl)
theorem dJ26_divideMagnitude_20 : decode cJ26_divideMagnitude 20 = .ok (.iload 4, 2) := dk_21 4 (dk_at dksJ26_divideMagnitude_0 20 rfl rfl)
theorem dJ26_divideMagnitude_22 : decode cJ26_divideMagnitude 22 = .ok (.ifCond .le 226, 3) := dk_158 0 226 (dk_at dksJ26_divideMagnitude_1 0 rfl rfl)
theorem dJ26_divideMagnitude_25 : decode cJ26_divideMagnitude 25 = .ok (.iload 5, 2) := dk_21 5 (dk_at dksJ26_divideMagnitude_1 3 rfl rfl)
theorem dJ26_divideMagnitude_27 : decode cJ26_divideMagnitude 27 = .ok (.newarray .int, 2) := dk_188_10 (dk_at dksJ26_divideMagnitude_1 5 rfl rfl)
theorem dJ26_divideMagnitude_29 : decode cJ26_divideMagnitude 29 = .ok (.astore 6, 2) := dk_58 6 (dk_at dksJ26_divideMagnitude_1 7 rfl rfl)
theorem dJ26_divideMagnitude_31 : decode cJ26_divideMagnitude 31 = .ok (.aload_n 1, 1) := dk_43 (dk_at dksJ26_divideMagnitude_1 9 rfl rfl)
theorem dJ26_divideMagnitude_32 : decode cJ26_divideMagnitude 32 = .ok (.getfield 17, 3) := dk_180 0 17 (dk_at dksJ26_divideMagnitude_1 10 rfl rfl)
theorem dJ26_divideMagnitude_35 : decode cJ26_divideMagnitude 35 = .ok (.aload_n 1, 1) := dk_43 (dk_at dksJ26_divideMagnitude_1 13 rfl rfl)
theorem dJ26_divideMagnitude_36 : decode cJ26_divideMagnitude 36 = .ok (.getfield 11, 3) := dk_180 0 11 (dk_at dksJ26_divideMagnitude_1 14 rfl rfl)
theorem dJ26_divideMagnitude_39 : decode cJ26_divideMagnitude 39 = .ok (.iload 5, 2) := dk_21 5 (dk_at dksJ26_divideMagnitude_1 17 rfl rfl)
theorem dJ26_divideMagnitude_41 : decode cJ26_divideMagnitude 41 = .ok (.aload 6, 2) := dk_25 6 (dk_at dksJ26_divideMagnitude_1 19 rfl rfl)
theorem dJ26_divideMagnitude_43 : decode cJ26_divideMagnitude 43 = .ok (.iconst 0, 1) := dk_3 (dk_at dksJ26_divideMagnitude_1 21 rfl rfl)
theorem dJ26_divideMagnitude_44 : decode cJ26_divideMagnitude 44 = .ok (.iload 4, 2) := dk_21 4 (dk_at dksJ26_divideMagnitude_1 22 rfl rfl)
theorem dJ26_divideMagnitude_46 : decode cJ26_divideMagnitude 46 = .ok (.invokestatic 269, 3) := dk_184 1 13 (dk_at dksJ26_divideMagnitude_2 0 rfl rfl)
theorem dJ26_divideMagnitude_49 : decode cJ26_divideMagnitude 49 = .ok (.aload_n 0, 1) := dk_42 (dk_at dksJ26_divideMagnitude_2 3 rfl rfl)
theorem dJ26_divideMagnitude_50 : decode cJ26_divideMagnitude 50 = .ok (.getfield 17, 3) := dk_180 0 17 (dk_at dksJ26_divideMagnitude_2 4 rfl rfl)
theorem dJ26_divideMagnitude_53 : decode cJ26_divideMagnitude 53 = .ok (.aload_n 0, 1) := dk_42 (dk_at dksJ26_divideMagnitude_2 7 rfl rfl)
theorem dJ26_divideMagnitude_54 : decode cJ26_divideMagnitude 54 = .ok (.getfield 11, 3) := dk_180 0 11 (dk_at dksJ26_divideMagnitude_2 8 rfl rfl)
theorem dJ26_divideMagnitude_57 : decode cJ26_divideMagnitude 57 = .ok (.iaload, 1) := dk_46 (dk_at dksJ26_divideMagnitude_2 11 rfl rfl)
theorem dJ26_divideMagnitude_58 : decode cJ26_divideMagnitude 58 = .ok (.invokestatic 152, 3) := dk_184 0 152 (dk_at dksJ26_divideMagnitude_2 12 rfl rfl)
theorem dJ26_divideMagnitude_61 : decode cJ26_divideMagnitude 61 = .ok (.iload 4, 2) := dk_21 4 (dk_at dksJ26_divideMagnitude_2 15 rfl rfl)
theorem dJ26_divideMagnitude_63 : decode cJ26_divideMagnitude 63 = .ok (.if_icmp .lt 62, 3) := dk_161 0 62 (dk_at dksJ26_divideMagnitude_2 17 rfl rfl)
theorem dJ26_divideMagnitude_66 : decode cJ26_divideMagnitude 66 = .ok (.aload_n 0, 1) := dk_42 (dk_at dksJ26_divideMagnitude_2 20 rfl rfl)
theorem dJ26_divideMagnitude_67 : decode cJ26_divideMagnitude 67 = .ok (.getfield 21, 3) := dk_180 0 21 (dk_at dksJ26_divideMagnitude_2 21 rfl rfl)
theorem dJ26_divideMagnitude_70 : decode cJ26_divideMagnitude 70 = .ok (.iconst 1, 1) := dk_4 (dk_at dksJ26_divideMagnitude_3 0 rfl rfl)
theorem dJ26_divideMagnitude_71 : decode cJ26_divideMagnitude 71 = .ok (.iadd, 1) := dk_96 (dk_at dksJ26_divideMagnitude_3 1 rfl rfl)
theorem dJ26_divideMagnitude_72 : decode cJ26_divideMagnitude 72 = .ok (.newarray .int, 2) := dk_188_10 (dk_at dksJ26_divideMagnitude_3 2 rfl rfl)
theorem dJ26_divideMagnitude_74 : decode cJ26_divideMagnitude 74 = .ok (.astore 8, 2) := dk_58 8 (dk_at dksJ26_divideMagnitude_3 4 rfl rfl)
theorem dJ26_divideMagnitude_76 : decode cJ26_divideMagnitude 76 = .ok (.new 12, 3) := dk_187 0 12 (dk_at dksJ26_divideMagnitude_3 6 rfl rfl)
theorem dJ26_divideMagnitude_79 : decode cJ26_divideMagnitude 79 = .ok (.dup, 1) := dk_89 (dk_at dksJ26_divideMagnitude_3 9 rfl rfl)
theorem dJ26_divideMagnitude_80 : decode cJ26_divideMagnitude 80 = .ok (.aload 8, 2) := dk_25 8 (dk_at dksJ26_divideMagnitude_3 10 rfl rfl)
theorem dJ26_divideMagnitude_82 : decode cJ26_divideMagnitude 82 = .ok (.invokespecial 259, 3) := dk_183 1 3 (dk_at dksJ26_divideMagnitude_3 12 rfl rfl)
theorem dJ26_divideMagnitude_85 : decode cJ26_divideMagnitude 85 = .ok (.astore 7, 2) := dk_58 7 (dk_at dksJ26_divideMagnitude_3 15 rfl rfl)
theorem dJ26_divideMagnitude_87 : decode cJ26_divideMagnitude 87 = .ok (.aload 7, 2) := dk_25 7 (dk_at dksJ26_divideMagnitude_3 17 rfl rfl)
theorem dJ26_divideMagnitude_89 : decode cJ26_divideMagnitude 89 = .ok (.aload_n 0, 1) := dk_42 (dk_at dksJ26_divideMagnitude_3 19 rfl rfl)
theorem dJ26_divideMagnitude_90 : decode cJ26_divideMagnitude 90 = .ok (.getfield 21, 3) := dk_180 0 21 (dk_at dksJ26_divideMagnitude_3 20 rfl rfl)
theorem dJ26_divideMagnitude_93 : decode cJ26_divideMagnitude 93 = .ok (.putfield 21, 3) := dk_181 0 21 (dk_at dksJ26_divideMagnitude_4 0 rfl rfl)
theorem dJ26_divideMagnitude_96 : decode cJ26_divideMagnitude 96 = .ok (.aload 7, 2) := dk_25 7 (dk_at dksJ26_divideMagnitude_4 3 rfl rfl)
theorem dJ26_divideMagnitude_98 : decode cJ26_divideMagnitude 98 = .ok (.iconst 1, 1) := dk_4 (dk_at dksJ26_divideMagnitude_4 5 rfl rfl)
theorem dJ26_divideMagnitude_99 : decode cJ26_divideMagnitude 99 = .ok (.putfield 11, 3) := dk_181 0 11 (dk_at dksJ26_divideMagnitude_4 6 rfl rfl)
theorem dJ26_divideMagnitude_102 : decode cJ26_divideMagnitude 102 = .ok (.aload_n 0, 1) := dk_42 (dk_at dksJ26_divideMagnitude_4 9 rfl rfl)
theorem dJ26_divideMagnitude_103 : decode cJ26_divideMagnitude 103 = .ok (.getfield 17, 3) := dk_180 0 17 (dk_at dksJ26_divideMagnitude_4 10 rfl rfl)
theorem dJ26_divideMagnitude_106 : decode cJ26_divideMagnitude 106 = .ok (.aload_n 0, 1) := dk_42 (dk_at dksJ26_divideMagnitude_4 13 rfl rfl)
theorem dJ26_divideMagnitude_107 : decode cJ26_divideMagnitude 107 = .ok (.getfield 11, 3) := dk_180 0 11 (dk_at dksJ26_divideMagnitude_4 14 rfl rfl)
theorem dJ26_divideMagnitude_110 : decode cJ26_divideMagnitude 110 = .ok (.aload_n 0, 1) := dk_42 (dk_at dksJ26_divideMagnitude_4 17 rfl rfl)
theorem dJ26_divideMagnitude_111 : decode cJ26_divideMagnitude 111 = .ok (.getfield 21, 3) := dk_180 0 21 (dk_at dksJ26_divideMagnitude_4 18 rfl rfl)
theorem dJ26_divideMagnitude_114 : decode cJ26_divideMagnitude 114 = .ok (.aload 8, 2) := dk_25 8 (dk_at dksJ26_divideMagnitude_4 21 rfl rfl)
theorem dJ26_divideMagnitude_116 : decode cJ26_divideMagnitude 116 = .ok (.iconst 1, 1) := dk_4 (dk_at dksJ26_divideMagnitude_4 23 rfl rfl)
theorem dJ26_divideMagnitude_117 : decode cJ26_divideMagnitude 117 = .ok (.iload 4, 2) := dk_21 4 (dk_at dksJ26_divideMagnitude_5 0 rfl rfl)
theorem dJ26_divideMagnitude_119 : decode cJ26_divideMagnitude 119 = .ok (.invokestatic 269, 3) := dk_184 1 13 (dk_at dksJ26_divideMagnitude_5 2 rfl rfl)
theorem dJ26_divideMagnitude_122 : decode cJ26_divideMagnitude 122 = .ok (.goto 201, 3) := dk_167 0 201 (dk_at dksJ26_divideMagnitude_5 5 rfl rfl)
theorem dJ26_divideMagnitude_125 : decode cJ26_divideMagnitude 125 = .ok (.aload_n 0, 1) := dk_42 (dk_at dksJ26_divideMagnitude_5 8 rfl rfl)
theorem dJ26_divideMagnitude_126 : decode cJ26_divideMagnitude 126 = .ok (.getfield 21, 3) := dk_180 0 21 (dk_at dksJ26_divideMagnitude_5 9 rfl rfl)
theorem dJ26_divideMagnitude_129 : decode cJ26_divideMagnitude 129 = .ok (.iconst 2, 1) := dk_5 (dk_at dksJ26_divideMagnitude_5 12 rfl rfl)
theorem dJ26_divideMagnitude_130 : decode cJ26_divideMagnitude 130 = .ok (.iadd, 1) := dk_96 (dk_at dksJ26_divideMagnitude_5 13 rfl rfl)
theorem dJ26_divideMagnitude_131 : decode cJ26_divideMagnitude 131 = .ok (.newarray .int, 2) := dk_188_10 (dk_at dksJ26_divideMagnitude_5 14 rfl rfl)
theorem dJ26_divideMagnitude_133 : decode cJ26_divideMagnitude 133 = .ok (.astore 8, 2) := dk_58 8 (dk_at dksJ26_divideMagnitude_5 16 rfl rfl)
theorem dJ26_divideMagnitude_135 : decode cJ26_divideMagnitude 135 = .ok (.new 12, 3) := dk_187 0 12 (dk_at dksJ26_divideMagnitude_5 18 rfl rfl)
theorem dJ26_divideMagnitude_138 : decode cJ26_divideMagnitude 138 = .ok (.dup, 1) := dk_89 (dk_at dksJ26_divideMagnitude_5 21 rfl rfl)
theorem dJ26_divideMagnitude_139 : decode cJ26_divideMagnitude 139 = .ok (.aload 8, 2) := dk_25 8 (dk_at dksJ26_divideMagnitude_5 22 rfl rfl)
theorem dJ26_divideMagnitude_141 : decode cJ26_divideMagnitude 141 = .ok (.invokespecial 259, 3) := dk_183 1 3 (dk_at dksJ26_divideMagnitude_6 0 rfl rfl)
theorem dJ26_divideMagnitude_144 : decode cJ26_divideMagnitude 144 = .ok (.astore 7, 2) := dk_58 7 (dk_at dksJ26_divideMagnitude_6 3 rfl rfl)
theorem dJ26_divideMagnitude_146 : decode cJ26_divideMagnitude 146 = .ok (.aload 7, 2) := dk_25 7 (dk_at dksJ26_divideMagnitude_6 5 rfl rfl)
theorem dJ26_divideMagnitude_148 : decode cJ26_divideMagnitude 148 = .ok (.aload_n 0, 1) := dk_42 (dk_at dksJ26_divideMagnitude_6 7 rfl rfl)
theorem dJ26_divideMagnitude_149 : decode cJ26_divideMagnitude 149 = .ok (.getfield 21, 3) := dk_180 0 21 (dk_at dksJ26_divideMagnitude_6 8 rfl rfl)
theorem dJ26_divideMagnitude_152 : decode cJ26_divideMagnitude 152 = .ok (.iconst 1, 1) := dk_4 (dk_at dksJ26_divideMagnitude_6 11 rfl rfl)
theorem dJ26_divideMagnitude_153 : decode cJ26_divideMagnitude 153 = .ok (.iadd, 1) := dk_96 (dk_at dksJ26_divideMagnitude_6 12 rfl rfl)
theorem dJ26_divideMagnitude_154 : decode cJ26_divideMagnitude 154 = .ok (.putfield 21, 3) := dk_181 0 21 (dk_at dksJ26_divideMagnitude_6 13 rfl rfl)
theorem dJ26_divideMagnitude_157 : decode cJ26_divideMagnitude 157 = .ok (.aload 7, 2) := dk_25 7 (dk_at dksJ26_divideMagnitude_6 16 rfl rfl)
theorem dJ26_divideMagnitude_159 : decode cJ26_divideMagnitude 159 = .ok (.iconst 1, 1) := dk_4 (dk_at dksJ26_divideMagnitude_6 18 rfl rfl)
theorem dJ26_divideMagnitude_160 : decode cJ26_divideMagnitude 160 = .ok (.putfield 11, 3) := dk_181 0 11 (dk_at dksJ26_divideMagnitude_6 19 rfl rfl)
theorem dJ26_divideMagnitude_163 : decode cJ26_divideMagnitude 163 = .ok (.aload_n 0, 1) := dk_42 (dk_at dksJ26_divideMagnitude_6 22 rfl rfl)
theorem dJ26_divideMagnitude_164 : decode cJ26_divideMagnitude 164 = .ok (.getfield 11, 3) := dk_180 0 11 (dk_at dksJ26_divideMagnitude_7 0 rfl rfl)
theorem dJ26_divideMagnitude_167 : decode cJ26_divideMagnitude 167 = .ok (.istore 9, 2) := dk_54 9 (dk_at dksJ26_divideMagnitude_7 3 rfl rfl)
theorem dJ26_divideMagnitude_169 : decode cJ26_divideMagnitude 169 = .ok (.iconst 0, 1) := dk_3 (dk_at dksJ26_divideMagnitude_7 5 rfl rfl)
theorem dJ26_divideMagnitude_170 : decode cJ26_divideMagnitude 170 = .ok (.istore 10, 2) := dk_54 10 (dk_at dksJ26_divideMagnitude_7 6 rfl rfl)
theorem dJ26_divideMagnitude_172 : decode cJ26_divideMagnitude 172 = .ok (.bipush 32, 2) := dk_16 32 (dk_at dksJ26_divideMagnitude_7 8 rfl rfl)
theorem dJ26_divideMagnitude_174 : decode cJ26_divideMagnitude 174 = .ok (.iload 4, 2) := dk_21 4 (dk_at dksJ26_divideMagnitude_7 10 rfl rfl)
theorem dJ26_divideMagnitude_176 : decode cJ26_divideMagnitude 176 = .ok (.isub, 1) := dk_100 (dk_at dksJ26_divideMagnitude_7 12 rfl rfl)
theorem dJ26_divideMagnitude_177 : decode cJ26_divideMagnitude 177 = .ok (.istore 11, 2) := dk_54 11 (dk_at dksJ26_divideMagnitude_7 13 rfl rfl)
theorem dJ26_divideMagnitude_179 : decode cJ26_divideMagnitude 179 = .ok (.iconst 1, 1) := dk_4 (dk_at dksJ26_divideMagnitude_7 15 rfl rfl)
theorem dJ26_divideMagnitude_180 : decode cJ26_divideMagnitude 180 = .ok (.istore 12, 2) := dk_54 12 (dk_at dksJ26_divideMagnitude_7 16 rfl rfl)
theorem dJ26_divideMagnitude_182 : decode cJ26_divideMagnitude 182 = .ok (.iload 12, 2) := dk_21 12 (dk_at dksJ26_divideMagnitude_7 18 rfl rfl)
theorem dJ26_divideMagnitude_184 : decode cJ26_divideMagnitude 184 = .ok (.aload_n 0, 1) := dk_42 (dk_at dksJ26_divideMagnitude_7 20 rfl rfl)
theorem dJ26_divideMagnitude_185 : decode cJ26_divideMagnitude 185 = .ok (.getfield 21, 3) := dk_180 0 21 (dk_at dksJ26_divideMagnitude_7 21 rfl rfl)
theorem dJ26_divideMagnitude_188 : decode cJ26_divideMagnitude 188 = .ok (.iconst 1, 1) := dk_4 (dk_at dksJ26_divideMagnitude_8 0 rfl rfl)
theorem dJ26_divideMagnitude_189 : decode cJ26_divideMagnitude 189 = .ok (.iadd, 1) := dk_96 (dk_at dksJ26_divideMagnitude_8 1 rfl rfl)
theorem dJ26_divideMagnitude_190 : decode cJ26_divideMagnitude 190 = .ok (.if_icmp .ge 41, 3) := dk_162 0 41 (dk_at dksJ26_divideMagnitude_8 2 rfl rfl)
theorem dJ26_divideMagnitude_193 : decode cJ26_divideMagnitude 193 = .ok (.iload 10, 2) := dk_21 10 (dk_at dksJ26_divideMagnitude_8 5 rfl rfl)
theorem dJ26_divideMagnitude_195 : decode cJ26_divideMagnitude 195 = .ok (.istore 13, 2) := dk_54 13 (dk_at dksJ26_divideMagnitude_8 7 rfl rfl)
theorem dJ26_divideMagnitude_197 : decode cJ26_divideMagnitude 197 = .ok (.aload_n 0, 1) := dk_42 (dk_at dksJ26_divideMagnitude_8 9 rfl rfl)
theorem dJ26_divideMagnitude_198 : decode cJ26_divideMagnitude 198 = .ok (.getfield 17, 3) := dk_180 0 17 (dk_at dksJ26_divideMagnitude_8 10 rfl rfl)
theorem dJ26_divideMagnitude_201 : decode cJ26_divideMagnitude 201 = .ok (.iload 9, 2) := dk_21 9 (dk_at dksJ26_divideMagnitude_8 13 rfl rfl)
theorem dJ26_divideMagnitude_203 : decode cJ26_divideMagnitude 203 = .ok (.iaload, 1) := dk_46 (dk_at dksJ26_divideMagnitude_8 15 rfl rfl)
theorem dJ26_divideMagnitude_204 : decode cJ26_divideMagnitude 204 = .ok (.istore 10, 2) := dk_54 10 (dk_at dksJ26_divideMagnitude_8 16 rfl rfl)
theorem dJ26_divideMagnitude_206 : decode cJ26_divideMagnitude 206 = .ok (.aload 8, 2) := dk_25 8 (dk_at dksJ26_divideMagnitude_8 18 rfl rfl)
theorem dJ26_divideMagnitude_208 : decode cJ26_divideMagnitude 208 = .ok (.iload 12, 2) := dk_21 12 (dk_at dksJ26_divideMagnitude_8 20 rfl rfl)
theorem dJ26_divideMagnitude_210 : decode cJ26_divideMagnitude 210 = .ok (.iload 13, 2) := dk_21 13 (dk_at dksJ26_divideMagnitude_8 22 rfl rfl)
theorem dJ26_divideMagnitude_212 : decode cJ26_divideMagnitude 212 = .ok (.iload 4, 2) := dk_21 4 (dk_at dksJ26_divideMagnitude_9 0 rfl rfl)
theorem dJ26_divideMagnitude_214 : decode cJ26_divideMagnitude 214 = .ok (.ishl, 1) := dk_120 (dk_at dksJ26_divideMagnitude_9 2 rfl rfl)
theorem dJ26_divideMagnitude_215 : decode cJ26_divideMagnitude 215 = .ok (.iload 10, 2) := dk_21 10 (dk_at dksJ26_divideMagnitude_9 3 rfl rfl)
theorem dJ26_divideMagnitude_217 : decode cJ26_divideMagnitude 217 = .ok (.iload 11, 2) := dk_21 11 (dk_at dksJ26_divideMagnitude_9 5 rfl rfl)
theorem dJ26_divideMagnitude_219 : decode cJ26_divideMagnitude 219 = .ok (.iushr, 1) := dk_124 (dk_at dksJ26_divideMagnitude_9 7 rfl rfl)
theorem dJ26_divideMagnitude_220 : decode cJ26_divideMagnitude 220 = .ok (.ior, 1) := dk_128 (dk_at dksJ26_divideMagnitude_9 8 rfl rfl)
theorem dJ26_divideMagnitude_221 : decode cJ26_divideMagnitude 221 = .ok (.iastore, 1) := dk_79 (dk_at dksJ26_divideMagnitude_9 9 rfl rfl)
theorem dJ26_divideMagnitude_222 : decode cJ26_divideMagnitude 222 = .ok (.iinc 12 1, 3) := dk_132 12 1 (dk_at dksJ26_divideMagnitude_9 10 rfl rfl)
theorem dJ26_divideMagnitude_225 : decode cJ26_divideMagnitude 225 = .ok (.iinc 9 1, 3) := dk_132 9 1 (dk_at dksJ26_divideMagnitude_9 13 rfl rfl)
theorem dJ26_divideMagnitude_228 : decode cJ26_divideMagnitude 228 = .ok (.goto (-46), 3) := dk_167 255 210 (dk_at dksJ26_divideMagnitude_9 16 rfl rfl)
theorem dJ26_divideMagnitude_231 : decode cJ26_divideMagnitude 231 = .ok (.aload 8, 2) := dk_25 8 (dk_at dksJ26_divideMagnitude_9 19 rfl rfl)
theorem dJ26_divideMagnitude_233 : decode cJ26_divideMagnitude 233 = .ok (.aload_n 0, 1) := dk_42 (dk_at dksJ26_divideMagnitude_9 21 rfl rfl)
theorem dJ26_divideMagnitude_234 : decode cJ26_divideMagnitude 234 = .ok (.getfield 21, 3) := dk_180 0 21 (dk_at dksJ26_divideMagnitude_10 0 rfl rfl)
theorem dJ26_divideMagnitude_237 : decode cJ26_divideMagnitude 237 = .ok (.iconst 1, 1) := dk_4 (dk_at dksJ26_divideMagnitude_10 3 rfl rfl)
theorem dJ26_divideMagnitude_238 : decode cJ26_divideMagnitude 238 = .ok (.iadd, 1) := dk_96 (dk_at dksJ26_divideMagnitude_10 4 rfl rfl)
theorem dJ26_divideMagnitude_239 : decode cJ26_divideMagnitude 239 = .ok (.iload 10, 2) := dk_21 10 (dk_at dksJ26_divideMagnitude_10 5 rfl rfl)
theorem dJ26_divideMagnitude_241 : decode cJ26_divideMagnitude 241 = .ok (.iload 4, 2) := dk_21 4 (dk_at dksJ26_divideMagnitude_10 7 rfl rfl)
theorem dJ26_divideMagnitude_243 : decode cJ26_divideMagnitude 243 = .ok (.ishl, 1) := dk_120 (dk_at dksJ26_divideMagnitude_10 9 rfl rfl)
theorem dJ26_divideMagnitude_244 : decode cJ26_divideMagnitude 244 = .ok (.iastore, 1) := dk_79 (dk_at dksJ26_divideMagnitude_10 10 rfl rfl)
theorem dJ26_divideMagnitude_245 : decode cJ26_divideMagnitude 245 = .ok (.goto 78, 3) := dk_167 0 78 (dk_at dksJ26_divideMagnitude_10 11 rfl rfl)
theorem dJ26_divideMagnitude_248 : decode cJ26_divideMagnitude 248 = .ok (.aload_n 1, 1) := dk_43 (dk_at dksJ26_divideMagnitude_10 14 rfl rfl)
theorem dJ26_divideMagnitude_249 : decode cJ26_divideMagnitude 249 = .ok (.getfield 17, 3) := dk_180 0 17 (dk_at dksJ26_divideMagnitude_10 15 rfl rfl)
theorem dJ26_divideMagnitude_252 : decode cJ26_divideMagnitude 252 = .ok (.aload_n 1, 1) := dk_43 (dk_at dksJ26_divideMagnitude_10 18 rfl rfl)
theorem dJ26_divideMagnitude_253 : decode cJ26_divideMagnitude 253 = .ok (.getfield 11, 3) := dk_180 0 11 (dk_at dksJ26_divideMagnitude_10 19 rfl rfl)
theorem dJ26_divideMagnitude_256 : decode cJ26_divideMagnitude 256 = .ok (.aload_n 1, 1) := dk_43 (dk_at dksJ26_divideMagnitude_10 22 rfl rfl)
theorem dJ26_divideMagnitude_257 : decode cJ26_divideMagnitude 257 = .ok (.getfield 11, 3) := dk_180 0 11 (dk_at dksJ26_divideMagnitude_11 0 rfl rfl)
theorem dJ26_divideMagnitude_260 : decode cJ26_divideMagnitude 260 = .ok (.aload_n 1, 1) := dk_43 (dk_at dksJ26_divideMagnitude_11 3 rfl rfl)
theorem dJ26_divideMagnitude_261 : decode cJ26_divideMagnitude 261 = .ok (.getfield 21, 3) := dk_180 0 21 (dk_at dksJ26_divideMagnitude_11 4 rfl rfl)
theorem dJ26_divideMagnitude_264 : decode cJ26_divideMagnitude 264 = .ok (.iadd, 1) := dk_96 (dk_at dksJ26_divideMagnitude_11 7 rfl rfl)
theorem dJ26_divideMagnitude_265 : decode cJ26_divideMagnitude 265 = .ok (.invokestatic 33, 3) := dk_184 0 33 (dk_at dksJ26_divideMagnitude_11 8 rfl rfl)
theorem dJ26_divideMagnitude_268 : decode cJ26_divideMagnitude 268 = .ok (.astore 6, 2) := dk_58 6 (dk_at dksJ26_divideMagnitude_11 11 rfl rfl)
theorem dJ26_divideMagnitude_270 : decode cJ26_divideMagnitude 270 = .ok (.new 12, 3) := dk_187 0 12 (dk_at dksJ26_divideMagnitude_11 13 rfl rfl)
theorem dJ26_divideMagnitude_273 : decode cJ26_divideMagnitude 273 = .ok (.dup, 1) := dk_89 (dk_at dksJ26_divideMagnitude_11 16 rfl rfl)
theorem dJ26_divideMagnitude_274 : decode cJ26_divideMagnitude 274 = .ok (.aload_n 0, 1) := dk_42 (dk_at dksJ26_divideMagnitude_11 17 rfl rfl)
theorem dJ26_divideMagnitude_275 : decode cJ26_divideMagnitude 275 = .ok (.getfield 21, 3) := dk_180 0 21 (dk_at dksJ26_divideMagnitude_11 18 rfl rfl)
theorem dJ26_divideMagnitude_278 : decode cJ26_divideMagnitude 278 = .ok (.iconst 1, 1) := dk_4 (dk_at dksJ26_divideMagnitude_11 21 rfl rfl)
theorem dJ26_divideMagnitude_279 : decode cJ26_divideMagnitude 279 = .ok (.iadd, 1) := dk_96 (dk_at dksJ26_divideMagnitude_11 22 rfl rfl)
theorem dJ26_divideMagnitude_280 : decode cJ26_divideMagnitude 280 = .ok (.newarray .int, 2) := dk_188_10 (dk_at dksJ26_divideMagnitude_12 0 rfl rfl)
theorem dJ26_divideMagnitude_282 : decode cJ26_divideMagnitude 282 = .ok (.invokespecial 259, 3) := dk_183 1 3 (dk_at dksJ26_divideMagnitude_12 2 rfl rfl)
theorem dJ26_divideMagnitude_285 : decode cJ26_divideMagnitude 285 = .ok (.astore 7, 2) := dk_58 7 (dk_at dksJ26_divideMagnitude_12 5 rfl rfl)
theorem dJ26_divideMagnitude_287 : decode cJ26_divideMagnitude 287 = .ok (.aload_n 0, 1) := dk_42 (dk_at dksJ26_divideMagnitude_12 7 rfl rfl)
theorem dJ26_divideMagnitude_288 : decode cJ26_divideMagnitude 288 = .ok (.getfield 17, 3) := dk_180 0 17 (dk_at dksJ26_divideMagnitude_12 8 rfl rfl)
theorem dJ26_divideMagnitude_291 : decode cJ26_divideMagnitude 291 = .ok (.aload_n 0, 1) := dk_42 (dk_at dksJ26_divideMagnitude_12 11 rfl rfl)
theorem dJ26_divideMagnitude_292 : decode cJ26_divideMagnitude 292 = .ok (.getfield 11, 3) := dk_180 0 11 (dk_at dksJ26_divideMagnitude_12 12 rfl rfl)
theorem dJ26_divideMagnitude_295 : decode cJ26_divideMagnitude 295 = .ok (.aload 7, 2) := dk_25 7 (dk_at dksJ26_divideMagnitude_12 15 rfl rfl)
theorem dJ26_divideMagnitude_297 : decode cJ26_divideMagnitude 297 = .ok (.getfield 17, 3) := dk_180 0 17 (dk_at dksJ26_divideMagnitude_12 17 rfl rfl)
theorem dJ26_divideMagnitude_300 : decode cJ26_divideMagnitude 300 = .ok (.iconst 1, 1) := dk_4 (dk_at dksJ26_divideMagnitude_12 20 rfl rfl)
theorem dJ26_divideMagnitude_301 : decode cJ26_divideMagnitude 301 = .ok (.aload_n 0, 1) := dk_42 (dk_at dksJ26_divideMagnitude_12 21 rfl rfl)
theorem dJ26_divideMagnitude_302 : decode cJ26_divideMagnitude 302 = .ok (.getfield 21, 3) := dk_180 0 21 (dk_at dksJ26_divideMagnitude_13 0 rfl rfl)
theorem dJ26_divideMagnitude_305 : decode cJ26_divideMagnitude 305 = .ok (.invokestatic 95, 3) := dk_184 0 95 (dk_at dksJ26_divideMagnitude_13 3 rfl rfl)
theorem dJ26_divideMagnitude_308 : decode cJ26_divideMagnitude 308 = .ok (.aload 7, 2) := dk_25 7 (dk_at dksJ26_divideMagnitude_13 6 rfl rfl)
theorem dJ26_divideMagnitude_310 : decode cJ26_divideMagnitude 310 = .ok (.aload_n 0, 1) := dk_42 (dk_at dksJ26_divideMagnitude_13 8 rfl rfl)
theorem dJ26_divideMagnitude_311 : decode cJ26_divideMagnitude 311 = .ok (.getfield 21, 3) := dk_180 0 21 (dk_at dksJ26_divideMagnitude_13 9 rfl rfl)
theorem dJ26_divideMagnitude_314 : decode cJ26_divideMagnitude 314 = .ok (.putfield 21, 3) := dk_181 0 21 (dk_at dksJ26_divideMagnitude_13 12 rfl rfl)
theorem dJ26_divideMagnitude_317 : decode cJ26_divideMagnitude 317 = .ok (.aload 7, 2) := dk_25 7 (dk_at dksJ26_divideMagnitude_13 15 rfl rfl)
theorem dJ26_divideMagnitude_319 : decode cJ26_divideMagnitude 319 = .ok (.iconst 1, 1) := dk_4 (dk_at dksJ26_divideMagnitude_13 17 rfl rfl)
theorem dJ26_divideMagnitude_320 : decode cJ26_divideMagnitude 320 = .ok (.putfield 11, 3) := dk_181 0 11 (dk_at dksJ26_divideMagnitude_13 18 rfl rfl)
theorem dJ26_divideMagnitude_323 : decode cJ26_divideMagnitude 323 = .ok (.aload 7, 2) := dk_25 7 (dk_at dksJ26_divideMagnitude_13 21 rfl rfl)
theorem dJ26_divideMagnitude_325 : decode cJ26_divideMagnitude 325 = .ok (.getfield 21, 3) := dk_180 0 21 (dk_at dksJ26_divideMagnitude_14 0 rfl rfl)
theorem dJ26_divideMagnitude_328 : decode cJ26_divideMagnitude 328 = .ok (.istore 8, 2) := dk_54 8 (dk_at dksJ26_divideMagnitude_14 3 rfl rfl)
theorem dJ26_divideMagnitude_330 : decode cJ26_divideMagnitude 330 = .ok (.iload 8, 2) := dk_21 8 (dk_at dksJ26_divideMagnitude_14 5 rfl rfl)
theorem dJ26_divideMagnitude_332 : decode cJ26_divideMagnitude 332 = .ok (.iload 5, 2) := dk_21 5 (dk_at dksJ26_divideMagnitude_14 7 rfl rfl)
theorem dJ26_divideMagnitude_334 : decode cJ26_divideMagnitude 334 = .ok (.isub, 1) := dk_100 (dk_at dksJ26_divideMagnitude_14 9 rfl rfl)
theorem dJ26_divideMagnitude_335 : decode cJ26_divideMagnitude 335 = .ok (.iconst 1, 1) := dk_4 (dk_at dksJ26_divideMagnitude_14 10 rfl rfl)
theorem dJ26_divideMagnitude_336 : decode cJ26_divideMagnitude 336 = .ok (.iadd, 1) := dk_96 (dk_at dksJ26_divideMagnitude_14 11 rfl rfl)
theorem dJ26_divideMagnitude_337 : decode cJ26_divideMagnitude 337 = .ok (.istore 9, 2) := dk_54 9 (dk_at dksJ26_divideMagnitude_14 12 rfl rfl)
theorem dJ26_divideMagnitude_339 : decode cJ26_divideMagnitude 339 = .ok (.aload_n 2, 1) := dk_44 (dk_at dksJ26_divideMagnitude_14 14 rfl rfl)
theorem dJ26_divideMagnitude_340 : decode cJ26_divideMagnitude 340 = .ok (.getfield 17, 3) := dk_180 0 17 (dk_at dksJ26_divideMagnitude_14 15 rfl rfl)
theorem dJ26_divideMagnitude_343 : decode cJ26_divideMagnitude 343 = .ok (.arraylength, 1) := dk_190 (dk_at dksJ26_divideMagnitude_14 18 rfl rfl)
theorem dJ26_divideMagnitude_344 : decode cJ26_divideMagnitude 344 = .ok (.iload 9, 2) := dk_21 9 (dk_at dksJ26_divideMagnitude_14 19 rfl rfl)
theorem dJ26_divideMagnitude_346 : decode cJ26_divideMagnitude 346 = .ok (.if_icmp .ge 16, 3) := dk_162 0 16 (dk_at dksJ26_divideMagnitude_14 21 rfl rfl)
theorem dJ26_divideMagnitude_349 : decode cJ26_divideMagnitude 349 = .ok (.aload_n 2, 1) := dk_44 (dk_at dksJ26_divideMagnitude_15 0 rfl rfl)
theorem dJ26_divideMagnitude_350 : decode cJ26_divideMagnitude 350 = .ok (.iload 9, 2) := dk_21 9 (dk_at dksJ26_divideMagnitude_15 1 rfl rfl)
theorem dJ26_divideMagnitude_352 : decode cJ26_divideMagnitude 352 = .ok (.newarray .int, 2) := dk_188_10 (dk_at dksJ26_divideMagnitude_15 3 rfl rfl)
theorem dJ26_divideMagnitude_354 : decode cJ26_divideMagnitude 354 = .ok (.putfield 17, 3) := dk_181 0 17 (dk_at dksJ26_divideMagnitude_15 5 rfl rfl)
theorem dJ26_divideMagnitude_357 : decode cJ26_divideMagnitude 357 = .ok (.aload_n 2, 1) := dk_44 (dk_at dksJ26_divideMagnitude_15 8 rfl rfl)
theorem dJ26_divideMagnitude_358 : decode cJ26_divideMagnitude 358 = .ok (.iconst 0, 1) := dk_3 (dk_at dksJ26_divideMagnitude_15 9 rfl rfl)
theorem dJ26_divideMagnitude_359 : decode cJ26_divideMagnitude 359 = .ok (.putfield 11, 3) := dk_181 0 11 (dk_at dksJ26_divideMagnitude_15 10 rfl rfl)
theorem dJ26_divideMagnitude_362 : decode cJ26_divideMagnitude 362 = .ok (.aload_n 2, 1) := dk_44 (dk_at dksJ26_divideMagnitude_15 13 rfl rfl)
theorem dJ26_divideMagnitude_363 : decode cJ26_divideMagnitude 363 = .ok (.iload 9, 2) := dk_21 9 (dk_at dksJ26_divideMagnitude_15 14 rfl rfl)
theorem dJ26_divideMagnitude_365 : decode cJ26_divideMagnitude 365 = .ok (.putfield 21, 3) := dk_181 0 21 (dk_at dksJ26_divideMagnitude_15 16 rfl rfl)
theorem dJ26_divideMagnitude_368 : decode cJ26_divideMagnitude 368 = .ok (.aload_n 2, 1) := dk_44 (dk_at dksJ26_divideMagnitude_15 19 rfl rfl)
theorem dJ26_divideMagnitude_369 : decode cJ26_divideMagnitude 369 = .ok (.getfield 17, 3) := dk_180 0 17 (dk_at dksJ26_divideMagnitude_15 20 rfl rfl)
theorem dJ26_divideMagnitude_372 : decode cJ26_divideMagnitude 372 = .ok (.astore 10, 2) := dk_58 10 (dk_at dksJ26_divideMagnitude_16 0 rfl rfl)
theorem dJ26_divideMagnitude_374 : decode cJ26_divideMagnitude 374 = .ok (.aload 7, 2) := dk_25 7 (dk_at dksJ26_divideMagnitude_16 2 rfl rfl)
theorem dJ26_divideMagnitude_376 : decode cJ26_divideMagnitude 376 = .ok (.iconst 0, 1) := dk_3 (dk_at dksJ26_divideMagnitude_16 4 rfl rfl)
theorem dJ26_divideMagnitude_377 : decode cJ26_divideMagnitude 377 = .ok (.putfield 11, 3) := dk_181 0 11 (dk_at dksJ26_divideMagnitude_16 5 rfl rfl)
theorem dJ26_divideMagnitude_380 : decode cJ26_divideMagnitude 380 = .ok (.aload 7, 2) := dk_25 7 (dk_at dksJ26_divideMagnitude_16 8 rfl rfl)
theorem dJ26_divideMagnitude_382 : decode cJ26_divideMagnitude 382 = .ok (.getfield 17, 3) := dk_180 0 17 (dk_at dksJ26_divideMagnitude_16 10 rfl rfl)
theorem dJ26_divideMagnitude_385 : decode cJ26_divideMagnitude 385 = .ok (.iconst 0, 1) := dk_3 (dk_at dksJ26_divideMagnitude_16 13 rfl rfl)
theorem dJ26_divideMagnitude_386 : decode cJ26_divideMagnitude 386 = .ok (.iconst 0, 1) := dk_3 (dk_at dksJ26_divideMagnitude_16 14 rfl rfl)
theorem dJ26_divideMagnitude_387 : decode cJ26_divideMagnitude 387 = .ok (.iastore, 1) := dk_79 (dk_at dksJ26_divideMagnitude_16 15 rfl rfl)
theorem dJ26_divideMagnitude_388 : decode cJ26_divideMagnitude 388 = .ok (.aload 7, 2) := dk_25 7 (dk_at dksJ26_divideMagnitude_16 16 rfl rfl)
theorem dJ26_divideMagnitude_390 : decode cJ26_divideMagnitude 390 = .ok (.dup, 1) := dk_89 (dk_at dksJ26_divideMagnitude_16 18 rfl rfl)
theorem dJ26_divideMagnitude_391 : decode cJ26_divideMagnitude 391 = .ok (.getfield 21, 3) := dk_180 0 21 (dk_at dksJ26_divideMagnitude_16 19 rfl rfl)
theorem dJ26_divideMagnitude_394 : decode cJ26_divideMagnitude 394 = .ok (.iconst 1, 1) := dk_4 (dk_at dksJ26_divideMagnitude_16 22 rfl rfl)
theorem dJ26_divideMagnitude_395 : decode cJ26_divideMagnitude 395 = .ok (.iadd, 1) := dk_96 (dk_at dksJ26_divideMagnitude_16 23 rfl rfl)
theorem dJ26_divideMagnitude_396 : decode cJ26_divideMagnitude 396 = .ok (.putfield 21, 3) := dk_181 0 21 (dk_at dksJ26_divideMagnitude_17 0 rfl rfl)
theorem dJ26_divideMagnitude_399 : decode cJ26_divideMagnitude 399 = .ok (.aload 6, 2) := dk_25 6 (dk_at dksJ26_divideMagnitude_17 3 rfl rfl)
theorem dJ26_divideMagnitude_401 : decode cJ26_divideMagnitude 401 = .ok (.iconst 0, 1) := dk_3 (dk_at dksJ26_divideMagnitude_17 5 rfl rfl)
theorem dJ26_divideMagnitude_402 : decode cJ26_divideMagnitude 402 = .ok (.iaload, 1) := dk_46 (dk_at dksJ26_divideMagnitude_17 6 rfl rfl)
theorem dJ26_divideMagnitude_403 : decode cJ26_divideMagnitude 403 = .ok (.istore 11, 2) := dk_54 11 (dk_at dksJ26_divideMagnitude_17 7 rfl rfl)
theorem dJ26_divideMagnitude_405 : decode cJ26_divideMagnitude 405 = .ok (.iload 11, 2) := dk_21 11 (dk_at dksJ26_divideMagnitude_17 9 rfl rfl)
theorem dJ26_divideMagnitude_407 : decode cJ26_divideMagnitude 407 = .ok (.i2l, 1) := dk_133 (dk_at dksJ26_divideMagnitude_17 11 rfl rfl)
theorem dJ26_divideMagnitude_408 : decode cJ26_divideMagnitude 408 = .ok (.ldc2_w 52, 3) := dk_20 0 52 (dk_at dksJ26_divideMagnitude_17 12 rfl rfl)
theorem dJ26_divideMagnitude_411 : decode cJ26_divideMagnitude 411 = .ok (.land, 1) := dk_127 (dk_at dksJ26_divideMagnitude_17 15 rfl rfl)
theorem dJ26_divideMagnitude_412 : decode cJ26_divideMagnitude 412 = .ok (.lstore 12, 2) := dk_55 12 (dk_at dksJ26_divideMagnitude_17 16 rfl rfl)
theorem dJ26_divideMagnitude_414 : decode cJ26_divideMagnitude 414 = .ok (.aload 6, 2) := dk_25 6 (dk_at dksJ26_divideMagnitude_17 18 rfl rfl)
theorem dJ26_divideMagnitude_416 : decode cJ26_divideMagnitude 416 = .ok (.iconst 1, 1) := dk_4 (dk_at dksJ26_divideMagnitude_17 20 rfl rfl)
theorem dJ26_divideMagnitude_417 : decode cJ26_divideMagnitude 417 = .ok (.iaload, 1) := dk_46 (dk_at dksJ26_divideMagnitude_17 21 rfl rfl)
theorem dJ26_divideMagnitude_418 : decode cJ26_divideMagnitude 418 = .ok (.istore 14, 2) := dk_54 14 (dk_at dksJ26_divideMagnitude_17 22 rfl rfl)
theorem dJ26_divideMagnitude_420 : decode cJ26_divideMagnitude 420 = .ok (.iconst 0, 1) := dk_3 (dk_at dksJ26_divideMagnitude_18 0 rfl rfl)
theorem dJ26_divideMagnitude_421 : decode cJ26_divideMagnitude 421 = .ok (.istore 15, 2) := dk_54 15 (dk_at dksJ26_divideMagnitude_18 1 rfl rfl)
theorem dJ26_divideMagnitude_423 : decode cJ26_divideMagnitude 423 = .ok (.iload 15, 2) := dk_21 15 (dk_at dksJ26_divideMagnitude_18 3 rfl rfl)
theorem dJ26_divideMagnitude_425 : decode cJ26_divideMagnitude 425 = .ok (.iload 9, 2) := dk_21 9 (dk_at dksJ26_divideMagnitude_18 5 rfl rfl)
theorem dJ26_divideMagnitude_427 : decode cJ26_divideMagnitude 427 = .ok (.iconst 1, 1) := dk_4 (dk_at dksJ26_divideMagnitude_18 7 rfl rfl)
theorem dJ26_divideMagnitude_428 : decode cJ26_divideMagnitude 428 = .ok (.isub, 1) := dk_100 (dk_at dksJ26_divideMagnitude_18 8 rfl rfl)
theorem dJ26_divideMagnitude_429 : decode cJ26_divideMagnitude 429 = .ok (.if_icmp .ge 399, 3) := dk_162 1 143 (dk_at dksJ26_divideMagnitude_18 9 rfl rfl)
theorem dJ26_divideMagnitude_432 : decode cJ26_divideMagnitude 432 = .ok (.iconst 0, 1) := dk_3 (dk_at dksJ26_divideMagnitude_18 12 rfl rfl)
theorem dJ26_divideMagnitude_433 : decode cJ26_divideMagnitude 433 = .ok (.istore 16, 2) := dk_54 16 (dk_at dksJ26_divideMagnitude_18 13 rfl rfl)
theorem dJ26_divideMagnitude_435 : decode cJ26_divideMagnitude 435 = .ok (.iconst 0, 1) := dk_3 (dk_at dksJ26_divideMagnitude_18 15 rfl rfl)
theorem dJ26_divideMagnitude_436 : decode cJ26_divideMagnitude 436 = .ok (.istore 17, 2) := dk_54 17 (dk_at dksJ26_divideMagnitude_18 16 rfl rfl)
theorem dJ26_divideMagnitude_438 : decode cJ26_divideMagnitude 438 = .ok (.iconst 0, 1) := dk_3 (dk_at dksJ26_divideMagnitude_18 18 rfl rfl)
theorem dJ26_divideMagnitude_439 : decode cJ26_divideMagnitude 439 = .ok (.istore 18, 2) := dk_54 18 (dk_at dksJ26_divideMagnitude_18 19 rfl rfl)
theorem dJ26_divideMagnitude_441 : decode cJ26_divideMagnitude 441 = .ok (.aload 7, 2) := dk_25 7 (dk_at dksJ26_divideMagnitude_18 21 rfl rfl)
theorem dJ26_divideMagnitude_443 : decode cJ26_divideMagnitude 443 = .ok (.getfield 17, 3) := dk_180 0 17 (dk_at dksJ26_divideMagnitude_19 0 rfl rfl)
theorem dJ26_divideMagnitude_446 : decode cJ26_divideMagnitude 446 = .ok (.iload 15, 2) := dk_21 15 (dk_at dksJ26_divideMagnitude_19 3 rfl rfl)
theorem dJ26_divideMagnitude_448 : decode cJ26_divideMagnitude 448 = .ok (.aload 7, 2) := dk_25 7 (dk_at dksJ26_divideMagnitude_19 5 rfl rfl)
theorem dJ26_divideMagnitude_450 : decode cJ26_divideMagnitude 450 = .ok (.getfield 11, 3) := dk_180 0 11 (dk_at dksJ26_divideMagnitude_19 7 rfl rfl)
theorem dJ26_divideMagnitude_453 : decode cJ26_divideMagnitude 453 = .ok (.iadd, 1) := dk_96 (dk_at dksJ26_divideMagnitude_19 10 rfl rfl)
theorem dJ26_divideMagnitude_454 : decode cJ26_divideMagnitude 454 = .ok (.iaload, 1) := dk_46 (dk_at dksJ26_divideMagnitude_19 11 rfl rfl)
theorem dJ26_divideMagnitude_455 : decode cJ26_divideMagnitude 455 = .ok (.istore 19, 2) := dk_54 19 (dk_at dksJ26_divideMagnitude_19 12 rfl rfl)
theorem dJ26_divideMagnitude_457 : decode cJ26_divideMagnitude 457 = .ok (.iload 19, 2) := dk_21 19 (dk_at dksJ26_divideMagnitude_19 14 rfl rfl)
theorem dJ26_divideMagnitude_459 : decode cJ26_divideMagnitude 459 = .ok (.ldc 88, 2) := dk_18 88 (dk_at dksJ26_divideMagnitude_19 16 rfl rfl)
theorem dJ26_divideMagnitude_461 : decode cJ26_divideMagnitude 461 = .ok (.iadd, 1) := dk_96 (dk_at dksJ26_divideMagnitude_19 18 rfl rfl)
theorem dJ26_divideMagnitude_462 : decode cJ26_divideMagnitude 462 = .ok (.istore 20, 2) := dk_54 20 (dk_at dksJ26_divideMagnitude_19 19 rfl rfl)
theorem dJ26_divideMagnitude_464 : decode cJ26_divideMagnitude 464 = .ok (.aload 7, 2) := dk_25 7 (dk_at dksJ26_divideMagnitude_19 21 rfl rfl)
theorem dJ26_divideMagnitude_466 : decode cJ26_divideMagnitude 466 = .ok (.getfield 17, 3) := dk_180 0 17 (dk_at dksJ26_divideMagnitude_20 0 rfl rfl)
theorem dJ26_divideMagnitude_469 : decode cJ26_divideMagnitude 469 = .ok (.iload 15, 2) := dk_21 15 (dk_at dksJ26_divideMagnitude_20 3 rfl rfl)
theorem dJ26_divideMagnitude_471 : decode cJ26_divideMagnitude 471 = .ok (.iconst 1, 1) := dk_4 (dk_at dksJ26_divideMagnitude_20 5 rfl rfl)
theorem dJ26_divideMagnitude_472 : decode cJ26_divideMagnitude 472 = .ok (.iadd, 1) := dk_96 (dk_at dksJ26_divideMagnitude_20 6 rfl rfl)
theorem dJ26_divideMagnitude_473 : decode cJ26_divideMagnitude 473 = .ok (.aload 7, 2) := dk_25 7 (dk_at dksJ26_divideMagnitude_20 7 rfl rfl)
theorem dJ26_divideMagnitude_475 : decode cJ26_divideMagnitude 475 = .ok (.getfield 11, 3) := dk_180 0 11 (dk_at dksJ26_divideMagnitude_20 9 rfl rfl)
theorem dJ26_divideMagnitude_478 : decode cJ26_divideMagnitude 478 = .ok (.iadd, 1) := dk_96 (dk_at dksJ26_divideMagnitude_20 12 rfl rfl)
theorem dJ26_divideMagnitude_479 : decode cJ26_divideMagnitude 479 = .ok (.iaload, 1) := dk_46 (dk_at dksJ26_divideMagnitude_20 13 rfl rfl)
theorem dJ26_divideMagnitude_480 : decode cJ26_divideMagnitude 480 = .ok (.istore 21, 2) := dk_54 21 (dk_at dksJ26_divideMagnitude_20 14 rfl rfl)
theorem dJ26_divideMagnitude_482 : decode cJ26_divideMagnitude 482 = .ok (.iload 19, 2) := dk_21 19 (dk_at dksJ26_divideMagnitude_20 16 rfl rfl)
theorem dJ26_divideMagnitude_484 : decode cJ26_divideMagnitude 484 = .ok (.iload 11, 2) := dk_21 11 (dk_at dksJ26_divideMagnitude_20 18 rfl rfl)
theorem dJ26_divideMagnitude_486 : decode cJ26_divideMagnitude 486 = .ok (.if_icmp .ne 33, 3) := dk_160 0 33 (dk_at dksJ26_divideMagnitude_20 20 rfl rfl)
theorem dJ26_divideMagnitude_489 : decode cJ26_divideMagnitude 489 = .ok (.iconst (-1), 1) := dk_2 (dk_at dksJ26_divideMagnitude_20 23 rfl rfl)
theorem dJ26_divideMagnitude_490 : decode cJ26_divideMagnitude 490 = .ok (.istore 16, 2) := dk_54 16 (dk_at dksJ26_divideMagnitude_21 0 rfl rfl)
theorem dJ26_divideMagnitude_492 : decode cJ26_divideMagnitude 492 = .ok (.iload 19, 2) := dk_21 19 (dk_at dksJ26_divideMagnitude_21 2 rfl rfl)
theorem dJ26_divideMagnitude_494 : decode cJ26_divideMagnitude 494 = .ok (.iload 21, 2) := dk_21 21 (dk_at dksJ26_divideMagnitude_21 4 rfl rfl)
theorem dJ26_divideMagnitude_496 : decode cJ26_divideMagnitude 496 = .ok (.iadd, 1) := dk_96 (dk_at dksJ26_divideMagnitude_21 6 rfl rfl)
theorem dJ26_divideMagnitude_497 : decode cJ26_divideMagnitude 497 = .ok (.istore 17, 2) := dk_54 17 (dk_at dksJ26_divideMagnitude_21 7 rfl rfl)
theorem dJ26_divideMagnitude_499 : decode cJ26_divideMagnitude 499 = .ok (.iload 17, 2) := dk_21 17 (dk_at dksJ26_divideMagnitude_21 9 rfl rfl)
theorem dJ26_divideMagnitude_501 : decode cJ26_divideMagnitude 501 = .ok (.ldc 88, 2) := dk_18 88 (dk_at dksJ26_divideMagnitude_21 11 rfl rfl)
theorem dJ26_divideMagnitude_503 : decode cJ26_divideMagnitude 503 = .ok (.iadd, 1) := dk_96 (dk_at dksJ26_divideMagnitude_21 13 rfl rfl)
theorem dJ26_divideMagnitude_504 : decode cJ26_divideMagnitude 504 = .ok (.iload 20, 2) := dk_21 20 (dk_at dksJ26_divideMagnitude_21 14 rfl rfl)
theorem dJ26_divideMagnitude_506 : decode cJ26_divideMagnitude 506 = .ok (.if_icmp .ge 7, 3) := dk_162 0 7 (dk_at dksJ26_divideMagnitude_21 16 rfl rfl)
theorem dJ26_divideMagnitude_509 : decode cJ26_divideMagnitude 509 = .ok (.iconst 1, 1) := dk_4 (dk_at dksJ26_divideMagnitude_21 19 rfl rfl)
theorem dJ26_divideMagnitude_510 : decode cJ26_divideMagnitude 510 = .ok (.goto 4, 3) := dk_167 0 4 (dk_at dksJ26_divideMagnitude_21 20 rfl rfl)
theorem dJ26_divideMagnitude_513 : decode cJ26_divideMagnitude 513 = .ok (.iconst 0, 1) := dk_3 (dk_at dksJ26_divideMagnitude_21 23 rfl rfl)
theorem dJ26_divideMagnitude_514 : decode cJ26_divideMagnitude 514 = .ok (.istore 18, 2) := dk_54 18 (dk_at dksJ26_divideMagnitude_22 0 rfl rfl)
theorem dJ26_divideMagnitude_516 : decode cJ26_divideMagnitude 516 = .ok (.goto 75, 3) := dk_167 0 75 (dk_at dksJ26_divideMagnitude_22 2 rfl rfl)
theorem dJ26_divideMagnitude_519 : decode cJ26_divideMagnitude 519 = .ok (.iload 19, 2) := dk_21 19 (dk_at dksJ26_divideMagnitude_22 5 rfl rfl)
theorem dJ26_divideMagnitude_521 : decode cJ26_divideMagnitude 521 = .ok (.i2l, 1) := dk_133 (dk_at dksJ26_divideMagnitude_22 7 rfl rfl)
theorem dJ26_divideMagnitude_522 : decode cJ26_divideMagnitude 522 = .ok (.bipush 32, 2) := dk_16 32 (dk_at dksJ26_divideMagnitude_22 8 rfl rfl)
theorem dJ26_divideMagnitude_524 : decode cJ26_divideMagnitude 524 = .ok (.lshl, 1) := dk_121 (dk_at dksJ26_divideMagnitude_22 10 rfl rfl)
theorem dJ26_divideMagnitude_525 : decode cJ26_divideMagnitude 525 = .ok (.iload 21, 2) := dk_21 21 (dk_at dksJ26_divideMagnitude_22 11 rfl rfl)
theorem dJ26_divideMagnitude_527 : decode cJ26_divideMagnitude 527 = .ok (.i2l, 1) := dk_133 (dk_at dksJ26_divideMagnitude_22 13 rfl rfl)
theorem dJ26_divideMagnitude_528 : decode cJ26_divideMagnitude 528 = .ok (.ldc2_w 52, 3) := dk_20 0 52 (dk_at dksJ26_divideMagnitude_22 14 rfl rfl)
theorem dJ26_divideMagnitude_531 : decode cJ26_divideMagnitude 531 = .ok (.land, 1) := dk_127 (dk_at dksJ26_divideMagnitude_22 17 rfl rfl)
theorem dJ26_divideMagnitude_532 : decode cJ26_divideMagnitude 532 = .ok (.lor, 1) := dk_129 (dk_at dksJ26_divideMagnitude_22 18 rfl rfl)
theorem dJ26_divideMagnitude_533 : decode cJ26_divideMagnitude 533 = .ok (.lstore 22, 2) := dk_55 22 (dk_at dksJ26_divideMagnitude_22 19 rfl rfl)
theorem dJ26_divideMagnitude_535 : decode cJ26_divideMagnitude 535 = .ok (.lload 22, 2) := dk_22 22 (dk_at dksJ26_divideMagnitude_22 21 rfl rfl)
theorem dJ26_divideMagnitude_537 : decode cJ26_divideMagnitude 537 = .ok (.lconst 0, 1) := dk_9 (dk_at dksJ26_divideMagnitude_22 23 rfl rfl)
theorem dJ26_divideMagnitude_538 : decode cJ26_divideMagnitude 538 = .ok (.lcmp, 1) := dk_148 (dk_at dksJ26_divideMagnitude_23 0 rfl rfl)
theorem dJ26_divideMagnitude_539 : decode cJ26_divideMagnitude 539 = .ok (.ifCond .lt 26, 3) := dk_155 0 26 (dk_at dksJ26_divideMagnitude_23 1 rfl rfl)
theorem dJ26_divideMagnitude_542 : decode cJ26_divideMagnitude 542 = .ok (.lload 22, 2) := dk_22 22 (dk_at dksJ26_divideMagnitude_23 4 rfl rfl)
theorem dJ26_divideMagnitude_544 : decode cJ26_divideMagnitude 544 = .ok (.lload 12, 2) := dk_22 12 (dk_at dksJ26_divideMagnitude_23 6 rfl rfl)
theorem dJ26_divideMagnitude_546 : decode cJ26_divideMagnitude 546 = .ok (.ldiv, 1) := dk_109 (dk_at dksJ26_divideMagnitude_23 8 rfl rfl)
theorem dJ26_divideMagnitude_547 : decode cJ26_divideMagnitude 547 = .ok (.l2i, 1) := dk_136 (dk_at dksJ26_divideMagnitude_23 9 rfl rfl)
theorem dJ26_divideMagnitude_548 : decode cJ26_divideMagnitude 548 = .ok (.istore 16, 2) := dk_54 16 (dk_at dksJ26_divideMagnitude_23 10 rfl rfl)
theorem dJ26_divideMagnitude_550 : decode cJ26_divideMagnitude 550 = .ok (.lload 22, 2) := dk_22 22 (dk_at dksJ26_divideMagnitude_23 12 rfl rfl)
theorem dJ26_divideMagnitude_552 : decode cJ26_divideMagnitude 552 = .ok (.iload 16, 2) := dk_21 16 (dk_at dksJ26_divideMagnitude_23 14 rfl rfl)
theorem dJ26_divideMagnitude_554 : decode cJ26_divideMagnitude 554 = .ok (.i2l, 1) := dk_133 (dk_at dksJ26_divideMagnitude_23 16 rfl rfl)
theorem dJ26_divideMagnitude_555 : decode cJ26_divideMagnitude 555 = .ok (.lload 12, 2) := dk_22 12 (dk_at dksJ26_divideMagnitude_23 17 rfl rfl)
theorem dJ26_divideMagnitude_557 : decode cJ26_divideMagnitude 557 = .ok (.lmul, 1) := dk_105 (dk_at dksJ26_divideMagnitude_23 19 rfl rfl)
theorem dJ26_divideMagnitude_558 : decode cJ26_divideMagnitude 558 = .ok (.lsub, 1) := dk_101 (dk_at dksJ26_divideMagnitude_23 20 rfl rfl)
theorem dJ26_divideMagnitude_559 : decode cJ26_divideMagnitude 559 = .ok (.l2i, 1) := dk_136 (dk_at dksJ26_divideMagnitude_23 21 rfl rfl)
theorem dJ26_divideMagnitude_560 : decode cJ26_divideMagnitude 560 = .ok (.istore 17, 2) := dk_54 17 (dk_at dksJ26_divideMagnitude_23 22 rfl rfl)
theorem dJ26_divideMagnitude_562 : decode cJ26_divideMagnitude 562 = .ok (.goto 29, 3) := dk_167 0 29 (dk_at dksJ26_divideMagnitude_24 0 rfl rfl)
theorem dJ26_divideMagnitude_565 : decode cJ26_divideMagnitude 565 = .ok (.lload 22, 2) := dk_22 22 (dk_at dksJ26_divideMagnitude_24 3 rfl rfl)
theorem dJ26_divideMagnitude_567 : decode cJ26_divideMagnitude 567 = .ok (.iload 11, 2) := dk_21 11 (dk_at dksJ26_divideMagnitude_24 5 rfl rfl)
theorem dJ26_divideMagnitude_569 : decode cJ26_divideMagnitude 569 = .ok (.invokestatic 155, 3) := dk_184 0 155 (dk_at dksJ26_divideMagnitude_24 7 rfl rfl)
theorem dJ26_divideMagnitude_572 : decode cJ26_divideMagnitude 572 = .ok (.lstore 24, 2) := dk_55 24 (dk_at dksJ26_divideMagnitude_24 10 rfl rfl)
theorem dJ26_divideMagnitude_574 : decode cJ26_divideMagnitude 574 = .ok (.lload 24, 2) := dk_22 24 (dk_at dksJ26_divideMagnitude_24 12 rfl rfl)
theorem dJ26_divideMagnitude_576 : decode cJ26_divideMagnitude 576 = .ok (.ldc2_w 52, 3) := dk_20 0 52 (dk_at dksJ26_divideMagnitude_24 14 rfl rfl)
theorem dJ26_divideMagnitude_579 : decode cJ26_divideMagnitude 579 = .ok (.land, 1) := dk_127 (dk_at dksJ26_divideMagnitude_24 17 rfl rfl)
theorem dJ26_divideMagnitude_580 : decode cJ26_divideMagnitude 580 = .ok (.l2i, 1) := dk_136 (dk_at dksJ26_divideMagnitude_24 18 rfl rfl)
theorem dJ26_divideMagnitude_581 : decode cJ26_divideMagnitude 581 = .ok (.istore 16, 2) := dk_54 16 (dk_at dksJ26_divideMagnitude_24 19 rfl rfl)
theorem dJ26_divideMagnitude_583 : decode cJ26_divideMagnitude 583 = .ok (.lload 24, 2) := dk_22 24 (dk_at dksJ26_divideMagnitude_24 21 rfl rfl)
theorem dJ26_divideMagnitude_585 : decode cJ26_divideMagnitude 585 = .ok (.bipush 32, 2) := dk_16 32 (dk_at dksJ26_divideMagnitude_25 0 rfl rfl)
theorem dJ26_divideMagnitude_587 : decode cJ26_divideMagnitude 587 = .ok (.lushr, 1) := dk_125 (dk_at dksJ26_divideMagnitude_25 2 rfl rfl)
theorem dJ26_divideMagnitude_588 : decode cJ26_divideMagnitude 588 = .ok (.l2i, 1) := dk_136 (dk_at dksJ26_divideMagnitude_25 3 rfl rfl)
theorem dJ26_divideMagnitude_589 : decode cJ26_divideMagnitude 589 = .ok (.istore 17, 2) := dk_54 17 (dk_at dksJ26_divideMagnitude_25 4 rfl rfl)
theorem dJ26_divideMagnitude_591 : decode cJ26_divideMagnitude 591 = .ok (.iload 16, 2) := dk_21 16 (dk_at dksJ26_divideMagnitude_25 6 rfl rfl)
theorem dJ26_divideMagnitude_593 : decode cJ26_divideMagnitude 593 = .ok (.ifCond .ne 6, 3) := dk_154 0 6 (dk_at dksJ26_divideMagnitude_25 8 rfl rfl)
theorem dJ26_divideMagnitude_596 : decode cJ26_divideMagnitude 596 = .ok (.goto 226, 3) := dk_167 0 226 (dk_at dksJ26_divideMagnitude_25 11 rfl rfl)
theorem dJ26_divideMagnitude_599 : decode cJ26_divideMagnitude 599 = .ok (.iload 18, 2) := dk_21 18 (dk_at dksJ26_divideMagnitude_25 14 rfl rfl)
theorem dJ26_divideMagnitude_601 : decode cJ26_divideMagnitude 601 = .ok (.ifCond .ne 139, 3) := dk_154 0 139 (dk_at dksJ26_divideMagnitude_25 16 rfl rfl)
theorem dJ26_divideMagnitude_604 : decode cJ26_divideMagnitude 604 = .ok (.aload 7, 2) := dk_25 7 (dk_at dksJ26_divideMagnitude_25 19 rfl rfl)
theorem dJ26_divideMagnitude_606 : decode cJ26_divideMagnitude 606 = .ok (.getfield 17, 3) := dk_180 0 17 (dk_at dksJ26_divideMagnitude_25 21 rfl rfl)
theorem dJ26_divideMagnitude_609 : decode cJ26_divideMagnitude 609 = .ok (.iload 15, 2) := dk_21 15 (dk_at dksJ26_divideMagnitude_26 0 rfl rfl)
theorem dJ26_divideMagnitude_611 : decode cJ26_divideMagnitude 611 = .ok (.iconst 2, 1) := dk_5 (dk_at dksJ26_divideMagnitude_26 2 rfl rfl)
theorem dJ26_divideMagnitude_612 : decode cJ26_divideMagnitude 612 = .ok (.iadd, 1) := dk_96 (dk_at dksJ26_divideMagnitude_26 3 rfl rfl)
theorem dJ26_divideMagnitude_613 : decode cJ26_divideMagnitude 613 = .ok (.aload 7, 2) := dk_25 7 (dk_at dksJ26_divideMagnitude_26 4 rfl rfl)
theorem dJ26_divideMagnitude_615 : decode cJ26_divideMagnitude 615 = .ok (.getfield 11, 3) := dk_180 0 11 (dk_at dksJ26_divideMagnitude_26 6 rfl rfl)
theorem dJ26_divideMagnitude_618 : decode cJ26_divideMagnitude 618 = .ok (.iadd, 1) := dk_96 (dk_at dksJ26_divideMagnitude_26 9 rfl rfl)
theorem dJ26_divideMagnitude_619 : decode cJ26_divideMagnitude 619 = .ok (.iaload, 1) := dk_46 (dk_at dksJ26_divideMagnitude_26 10 rfl rfl)
theorem dJ26_divideMagnitude_620 : decode cJ26_divideMagnitude 620 = .ok (.i2l, 1) := dk_133 (dk_at dksJ26_divideMagnitude_26 11 rfl rfl)
theorem dJ26_divideMagnitude_621 : decode cJ26_divideMagnitude 621 = .ok (.ldc2_w 52, 3) := dk_20 0 52 (dk_at dksJ26_divideMagnitude_26 12 rfl rfl)
theorem dJ26_divideMagnitude_624 : decode cJ26_divideMagnitude 624 = .ok (.land, 1) := dk_127 (dk_at dksJ26_divideMagnitude_26 15 rfl rfl)
theorem dJ26_divideMagnitude_625 : decode cJ26_divideMagnitude 625 = .ok (.lstore 22, 2) := dk_55 22 (dk_at dksJ26_divideMagnitude_26 16 rfl rfl)
theorem dJ26_divideMagnitude_627 : decode cJ26_divideMagnitude 627 = .ok (.iload 17, 2) := dk_21 17 (dk_at dksJ26_divideMagnitude_26 18 rfl rfl)
theorem dJ26_divideMagnitude_629 : decode cJ26_divideMagnitude 629 = .ok (.i2l, 1) := dk_133 (dk_at dksJ26_divideMagnitude_26 20 rfl rfl)
theorem dJ26_divideMagnitude_630 : decode cJ26_divideMagnitude 630 = .ok (.ldc2_w 52, 3) := dk_20 0 52 (dk_at dksJ26_divideMagnitude_26 21 rfl rfl)
theorem dJ26_divideMagnitude_633 : decode cJ26_divideMagnitude 633 = .ok (.land, 1) := dk_127 (dk_at dksJ26_divideMagnitude_27 0 rfl rfl)
theorem dJ26_divideMagnitude_634 : decode cJ26_divideMagnitude 634 = .ok (.bipush 32, 2) := dk_16 32 (dk_at dksJ26_divideMagnitude_27 1 rfl rfl)
theorem dJ26_divideMagnitude_636 : decode cJ26_divideMagnitude 636 = .ok (.lshl, 1) := dk_121 (dk_at dksJ26_divideMagnitude_27 3 rfl rfl)
theorem dJ26_divideMagnitude_637 : decode cJ26_divideMagnitude 637 = .ok (.lload 22, 2) := dk_22 22 (dk_at dksJ26_divideMagnitude_27 4 rfl rfl)
theorem dJ26_divideMagnitude_639 : decode cJ26_divideMagnitude 639 = .ok (.lor, 1) := dk_129 (dk_at dksJ26_divideMagnitude_27 6 rfl rfl)
theorem dJ26_divideMagnitude_640 : decode cJ26_divideMagnitude 640 = .ok (.lstore 24, 2) := dk_55 24 (dk_at dksJ26_divideMagnitude_27 7 rfl rfl)
theorem dJ26_divideMagnitude_642 : decode cJ26_divideMagnitude 642 = .ok (.iload 14, 2) := dk_21 14 (dk_at dksJ26_divideMagnitude_27 9 rfl rfl)
theorem dJ26_divideMagnitude_644 : decode cJ26_divideMagnitude 644 = .ok (.i2l, 1) := dk_133 (dk_at dksJ26_divideMagnitude_27 11 rfl rfl)
theorem dJ26_divideMagnitude_645 : decode cJ26_divideMagnitude 645 = .ok (.ldc2_w 52, 3) := dk_20 0 52 (dk_at dksJ26_divideMagnitude_27 12 rfl rfl)
theorem dJ26_divideMagnitude_648 : decode cJ26_divideMagnitude 648 = .ok (.land, 1) := dk_127 (dk_at dksJ26_divideMagnitude_27 15 rfl rfl)
theorem dJ26_divideMagnitude_649 : decode cJ26_divideMagnitude 649 = .ok (.iload 16, 2) := dk_21 16 (dk_at dksJ26_divideMagnitude_27 16 rfl rfl)
theorem dJ26_divideMagnitude_651 : decode cJ26_divideMagnitude 651 = .ok (.i2l, 1) := dk_133 (dk_at dksJ26_divideMagnitude_27 18 rfl rfl)
theorem dJ26_divideMagnitude_652 : decode cJ26_divideMagnitude 652 = .ok (.ldc2_w 52, 3) := dk_20 0 52 (dk_at dksJ26_divideMagnitude_27 19 rfl rfl)
theorem dJ26_divideMagnitude_655 : decode cJ26_divideMagnitude 655 = .ok (.land, 1) := dk_127 (dk_at dksJ26_divideMagnitude_27 22 rfl rfl)
theorem dJ26_divideMagnitude_656 : decode cJ26_divideMagnitude 656 = .ok (.lmul, 1) := dk_105 (dk_at dksJ26_divideMagnitude_27 23 rfl rfl)
theorem dJ26_divideMagnitude_657 : decode cJ26_divideMagnitude 657 = .ok (.lstore 26, 2) := dk_55 26 (dk_at dksJ26_divideMagnitude_28 0 rfl rfl)
theorem dJ26_divideMagnitude_659 : decode cJ26_divideMagnitude 659 = .ok (.aload_n 0, 1) := dk_42 (dk_at dksJ26_divideMagnitude_28 2 rfl rfl)
theorem dJ26_divideMagnitude_660 : decode cJ26_divideMagnitude 660 = .ok (.lload 26, 2) := dk_22 26 (dk_at dksJ26_divideMagnitude_28 3 rfl rfl)
theorem dJ26_divideMagnitude_662 : decode cJ26_divideMagnitude 662 = .ok (.lload 24, 2) := dk_22 24 (dk_at dksJ26_divideMagnitude_28 5 rfl rfl)
theorem dJ26_divideMagnitude_664 : decode cJ26_divideMagnitude 664 = .ok (.invokevirtual 273, 3) := dk_182 1 17 (dk_at dksJ26_divideMagnitude_28 7 rfl rfl)
theorem dJ26_divideMagnitude_667 : decode cJ26_divideMagnitude 667 = .ok (.ifCond .eq 73, 3) := dk_153 0 73 (dk_at dksJ26_divideMagnitude_28 10 rfl rfl)
theorem dJ26_divideMagnitude_670 : decode cJ26_divideMagnitude 670 = .ok (.iinc 16 (-1), 3) := dk_132 16 255 (dk_at dksJ26_divideMagnitude_28 13 rfl rfl)
theorem dJ26_divideMagnitude_673 : decode cJ26_divideMagnitude 673 = .ok (.iload 17, 2) := dk_21 17 (dk_at dksJ26_divideMagnitude_28 16 rfl rfl)
theorem dJ26_divideMagnitude_675 : decode cJ26_divideMagnitude 675 = .ok (.i2l, 1) := dk_133 (dk_at dksJ26_divideMagnitude_28 18 rfl rfl)
theorem dJ26_divideMagnitude_676 : decode cJ26_divideMagnitude 676 = .ok (.ldc2_w 52, 3) := dk_20 0 52 (dk_at dksJ26_divideMagnitude_28 19 rfl rfl)
theorem dJ26_divideMagnitude_679 : decode cJ26_divideMagnitude 679 = .ok (.land, 1) := dk_127 (dk_at dksJ26_divideMagnitude_28 22 rfl rfl)
theorem dJ26_divideMagnitude_680 : decode cJ26_divideMagnitude 680 = .ok (.lload 12, 2) := dk_22 12 (dk_at dksJ26_divideMagnitude_29 0 rfl rfl)
theorem dJ26_divideMagnitude_682 : decode cJ26_divideMagnitude 682 = .ok (.ladd, 1) := dk_97 (dk_at dksJ26_divideMagnitude_29 2 rfl rfl)
theorem dJ26_divideMagnitude_683 : decode cJ26_divideMagnitude 683 = .ok (.l2i, 1) := dk_136 (dk_at dksJ26_divideMagnitude_29 3 rfl rfl)
theorem dJ26_divideMagnitude_684 : decode cJ26_divideMagnitude 684 = .ok (.istore 17, 2) := dk_54 17 (dk_at dksJ26_divideMagnitude_29 4 rfl rfl)
theorem dJ26_divideMagnitude_686 : decode cJ26_divideMagnitude 686 = .ok (.iload 17, 2) := dk_21 17 (dk_at dksJ26_divideMagnitude_29 6 rfl rfl)
theorem dJ26_divideMagnitude_688 : decode cJ26_divideMagnitude 688 = .ok (.i2l, 1) := dk_133 (dk_at dksJ26_divideMagnitude_29 8 rfl rfl)
theorem dJ26_divideMagnitude_689 : decode cJ26_divideMagnitude 689 = .ok (.ldc2_w 52, 3) := dk_20 0 52 (dk_at dksJ26_divideMagnitude_29 9 rfl rfl)
theorem dJ26_divideMagnitude_692 : decode cJ26_divideMagnitude 692 = .ok (.land, 1) := dk_127 (dk_at dksJ26_divideMagnitude_29 12 rfl rfl)
theorem dJ26_divideMagnitude_693 : decode cJ26_divideMagnitude 693 = .ok (.lload 12, 2) := dk_22 12 (dk_at dksJ26_divideMagnitude_29 13 rfl rfl)
theorem dJ26_divideMagnitude_695 : decode cJ26_divideMagnitude 695 = .ok (.lcmp, 1) := dk_148 (dk_at dksJ26_divideMagnitude_29 15 rfl rfl)
theorem dJ26_divideMagnitude_696 : decode cJ26_divideMagnitude 696 = .ok (.ifCond .lt 44, 3) := dk_155 0 44 (dk_at dksJ26_divideMagnitude_29 16 rfl rfl)
theorem dJ26_divideMagnitude_699 : decode cJ26_divideMagnitude 699 = .ok (.lload 26, 2) := dk_22 26 (dk_at dksJ26_divideMagnitude_29 19 rfl rfl)
theorem dJ26_divideMagnitude_701 : decode cJ26_divideMagnitude 701 = .ok (.iload 14, 2) := dk_21 14 (dk_at dksJ26_divideMagnitude_29 21 rfl rfl)
theorem dJ26_divideMagnitude_703 : decode cJ26_divideMagnitude 703 = .ok (.i2l, 1) := dk_133 (dk_at dksJ26_divideMagnitude_29 23 rfl rfl)
theorem dJ26_divideMagnitude_704 : decode cJ26_divideMagnitude 704 = .ok (.ldc2_w 52, 3) := dk_20 0 52 (dk_at dksJ26_divideMagnitude_30 0 rfl rfl)
theorem dJ26_divideMagnitude_707 : decode cJ26_divideMagnitude 707 = .ok (.land, 1) := dk_127 (dk_at dksJ26_divideMagnitude_30 3 rfl rfl)
theorem dJ26_divideMagnitude_708 : decode cJ26_divideMagnitude 708 = .ok (.lsub, 1) := dk_101 (dk_at dksJ26_divideMagnitude_30 4 rfl rfl)
theorem dJ26_divideMagnitude_709 : decode cJ26_divideMagnitude 709 = .ok (.lstore 26, 2) := dk_55 26 (dk_at dksJ26_divideMagnitude_30 5 rfl rfl)
theorem dJ26_divideMagnitude_711 : decode cJ26_divideMagnitude 711 = .ok (.iload 17, 2) := dk_21 17 (dk_at dksJ26_divideMagnitude_30 7 rfl rfl)
theorem dJ26_divideMagnitude_713 : decode cJ26_divideMagnitude 713 = .ok (.i2l, 1) := dk_133 (dk_at dksJ26_divideMagnitude_30 9 rfl rfl)
theorem dJ26_divideMagnitude_714 : decode cJ26_divideMagnitude 714 = .ok (.ldc2_w 52, 3) := dk_20 0 52 (dk_at dksJ26_divideMagnitude_30 10 rfl rfl)
theorem dJ26_divideMagnitude_717 : decode cJ26_divideMagnitude 717 = .ok (.land, 1) := dk_127 (dk_at dksJ26_divideMagnitude_30 13 rfl rfl)
theorem dJ26_divideMagnitude_718 : decode cJ26_divideMagnitude 718 = .ok (.bipush 32, 2) := dk_16 32 (dk_at dksJ26_divideMagnitude_30 14 rfl rfl)
theorem dJ26_divideMagnitude_720 : decode cJ26_divideMagnitude 720 = .ok (.lshl, 1) := dk_121 (dk_at dksJ26_divideMagnitude_30 16 rfl rfl)
theorem dJ26_divideMagnitude_721 : decode cJ26_divideMagnitude 721 = .ok (.lload 22, 2) := dk_22 22 (dk_at dksJ26_divideMagnitude_30 17 rfl rfl)
theorem dJ26_divideMagnitude_723 : decode cJ26_divideMagnitude 723 = .ok (.lor, 1) := dk_129 (dk_at dksJ26_divideMagnitude_30 19 rfl rfl)
theorem dJ26_divideMagnitude_724 : decode cJ26_divideMagnitude 724 = .ok (.lstore 24, 2) := dk_55 24 (dk_at dksJ26_divideMagnitude_30 20 rfl rfl)
theorem dJ26_divideMagnitude_726 : decode cJ26_divideMagnitude 726 = .ok (.aload_n 0, 1) := dk_42 (dk_at dksJ26_divideMagnitude_30 22 rfl rfl)
theorem dJ26_divideMagnitude_727 : decode cJ26_divideMagnitude 727 = .ok (.lload 26, 2) := dk_22 26 (dk_at dksJ26_divideMagnitude_31 0 rfl rfl)
theorem dJ26_divideMagnitude_729 : decode cJ26_divideMagnitude 729 = .ok (.lload 24, 2) := dk_22 24 (dk_at dksJ26_divideMagnitude_31 2 rfl rfl)
theorem dJ26_divideMagnitude_731 : decode cJ26_divideMagnitude 731 = .ok (.invokevirtual 273, 3) := dk_182 1 17 (dk_at dksJ26_divideMagnitude_31 4 rfl rfl)
theorem dJ26_divideMagnitude_734 : decode cJ26_divideMagnitude 734 = .ok (.ifCond .eq 6, 3) := dk_153 0 6 (dk_at dksJ26_divideMagnitude_31 7 rfl rfl)
theorem dJ26_divideMagnitude_737 : decode cJ26_divideMagnitude 737 = .ok (.iinc 16 (-1), 3) := dk_132 16 255 (dk_at dksJ26_divideMagnitude_31 10 rfl rfl)
theorem dJ26_divideMagnitude_740 : decode cJ26_divideMagnitude 740 = .ok (.aload 7, 2) := dk_25 7 (dk_at dksJ26_divideMagnitude_31 13 rfl rfl)
theorem dJ26_divideMagnitude_742 : decode cJ26_divideMagnitude 742 = .ok (.getfield 17, 3) := dk_180 0 17 (dk_at dksJ26_divideMagnitude_31 15 rfl rfl)
theorem dJ26_divideMagnitude_745 : decode cJ26_divideMagnitude 745 = .ok (.iload 15, 2) := dk_21 15 (dk_at dksJ26_divideMagnitude_31 18 rfl rfl)
theorem dJ26_divideMagnitude_747 : decode cJ26_divideMagnitude 747 = .ok (.aload 7, 2) := dk_25 7 (dk_at dksJ26_divideMagnitude_31 20 rfl rfl)
theorem dJ26_divideMagnitude_749 : decode cJ26_divideMagnitude 749 = .ok (.getfield 11, 3) := dk_180 0 11 (dk_at dksJ26_divideMagnitude_32 0 rfl rfl)
theorem dJ26_divideMagnitude_752 : decode cJ26_divideMagnitude 752 = .ok (.iadd, 1) := dk_96 (dk_at dksJ26_divideMagnitude_32 3 rfl rfl)
theorem dJ26_divideMagnitude_753 : decode cJ26_divideMagnitude 753 = .ok (.iconst 0, 1) := dk_3 (dk_at dksJ26_divideMagnitude_32 4 rfl rfl)
theorem dJ26_divideMagnitude_754 : decode cJ26_divideMagnitude 754 = .ok (.iastore, 1) := dk_79 (dk_at dksJ26_divideMagnitude_32 5 rfl rfl)
theorem dJ26_divideMagnitude_755 : decode cJ26_divideMagnitude 755 = .ok (.aload_n 0, 1) := dk_42 (dk_at dksJ26_divideMagnitude_32 6 rfl rfl)
theorem dJ26_divideMagnitude_756 : decode cJ26_divideMagnitude 756 = .ok (.aload 7, 2) := dk_25 7 (dk_at dksJ26_divideMagnitude_32 7 rfl rfl)
theorem dJ26_divideMagnitude_758 : decode cJ26_divideMagnitude 758 = .ok (.getfield 17, 3) := dk_180 0 17 (dk_at dksJ26_divideMagnitude_32 9 rfl rfl)
theorem dJ26_divideMagnitude_761 : decode cJ26_divideMagnitude 761 = .ok (.aload 6, 2) := dk_25 6 (dk_at dksJ26_divideMagnitude_32 12 rfl rfl)
theorem dJ26_divideMagnitude_763 : decode cJ26_divideMagnitude 763 = .ok (.iload 16, 2) := dk_21 16 (dk_at dksJ26_divideMagnitude_32 14 rfl rfl)
theorem dJ26_divideMagnitude_765 : decode cJ26_divideMagnitude 765 = .ok (.iload 5, 2) := dk_21 5 (dk_at dksJ26_divideMagnitude_32 16 rfl rfl)
theorem dJ26_divideMagnitude_767 : decode cJ26_divideMagnitude 767 = .ok (.iload 15, 2) := dk_21 15 (dk_at dksJ26_divideMagnitude_32 18 rfl rfl)
theorem dJ26_divideMagnitude_769 : decode cJ26_divideMagnitude 769 = .ok (.aload 7, 2) := dk_25 7 (dk_at dksJ26_divideMagnitude_32 20 rfl rfl)
theorem dJ26_divideMagnitude_771 : decode cJ26_divideMagnitude 771 = .ok (.getfield 11, 3) := dk_180 0 11 (dk_at dksJ26_divideMagnitude_33 0 rfl rfl)
theorem dJ26_divideMagnitude_774 : decode cJ26_divideMagnitude 774 = .ok (.iadd, 1) := dk_96 (dk_at dksJ26_divideMagnitude_33 3 rfl rfl)
theorem dJ26_divideMagnitude_775 : decode cJ26_divideMagnitude 775 = .ok (.invokevirtual 277, 3) := dk_182 1 21 (dk_at dksJ26_divideMagnitude_33 4 rfl rfl)
theorem dJ26_divideMagnitude_778 : decode cJ26_divideMagnitude 778 = .ok (.istore 22, 2) := dk_54 22 (dk_at dksJ26_divideMagnitude_33 7 rfl rfl)
theorem dJ26_divideMagnitude_780 : decode cJ26_divideMagnitude 780 = .ok (.iload 22, 2) := dk_21 22 (dk_at dksJ26_divideMagnitude_33 9 rfl rfl)
theorem dJ26_divideMagnitude_782 : decode cJ26_divideMagnitude 782 = .ok (.ldc 88, 2) := dk_18 88 (dk_at dksJ26_divideMagnitude_33 11 rfl rfl)
theorem dJ26_divideMagnitude_784 : decode cJ26_divideMagnitude 784 = .ok (.iadd, 1) := dk_96 (dk_at dksJ26_divideMagnitude_33 13 rfl rfl)
theorem dJ26_divideMagnitude_785 : decode cJ26_divideMagnitude 785 = .ok (.iload 20, 2) := dk_21 20 (dk_at dksJ26_divideMagnitude_33 14 rfl rfl)
theorem dJ26_divideMagnitude_787 : decode cJ26_divideMagnitude 787 = .ok (.if_icmp .le 28, 3) := dk_164 0 28 (dk_at dksJ26_divideMagnitude_33 16 rfl rfl)
theorem dJ26_divideMagnitude_790 : decode cJ26_divideMagnitude 790 = .ok (.aload_n 0, 1) := dk_42 (dk_at dksJ26_divideMagnitude_33 19 rfl rfl)
theorem dJ26_divideMagnitude_791 : decode cJ26_divideMagnitude 791 = .ok (.aload 6, 2) := dk_25 6 (dk_at dksJ26_divideMagnitude_33 20 rfl rfl)
theorem dJ26_divideMagnitude_793 : decode cJ26_divideMagnitude 793 = .ok (.aload 7, 2) := dk_25 7 (dk_at dksJ26_divideMagnitude_33 22 rfl rfl)
theorem dJ26_divideMagnitude_795 : decode cJ26_divideMagnitude 795 = .ok (.getfield 17, 3) := dk_180 0 17 (dk_at dksJ26_divideMagnitude_34 0 rfl rfl)
theorem dJ26_divideMagnitude_798 : decode cJ26_divideMagnitude 798 = .ok (.iload 15, 2) := dk_21 15 (dk_at dksJ26_divideMagnitude_34 3 rfl rfl)
theorem dJ26_divideMagnitude_800 : decode cJ26_divideMagnitude 800 = .ok (.iconst 1, 1) := dk_4 (dk_at dksJ26_divideMagnitude_34 5 rfl rfl)
theorem dJ26_divideMagnitude_801 : decode cJ26_divideMagnitude 801 = .ok (.iadd, 1) := dk_96 (dk_at dksJ26_divideMagnitude_34 6 rfl rfl)
theorem dJ26_divideMagnitude_802 : decode cJ26_divideMagnitude 802 = .ok (.aload 7, 2) := dk_25 7 (dk_at dksJ26_divideMagnitude_34 7 rfl rfl)
theorem dJ26_divideMagnitude_804 : decode cJ26_divideMagnitude 804 = .ok (.getfield 11, 3) := dk_180 0 11 (dk_at dksJ26_divideMagnitude_34 9 rfl rfl)
theorem dJ26_divideMagnitude_807 : decode cJ26_divideMagnitude 807 = .ok (.iadd, 1) := dk_96 (dk_at dksJ26_divideMagnitude_34 12 rfl rfl)
theorem dJ26_divideMagnitude_808 : decode cJ26_divideMagnitude 808 = .ok (.invokevirtual 281, 3) := dk_182 1 25 (dk_at dksJ26_divideMagnitude_34 13 rfl rfl)
theorem dJ26_divideMagnitude_811 : decode cJ26_divideMagnitude 811 = .ok (.pop, 1) := dk_87 (dk_at dksJ26_divideMagnitude_34 16 rfl rfl)
theorem dJ26_divideMagnitude_812 : decode cJ26_divideMagnitude 812 = .ok (.iinc 16 (-1), 3) := dk_132 16 255 (dk_at dksJ26_divideMagnitude_34 17 rfl rfl)
theorem dJ26_divideMagnitude_815 : decode cJ26_divideMagnitude 815 = .ok (.aload 10, 2) := dk_25 10 (dk_at dksJ26_divideMagnitude_34 20 rfl rfl)
theorem dJ26_divideMagnitude_817 : decode cJ26_divideMagnitude 817 = .ok (.iload 15, 2) := dk_21 15 (dk_at dksJ26_divideMagnitude_34 22 rfl rfl)
theorem dJ26_divideMagnitude_819 : decode cJ26_divideMagnitude 819 = .ok (.iload 16, 2) := dk_21 16 (dk_at dksJ26_divideMagnitude_35 0 rfl rfl)
theorem dJ26_divideMagnitude_821 : decode cJ26_divideMagnitude 821 = .ok (.iastore, 1) := dk_79 (dk_at dksJ26_divideMagnitude_35 2 rfl rfl)
theorem dJ26_divideMagnitude_822 : decode cJ26_divideMagnitude 822 = .ok (.iinc 15 1, 3) := dk_132 15 1 (dk_at dksJ26_divideMagnitude_35 3 rfl rfl)
theorem dJ26_divideMagnitude_825 : decode cJ26_divideMagnitude 825 = .ok (.goto (-402), 3) := dk_167 254 110 (dk_at dksJ26_divideMagnitude_35 6 rfl rfl)
theorem dJ26_divideMagnitude_828 : decode cJ26_divideMagnitude 828 = .ok (.iconst 0, 1) := dk_3 (dk_at dksJ26_divideMagnitude_35 9 rfl rfl)
theorem dJ26_divideMagnitude_829 : decode cJ26_divideMagnitude 829 = .ok (.istore 15, 2) := dk_54 15 (dk_at dksJ26_divideMagnitude_35 10 rfl rfl)
theorem dJ26_divideMagnitude_831 : decode cJ26_divideMagnitude 831 = .ok (.iconst 0, 1) := dk_3 (dk_at dksJ26_divideMagnitude_35 12 rfl rfl)
theorem dJ26_divideMagnitude_832 : decode cJ26_divideMagnitude 832 = .ok (.istore 16, 2) := dk_54 16 (dk_at dksJ26_divideMagnitude_35 13 rfl rfl)
theorem dJ26_divideMagnitude_834 : decode cJ26_divideMagnitude 834 = .ok (.iconst 0, 1) := dk_3 (dk_at dksJ26_divideMagnitude_35 15 rfl rfl)
theorem dJ26_divideMagnitude_835 : decode cJ26_divideMagnitude 835 = .ok (.istore 17, 2) := dk_54 17 (dk_at dksJ26_divideMagnitude_35 16 rfl rfl)
theorem dJ26_divideMagnitude_837 : decode cJ26_divideMagnitude 837 = .ok (.aload 7, 2) := dk_25 7 (dk_at dksJ26_divideMagnitude_35 18 rfl rfl)
theorem dJ26_divideMagnitude_839 : decode cJ26_divideMagnitude 839 = .ok (.getfield 17, 3) := dk_180 0 17 (dk_at dksJ26_divideMagnitude_35 20 rfl rfl)
theorem dJ26_divideMagnitude_842 : decode cJ26_divideMagnitude 842 = .ok (.iload 9, 2) := dk_21 9 (dk_at dksJ26_divideMagnitude_36 0 rfl rfl)
theorem dJ26_divideMagnitude_844 : decode cJ26_divideMagnitude 844 = .ok (.iconst 1, 1) := dk_4 (dk_at dksJ26_divideMagnitude_36 2 rfl rfl)
theorem dJ26_divideMagnitude_845 : decode cJ26_divideMagnitude 845 = .ok (.isub, 1) := dk_100 (dk_at dksJ26_divideMagnitude_36 3 rfl rfl)
theorem dJ26_divideMagnitude_846 : decode cJ26_divideMagnitude 846 = .ok (.aload 7, 2) := dk_25 7 (dk_at dksJ26_divideMagnitude_36 4 rfl rfl)
theorem dJ26_divideMagnitude_848 : decode cJ26_divideMagnitude 848 = .ok (.getfield 11, 3) := dk_180 0 11 (dk_at dksJ26_divideMagnitude_36 6 rfl rfl)
theorem dJ26_divideMagnitude_851 : decode cJ26_divideMagnitude 851 = .ok (.iadd, 1) := dk_96 (dk_at dksJ26_divideMagnitude_36 9 rfl rfl)
theorem dJ26_divideMagnitude_852 : decode cJ26_divideMagnitude 852 = .ok (.iaload, 1) := dk_46 (dk_at dksJ26_divideMagnitude_36 10 rfl rfl)
theorem dJ26_divideMagnitude_853 : decode cJ26_divideMagnitude 853 = .ok (.istore 18, 2) := dk_54 18 (dk_at dksJ26_divideMagnitude_36 11 rfl rfl)
theorem dJ26_divideMagnitude_855 : decode cJ26_divideMagnitude 855 = .ok (.iload 18, 2) := dk_21 18 (dk_at dksJ26_divideMagnitude_36 13 rfl rfl)
theorem dJ26_divideMagnitude_857 : decode cJ26_divideMagnitude 857 = .ok (.ldc 88, 2) := dk_18 88 (dk_at dksJ26_divideMagnitude_36 15 rfl rfl)
theorem dJ26_divideMagnitude_859 : decode cJ26_divideMagnitude 859 = .ok (.iadd, 1) := dk_96 (dk_at dksJ26_divideMagnitude_36 17 rfl rfl)
theorem dJ26_divideMagnitude_860 : decode cJ26_divideMagnitude 860 = .ok (.istore 19, 2) := dk_54 19 (dk_at dksJ26_divideMagnitude_36 18 rfl rfl)
theorem dJ26_divideMagnitude_862 : decode cJ26_divideMagnitude 862 = .ok (.aload 7, 2) := dk_25 7 (dk_at dksJ26_divideMagnitude_36 20 rfl rfl)
theorem dJ26_divideMagnitude_864 : decode cJ26_divideMagnitude 864 = .ok (.getfield 17, 3) := dk_180 0 17 (dk_at dksJ26_divideMagnitude_37 0 rfl rfl)
theorem dJ26_divideMagnitude_867 : decode cJ26_divideMagnitude 867 = .ok (.iload 9, 2) := dk_21 9 (dk_at dksJ26_divideMagnitude_37 3 rfl rfl)
theorem dJ26_divideMagnitude_869 : decode cJ26_divideMagnitude 869 = .ok (.aload 7, 2) := dk_25 7 (dk_at dksJ26_divideMagnitude_37 5 rfl rfl)
theorem dJ26_divideMagnitude_871 : decode cJ26_divideMagnitude 871 = .ok (.getfield 11, 3) := dk_180 0 11 (dk_at dksJ26_divideMagnitude_37 7 rfl rfl)
theorem dJ26_divideMagnitude_874 : decode cJ26_divideMagnitude 874 = .ok (.iadd, 1) := dk_96 (dk_at dksJ26_divideMagnitude_37 10 rfl rfl)
theorem dJ26_divideMagnitude_875 : decode cJ26_divideMagnitude 875 = .ok (.iaload, 1) := dk_46 (dk_at dksJ26_divideMagnitude_37 11 rfl rfl)
theorem dJ26_divideMagnitude_876 : decode cJ26_divideMagnitude 876 = .ok (.istore 20, 2) := dk_54 20 (dk_at dksJ26_divideMagnitude_37 12 rfl rfl)
theorem dJ26_divideMagnitude_878 : decode cJ26_divideMagnitude 878 = .ok (.iload 18, 2) := dk_21 18 (dk_at dksJ26_divideMagnitude_37 14 rfl rfl)
theorem dJ26_divideMagnitude_880 : decode cJ26_divideMagnitude 880 = .ok (.iload 11, 2) := dk_21 11 (dk_at dksJ26_divideMagnitude_37 16 rfl rfl)
theorem dJ26_divideMagnitude_882 : decode cJ26_divideMagnitude 882 = .ok (.if_icmp .ne 33, 3) := dk_160 0 33 (dk_at dksJ26_divideMagnitude_37 18 rfl rfl)
theorem dJ26_divideMagnitude_885 : decode cJ26_divideMagnitude 885 = .ok (.iconst (-1), 1) := dk_2 (dk_at dksJ26_divideMagnitude_37 21 rfl rfl)
theorem dJ26_divideMagnitude_886 : decode cJ26_divideMagnitude 886 = .ok (.istore 15, 2) := dk_54 15 (dk_at dksJ26_divideMagnitude_37 22 rfl rfl)
theorem dJ26_divideMagnitude_888 : decode cJ26_divideMagnitude 888 = .ok (.iload 18, 2) := dk_21 18 (dk_at dksJ26_divideMagnitude_38 0 rfl rfl)
theorem dJ26_divideMagnitude_890 : decode cJ26_divideMagnitude 890 = .ok (.iload 20, 2) := dk_21 20 (dk_at dksJ26_divideMagnitude_38 2 rfl rfl)
theorem dJ26_divideMagnitude_892 : decode cJ26_divideMagnitude 892 = .ok (.iadd, 1) := dk_96 (dk_at dksJ26_divideMagnitude_38 4 rfl rfl)
theorem dJ26_divideMagnitude_893 : decode cJ26_divideMagnitude 893 = .ok (.istore 16, 2) := dk_54 16 (dk_at dksJ26_divideMagnitude_38 5 rfl rfl)
theorem dJ26_divideMagnitude_895 : decode cJ26_divideMagnitude 895 = .ok (.iload 16, 2) := dk_21 16 (dk_at dksJ26_divideMagnitude_38 7 rfl rfl)
theorem dJ26_divideMagnitude_897 : decode cJ26_divideMagnitude 897 = .ok (.ldc 88, 2) := dk_18 88 (dk_at dksJ26_divideMagnitude_38 9 rfl rfl)
theorem dJ26_divideMagnitude_899 : decode cJ26_divideMagnitude 899 = .ok (.iadd, 1) := dk_96 (dk_at dksJ26_divideMagnitude_38 11 rfl rfl)
theorem dJ26_divideMagnitude_900 : decode cJ26_divideMagnitude 900 = .ok (.iload 19, 2) := dk_21 19 (dk_at dksJ26_divideMagnitude_38 12 rfl rfl)
theorem dJ26_divideMagnitude_902 : decode cJ26_divideMagnitude 902 = .ok (.if_icmp .ge 7, 3) := dk_162 0 7 (dk_at dksJ26_divideMagnitude_38 14 rfl rfl)
theorem dJ26_divideMagnitude_905 : decode cJ26_divideMagnitude 905 = .ok (.iconst 1, 1) := dk_4 (dk_at dksJ26_divideMagnitude_38 17 rfl rfl)
theorem dJ26_divideMagnitude_906 : decode cJ26_divideMagnitude 906 = .ok (.goto 4, 3) := dk_167 0 4 (dk_at dksJ26_divideMagnitude_38 18 rfl rfl)
theorem dJ26_divideMagnitude_909 : decode cJ26_divideMagnitude 909 = .ok (.iconst 0, 1) := dk_3 (dk_at dksJ26_divideMagnitude_38 21 rfl rfl)
theorem dJ26_divideMagnitude_910 : decode cJ26_divideMagnitude 910 = .ok (.istore 17, 2) := dk_54 17 (dk_at dksJ26_divideMagnitude_38 22 rfl rfl)
theorem dJ26_divideMagnitude_912 : decode cJ26_divideMagnitude 912 = .ok (.goto 75, 3) := dk_167 0 75 (dk_at dksJ26_divideMagnitude_39 0 rfl rfl)
theorem dJ26_divideMagnitude_915 : decode cJ26_divideMagnitude 915 = .ok (.iload 18, 2) := dk_21 18 (dk_at dksJ26_divideMagnitude_39 3 rfl rfl)
theorem dJ26_divideMagnitude_917 : decode cJ26_divideMagnitude 917 = .ok (.i2l, 1) := dk_133 (dk_at dksJ26_divideMagnitude_39 5 rfl rfl)
theorem dJ26_divideMagnitude_918 : decode cJ26_divideMagnitude 918 = .ok (.bipush 32, 2) := dk_16 32 (dk_at dksJ26_divideMagnitude_39 6 rfl rfl)
theorem dJ26_divideMagnitude_920 : decode cJ26_divideMagnitude 920 = .ok (.lshl, 1) := dk_121 (dk_at dksJ26_divideMagnitude_39 8 rfl rfl)
theorem dJ26_divideMagnitude_921 : decode cJ26_divideMagnitude 921 = .ok (.iload 20, 2) := dk_21 20 (dk_at dksJ26_divideMagnitude_39 9 rfl rfl)
theorem dJ26_divideMagnitude_923 : decode cJ26_divideMagnitude 923 = .ok (.i2l, 1) := dk_133 (dk_at dksJ26_divideMagnitude_39 11 rfl rfl)
theorem dJ26_divideMagnitude_924 : decode cJ26_divideMagnitude 924 = .ok (.ldc2_w 52, 3) := dk_20 0 52 (dk_at dksJ26_divideMagnitude_39 12 rfl rfl)
theorem dJ26_divideMagnitude_927 : decode cJ26_divideMagnitude 927 = .ok (.land, 1) := dk_127 (dk_at dksJ26_divideMagnitude_39 15 rfl rfl)
theorem dJ26_divideMagnitude_928 : decode cJ26_divideMagnitude 928 = .ok (.lor, 1) := dk_129 (dk_at dksJ26_divideMagnitude_39 16 rfl rfl)
theorem dJ26_divideMagnitude_929 : decode cJ26_divideMagnitude 929 = .ok (.lstore 21, 2) := dk_55 21 (dk_at dksJ26_divideMagnitude_39 17 rfl rfl)
theorem dJ26_divideMagnitude_931 : decode cJ26_divideMagnitude 931 = .ok (.lload 21, 2) := dk_22 21 (dk_at dksJ26_divideMagnitude_39 19 rfl rfl)
theorem dJ26_divideMagnitude_933 : decode cJ26_divideMagnitude 933 = .ok (.lconst 0, 1) := dk_9 (dk_at dksJ26_divideMagnitude_39 21 rfl rfl)
theorem dJ26_divideMagnitude_934 : decode cJ26_divideMagnitude 934 = .ok (.lcmp, 1) := dk_148 (dk_at dksJ26_divideMagnitude_39 22 rfl rfl)
theorem dJ26_divideMagnitude_935 : decode cJ26_divideMagnitude 935 = .ok (.ifCond .lt 26, 3) := dk_155 0 26 (dk_at dksJ26_divideMagnitude_40 0 rfl rfl)
theorem dJ26_divideMagnitude_938 : decode cJ26_divideMagnitude 938 = .ok (.lload 21, 2) := dk_22 21 (dk_at dksJ26_divideMagnitude_40 3 rfl rfl)
theorem dJ26_divideMagnitude_940 : decode cJ26_divideMagnitude 940 = .ok (.lload 12, 2) := dk_22 12 (dk_at dksJ26_divideMagnitude_40 5 rfl rfl)
theorem dJ26_divideMagnitude_942 : decode cJ26_divideMagnitude 942 = .ok (.ldiv, 1) := dk_109 (dk_at dksJ26_divideMagnitude_40 7 rfl rfl)
theorem dJ26_divideMagnitude_943 : decode cJ26_divideMagnitude 943 = .ok (.l2i, 1) := dk_136 (dk_at dksJ26_divideMagnitude_40 8 rfl rfl)
theorem dJ26_divideMagnitude_944 : decode cJ26_divideMagnitude 944 = .ok (.istore 15, 2) := dk_54 15 (dk_at dksJ26_divideMagnitude_40 9 rfl rfl)
theorem dJ26_divideMagnitude_946 : decode cJ26_divideMagnitude 946 = .ok (.lload 21, 2) := dk_22 21 (dk_at dksJ26_divideMagnitude_40 11 rfl rfl)
theorem dJ26_divideMagnitude_948 : decode cJ26_divideMagnitude 948 = .ok (.iload 15, 2) := dk_21 15 (dk_at dksJ26_divideMagnitude_40 13 rfl rfl)
theorem dJ26_divideMagnitude_950 : decode cJ26_divideMagnitude 950 = .ok (.i2l, 1) := dk_133 (dk_at dksJ26_divideMagnitude_40 15 rfl rfl)
theorem dJ26_divideMagnitude_951 : decode cJ26_divideMagnitude 951 = .ok (.lload 12, 2) := dk_22 12 (dk_at dksJ26_divideMagnitude_40 16 rfl rfl)
theorem dJ26_divideMagnitude_953 : decode cJ26_divideMagnitude 953 = .ok (.lmul, 1) := dk_105 (dk_at dksJ26_divideMagnitude_40 18 rfl rfl)
theorem dJ26_divideMagnitude_954 : decode cJ26_divideMagnitude 954 = .ok (.lsub, 1) := dk_101 (dk_at dksJ26_divideMagnitude_40 19 rfl rfl)
theorem dJ26_divideMagnitude_955 : decode cJ26_divideMagnitude 955 = .ok (.l2i, 1) := dk_136 (dk_at dksJ26_divideMagnitude_40 20 rfl rfl)
theorem dJ26_divideMagnitude_956 : decode cJ26_divideMagnitude 956 = .ok (.istore 16, 2) := dk_54 16 (dk_at dksJ26_divideMagnitude_40 21 rfl rfl)
theorem dJ26_divideMagnitude_958 : decode cJ26_divideMagnitude 958 = .ok (.goto 29, 3) := dk_167 0 29 (dk_at dksJ26_divideMagnitude_41 0 rfl rfl)
theorem dJ26_divideMagnitude_961 : decode cJ26_divideMagnitude 961 = .ok (.lload 21, 2) := dk_22 21 (dk_at dksJ26_divideMagnitude_41 3 rfl rfl)
theorem dJ26_divideMagnitude_963 : decode cJ26_divideMagnitude 963 = .ok (.iload 11, 2) := dk_21 11 (dk_at dksJ26_divideMagnitude_41 5 rfl rfl)
theorem dJ26_divideMagnitude_965 : decode cJ26_divideMagnitude 965 = .ok (.invokestatic 155, 3) := dk_184 0 155 (dk_at dksJ26_divideMagnitude_41 7 rfl rfl)
theorem dJ26_divideMagnitude_968 : decode cJ26_divideMagnitude 968 = .ok (.lstore 23, 2) := dk_55 23 (dk_at dksJ26_divideMagnitude_41 10 rfl rfl)
theorem dJ26_divideMagnitude_970 : decode cJ26_divideMagnitude 970 = .ok (.lload 23, 2) := dk_22 23 (dk_at dksJ26_divideMagnitude_41 12 rfl rfl)
theorem dJ26_divideMagnitude_972 : decode cJ26_divideMagnitude 972 = .ok (.ldc2_w 52, 3) := dk_20 0 52 (dk_at dksJ26_divideMagnitude_41 14 rfl rfl)
theorem dJ26_divideMagnitude_975 : decode cJ26_divideMagnitude 975 = .ok (.land, 1) := dk_127 (dk_at dksJ26_divideMagnitude_41 17 rfl rfl)
theorem dJ26_divideMagnitude_976 : decode cJ26_divideMagnitude 976 = .ok (.l2i, 1) := dk_136 (dk_at dksJ26_divideMagnitude_41 18 rfl rfl)
theorem dJ26_divideMagnitude_977 : decode cJ26_divideMagnitude 977 = .ok (.istore 15, 2) := dk_54 15 (dk_at dksJ26_divideMagnitude_41 19 rfl rfl)
theorem dJ26_divideMagnitude_979 : decode cJ26_divideMagnitude 979 = .ok (.lload 23, 2) := dk_22 23 (dk_at dksJ26_divideMagnitude_41 21 rfl rfl)
theorem dJ26_divideMagnitude_981 : decode cJ26_divideMagnitude 981 = .ok (.bipush 32, 2) := dk_16 32 (dk_at dksJ26_divideMagnitude_42 0 rfl rfl)
theorem dJ26_divideMagnitude_983 : decode cJ26_divideMagnitude 983 = .ok (.lushr, 1) := dk_125 (dk_at dksJ26_divideMagnitude_42 2 rfl rfl)
theorem dJ26_divideMagnitude_984 : decode cJ26_divideMagnitude 984 = .ok (.l2i, 1) := dk_136 (dk_at dksJ26_divideMagnitude_42 3 rfl rfl)
theorem dJ26_divideMagnitude_985 : decode cJ26_divideMagnitude 985 = .ok (.istore 16, 2) := dk_54 16 (dk_at dksJ26_divideMagnitude_42 4 rfl rfl)
theorem dJ26_divideMagnitude_987 : decode cJ26_divideMagnitude 987 = .ok (.iload 15, 2) := dk_21 15 (dk_at dksJ26_divideMagnitude_42 6 rfl rfl)
theorem dJ26_divideMagnitude_989 : decode cJ26_divideMagnitude 989 = .ok (.ifCond .eq 272, 3) := dk_153 1 16 (dk_at dksJ26_divideMagnitude_42 8 rfl rfl)
theorem dJ26_divideMagnitude_992 : decode cJ26_divideMagnitude 992 = .ok (.iload 17, 2) := dk_21 17 (dk_at dksJ26_divideMagnitude_42 11 rfl rfl)
theorem dJ26_divideMagnitude_994 : decode cJ26_divideMagnitude 994 = .ok (.ifCond .ne 139, 3) := dk_154 0 139 (dk_at dksJ26_divideMagnitude_42 13 rfl rfl)
theorem dJ26_divideMagnitude_997 : decode cJ26_divideMagnitude 997 = .ok (.aload 7, 2) := dk_25 7 (dk_at dksJ26_divideMagnitude_42 16 rfl rfl)
theorem dJ26_divideMagnitude_999 : decode cJ26_divideMagnitude 999 = .ok (.getfield 17, 3) := dk_180 0 17 (dk_at dksJ26_divideMagnitude_42 18 rfl rfl)
theorem dJ26_divideMagnitude_1002 : decode cJ26_divideMagnitude 1002 = .ok (.iload 9, 2) := dk_21 9 (dk_at dksJ26_divideMagnitude_42 21 rfl rfl)
theorem dJ26_divideMagnitude_1004 : decode cJ26_divideMagnitude 1004 = .ok (.iconst 1, 1) := dk_4 (dk_at dksJ26_divideMagnitude_42 23 rfl rfl)
theorem dJ26_divideMagnitude_1005 : decode cJ26_divideMagnitude 1005 = .ok (.iadd, 1) := dk_96 (dk_at dksJ26_divideMagnitude_43 0 rfl rfl)
theorem dJ26_divideMagnitude_1006 : decode cJ26_divideMagnitude 1006 = .ok (.aload 7, 2) := dk_25 7 (dk_at dksJ26_divideMagnitude_43 1 rfl rfl)
theorem dJ26_divideMagnitude_1008 : decode cJ26_divideMagnitude 1008 = .ok (.getfield 11, 3) := dk_180 0 11 (dk_at dksJ26_divideMagnitude_43 3 rfl rfl)
theorem dJ26_divideMagnitude_1011 : decode cJ26_divideMagnitude 1011 = .ok (.iadd, 1) := dk_96 (dk_at dksJ26_divideMagnitude_43 6 rfl rfl)
theorem dJ26_divideMagnitude_1012 : decode cJ26_divideMagnitude 1012 = .ok (.iaload, 1) := dk_46 (dk_at dksJ26_divideMagnitude_43 7 rfl rfl)
theorem dJ26_divideMagnitude_1013 : decode cJ26_divideMagnitude 1013 = .ok (.i2l, 1) := dk_133 (dk_at dksJ26_divideMagnitude_43 8 rfl rfl)
theorem dJ26_divideMagnitude_1014 : decode cJ26_divideMagnitude 1014 = .ok (.ldc2_w 52, 3) := dk_20 0 52 (dk_at dksJ26_divideMagnitude_43 9 rfl rfl)
theorem dJ26_divideMagnitude_1017 : decode cJ26_divideMagnitude 1017 = .ok (.land, 1) := dk_127 (dk_at dksJ26_divideMagnitude_43 12 rfl rfl)
theorem dJ26_divideMagnitude_1018 : decode cJ26_divideMagnitude 1018 = .ok (.lstore 21, 2) := dk_55 21 (dk_at dksJ26_divideMagnitude_43 13 rfl rfl)
theorem dJ26_divideMagnitude_1020 : decode cJ26_divideMagnitude 1020 = .ok (.iload 16, 2) := dk_21 16 (dk_at dksJ26_divideMagnitude_43 15 rfl rfl)
theorem dJ26_divideMagnitude_1022 : decode cJ26_divideMagnitude 1022 = .ok (.i2l, 1) := dk_133 (dk_at dksJ26_divideMagnitude_43 17 rfl rfl)
theorem dJ26_divideMagnitude_1023 : decode cJ26_divideMagnitude 1023 = .ok (.ldc2_w 52, 3) := dk_20 0 52 (dk_at dksJ26_divideMagnitude_43 18 rfl rfl)
theorem dJ26_divideMagnitude_1026 : decode cJ26_divideMagnitude 1026 = .ok (.land, 1) := dk_127 (dk_at dksJ26_divideMagnitude_43 21 rfl rfl)
theorem dJ26_divideMagnitude_1027 : decode cJ26_divideMagnitude 1027 = .ok (.bipush 32, 2) := dk_16 32 (dk_at dksJ26_divideMagnitude_43 22 rfl rfl)
theorem dJ26_divideMagnitude_1029 : decode cJ26_divideMagnitude 1029 = .ok (.lshl, 1) := dk_121 (dk_at dksJ26_divideMagnitude_44 0 rfl rfl)
theorem dJ26_divideMagnitude_1030 : decode cJ26_divideMagnitude 1030 = .ok (.lload 21, 2) := dk_22 21 (dk_at dksJ26_divideMagnitude_44 1 rfl rfl)
theorem dJ26_divideMagnitude_1032 : decode cJ26_divideMagnitude 1032 = .ok (.lor, 1) := dk_129 (dk_at dksJ26_divideMagnitude_44 3 rfl rfl)
theorem dJ26_divideMagnitude_1033 : decode cJ26_divideMagnitude 1033 = .ok (.lstore 23, 2) := dk_55 23 (dk_at dksJ26_divideMagnitude_44 4 rfl rfl)
theorem dJ26_divideMagnitude_1035 : decode cJ26_divideMagnitude 1035 = .ok (.iload 14, 2) := dk_21 14 (dk_at dksJ26_divideMagnitude_44 6 rfl rfl)
theorem dJ26_divideMagnitude_1037 : decode cJ26_divideMagnitude 1037 = .ok (.i2l, 1) := dk_133 (dk_at dksJ26_divideMagnitude_44 8 rfl rfl)
theorem dJ26_divideMagnitude_1038 : decode cJ26_divideMagnitude 1038 = .ok (.ldc2_w 52, 3) := dk_20 0 52 (dk_at dksJ26_divideMagnitude_44 9 rfl rfl)
theorem dJ26_divideMagnitude_1041 : decode cJ26_divideMagnitude 1041 = .ok (.land, 1) := dk_127 (dk_at dksJ26_divideMagnitude_44 12 rfl rfl)
theorem dJ26_divideMagnitude_1042 : decode cJ26_divideMagnitude 1042 = .ok (.iload 15, 2) := dk_21 15 (dk_at dksJ26_divideMagnitude_44 13 rfl rfl)
theorem dJ26_divideMagnitude_1044 : decode cJ26_divideMagnitude 1044 = .ok (.i2l, 1) := dk_133 (dk_at dksJ26_divideMagnitude_44 15 rfl rfl)
theorem dJ26_divideMagnitude_1045 : decode cJ26_divideMagnitude 1045 = .ok (.ldc2_w 52, 3) := dk_20 0 52 (dk_at dksJ26_divideMagnitude_44 16 rfl rfl)
theorem dJ26_divideMagnitude_1048 : decode cJ26_divideMagnitude 1048 = .ok (.land, 1) := dk_127 (dk_at dksJ26_divideMagnitude_44 19 rfl rfl)
theorem dJ26_divideMagnitude_1049 : decode cJ26_divideMagnitude 1049 = .ok (.lmul, 1) := dk_105 (dk_at dksJ26_divideMagnitude_44 20 rfl rfl)
theorem dJ26_divideMagnitude_1050 : decode cJ26_divideMagnitude 1050 = .ok (.lstore 25, 2) := dk_55 25 (dk_at dksJ26_divideMagnitude_44 21 rfl rfl)
theorem dJ26_divideMagnitude_1052 : decode cJ26_divideMagnitude 1052 = .ok (.aload_n 0, 1) := dk_42 (dk_at dksJ26_divideMagnitude_44 23 rfl rfl)
theorem dJ26_divideMagnitude_1053 : decode cJ26_divideMagnitude 1053 = .ok (.lload 25, 2) := dk_22 25 (dk_at dksJ26_divideMagnitude_45 0 rfl rfl)
theorem dJ26_divideMagnitude_1055 : decode cJ26_divideMagnitude 1055 = .ok (.lload 23, 2) := dk_22 23 (dk_at dksJ26_divideMagnitude_45 2 rfl rfl)
theorem dJ26_divideMagnitude_1057 : decode cJ26_divideMagnitude 1057 = .ok (.invokevirtual 273, 3) := dk_182 1 17 (dk_at dksJ26_divideMagnitude_45 4 rfl rfl)
theorem dJ26_divideMagnitude_1060 : decode cJ26_divideMagnitude 1060 = .ok (.ifCond .eq 73, 3) := dk_153 0 73 (dk_at dksJ26_divideMagnitude_45 7 rfl rfl)
theorem dJ26_divideMagnitude_1063 : decode cJ26_divideMagnitude 1063 = .ok (.iinc 15 (-1), 3) := dk_132 15 255 (dk_at dksJ26_divideMagnitude_45 10 rfl rfl)
theorem dJ26_divideMagnitude_1066 : decode cJ26_divideMagnitude 1066 = .ok (.iload 16, 2) := dk_21 16 (dk_at dksJ26_divideMagnitude_45 13 rfl rfl)
theorem dJ26_divideMagnitude_1068 : decode cJ26_divideMagnitude 1068 = .ok (.i2l, 1) := dk_133 (dk_at dksJ26_divideMagnitude_45 15 rfl rfl)
theorem dJ26_divideMagnitude_1069 : decode cJ26_divideMagnitude 1069 = .ok (.ldc2_w 52, 3) := dk_20 0 52 (dk_at dksJ26_divideMagnitude_45 16 rfl rfl)
theorem dJ26_divideMagnitude_1072 : decode cJ26_divideMagnitude 1072 = .ok (.land, 1) := dk_127 (dk_at dksJ26_divideMagnitude_45 19 rfl rfl)
theorem dJ26_divideMagnitude_1073 : decode cJ26_divideMagnitude 1073 = .ok (.lload 12, 2) := dk_22 12 (dk_at dksJ26_divideMagnitude_45 20 rfl rfl)
theorem dJ26_divideMagnitude_1075 : decode cJ26_divideMagnitude 1075 = .ok (.ladd, 1) := dk_97 (dk_at dksJ26_divideMagnitude_45 22 rfl rfl)
theorem dJ26_divideMagnitude_1076 : decode cJ26_divideMagnitude 1076 = .ok (.l2i, 1) := dk_136 (dk_at dksJ26_divideMagnitude_45 23 rfl rfl)
theorem dJ26_divideMagnitude_1077 : decode cJ26_divideMagnitude 1077 = .ok (.istore 16, 2) := dk_54 16 (dk_at dksJ26_divideMagnitude_46 0 rfl rfl)
theorem dJ26_divideMagnitude_1079 : decode cJ26_divideMagnitude 1079 = .ok (.iload 16, 2) := dk_21 16 (dk_at dksJ26_divideMagnitude_46 2 rfl rfl)
theorem dJ26_divideMagnitude_1081 : decode cJ26_divideMagnitude 1081 = .ok (.i2l, 1) := dk_133 (dk_at dksJ26_divideMagnitude_46 4 rfl rfl)
theorem dJ26_divideMagnitude_1082 : decode cJ26_divideMagnitude 1082 = .ok (.ldc2_w 52, 3) := dk_20 0 52 (dk_at dksJ26_divideMagnitude_46 5 rfl rfl)
theorem dJ26_divideMagnitude_1085 : decode cJ26_divideMagnitude 1085 = .ok (.land, 1) := dk_127 (dk_at dksJ26_divideMagnitude_46 8 rfl rfl)
theorem dJ26_divideMagnitude_1086 : decode cJ26_divideMagnitude 1086 = .ok (.lload 12, 2) := dk_22 12 (dk_at dksJ26_divideMagnitude_46 9 rfl rfl)
theorem dJ26_divideMagnitude_1088 : decode cJ26_divideMagnitude 1088 = .ok (.lcmp, 1) := dk_148 (dk_at dksJ26_divideMagnitude_46 11 rfl rfl)
theorem dJ26_divideMagnitude_1089 : decode cJ26_divideMagnitude 1089 = .ok (.ifCond .lt 44, 3) := dk_155 0 44 (dk_at dksJ26_divideMagnitude_46 12 rfl rfl)
theorem dJ26_divideMagnitude_1092 : decode cJ26_divideMagnitude 1092 = .ok (.lload 25, 2) := dk_22 25 (dk_at dksJ26_divideMagnitude_46 15 rfl rfl)
theorem dJ26_divideMagnitude_1094 : decode cJ26_divideMagnitude 1094 = .ok (.iload 14, 2) := dk_21 14 (dk_at dksJ26_divideMagnitude_46 17 rfl rfl)
theorem dJ26_divideMagnitude_1096 : decode cJ26_divideMagnitude 1096 = .ok (.i2l, 1) := dk_133 (dk_at dksJ26_divideMagnitude_46 19 rfl rfl)
theorem dJ26_divideMagnitude_1097 : decode cJ26_divideMagnitude 1097 = .ok (.ldc2_w 52, 3) := dk_20 0 52 (dk_at dksJ26_divideMagnitude_46 20 rfl rfl)
theorem dJ26_divideMagnitude_1100 : decode cJ26_divideMagnitude 1100 = .ok (.land, 1) := dk_127 (dk_at dksJ26_divideMagnitude_46 23 rfl rfl)
theorem dJ26_divideMagnitude_1101 : decode cJ26_divideMagnitude 1101 = .ok (.lsub, 1) := dk_101 (dk_at dksJ26_divideMagnitude_47 0 rfl rfl)
theorem dJ26_divideMagnitude_1102 : decode cJ26_divideMagnitude 1102 = .ok (.lstore 25, 2) := dk_55 25 (dk_at dksJ26_divideMagnitude_47 1 rfl rfl)
theorem dJ26_divideMagnitude_1104 : decode cJ26_divideMagnitude 1104 = .ok (.iload 16, 2) := dk_21 16 (dk_at dksJ26_divideMagnitude_47 3 rfl rfl)
theorem dJ26_divideMagnitude_1106 : decode cJ26_divideMagnitude 1106 = .ok (.i2l, 1) := dk_133 (dk_at dksJ26_divideMagnitude_47 5 rfl rfl)
theorem dJ26_divideMagnitude_1107 : decode cJ26_divideMagnitude 1107 = .ok (.ldc2_w 52, 3) := dk_20 0 52 (dk_at dksJ26_divideMagnitude_47 6 rfl rfl)
theorem dJ26_divideMagnitude_1110 : decode cJ26_divideMagnitude 1110 = .ok (.land, 1) := dk_127 (dk_at dksJ26_divideMagnitude_47 9 rfl rfl)
theorem dJ26_divideMagnitude_1111 : decode cJ26_divideMagnitude 1111 = .ok (.bipush 32, 2) := dk_16 32 (dk_at dksJ26_divideMagnitude_47 10 rfl rfl)
theorem dJ26_divideMagnitude_1113 : decode cJ26_divideMagnitude 1113 = .ok (.lshl, 1) := dk_121 (dk_at dksJ26_divideMagnitude_47 12 rfl rfl)
theorem dJ26_divideMagnitude_1114 : decode cJ26_divideMagnitude 1114 = .ok (.lload 21, 2) := dk_22 21 (dk_at dksJ26_divideMagnitude_47 13 rfl rfl)
theorem dJ26_divideMagnitude_1116 : decode cJ26_divideMagnitude 1116 = .ok (.lor, 1) := dk_129 (dk_at dksJ26_divideMagnitude_47 15 rfl rfl)
theorem dJ26_divideMagnitude_1117 : decode cJ26_divideMagnitude 1117 = .ok (.lstore 23, 2) := dk_55 23 (dk_at dksJ26_divideMagnitude_47 16 rfl rfl)
theorem dJ26_divideMagnitude_1119 : decode cJ26_divideMagnitude 1119 = .ok (.aload_n 0, 1) := dk_42 (dk_at dksJ26_divideMagnitude_47 18 rfl rfl)
theorem dJ26_divideMagnitude_1120 : decode cJ26_divideMagnitude 1120 = .ok (.lload 25, 2) := dk_22 25 (dk_at dksJ26_divideMagnitude_47 19 rfl rfl)
theorem dJ26_divideMagnitude_1122 : decode cJ26_divideMagnitude 1122 = .ok (.lload 23, 2) := dk_22 23 (dk_at dksJ26_divideMagnitude_47 21 rfl rfl)
theorem dJ26_divideMagnitude_1124 : decode cJ26_divideMagnitude 1124 = .ok (.invokevirtual 273, 3) := dk_182 1 17 (dk_at dksJ26_divideMagnitude_48 0 rfl rfl)
theorem dJ26_divideMagnitude_1127 : decode cJ26_divideMagnitude 1127 = .ok (.ifCond .eq 6, 3) := dk_153 0 6 (dk_at dksJ26_divideMagnitude_48 3 rfl rfl)
theorem dJ26_divideMagnitude_1130 : decode cJ26_divideMagnitude 1130 = .ok (.iinc 15 (-1), 3) := dk_132 15 255 (dk_at dksJ26_divideMagnitude_48 6 rfl rfl)
theorem dJ26_divideMagnitude_1133 : decode cJ26_divideMagnitude 1133 = .ok (.aload 7, 2) := dk_25 7 (dk_at dksJ26_divideMagnitude_48 9 rfl rfl)
theorem dJ26_divideMagnitude_1135 : decode cJ26_divideMagnitude 1135 = .ok (.getfield 17, 3) := dk_180 0 17 (dk_at dksJ26_divideMagnitude_48 11 rfl rfl)
theorem dJ26_divideMagnitude_1138 : decode cJ26_divideMagnitude 1138 = .ok (.iload 9, 2) := dk_21 9 (dk_at dksJ26_divideMagnitude_48 14 rfl rfl)
theorem dJ26_divideMagnitude_1140 : decode cJ26_divideMagnitude 1140 = .ok (.iconst 1, 1) := dk_4 (dk_at dksJ26_divideMagnitude_48 16 rfl rfl)
theorem dJ26_divideMagnitude_1141 : decode cJ26_divideMagnitude 1141 = .ok (.isub, 1) := dk_100 (dk_at dksJ26_divideMagnitude_48 17 rfl rfl)
theorem dJ26_divideMagnitude_1142 : decode cJ26_divideMagnitude 1142 = .ok (.aload 7, 2) := dk_25 7 (dk_at dksJ26_divideMagnitude_48 18 rfl rfl)
theorem dJ26_divideMagnitude_1144 : decode cJ26_divideMagnitude 1144 = .ok (.getfield 11, 3) := dk_180 0 11 (dk_at dksJ26_divideMagnitude_48 20 rfl rfl)
theorem dJ26_divideMagnitude_1147 : decode cJ26_divideMagnitude 1147 = .ok (.iadd, 1) := dk_96 (dk_at dksJ26_divideMagnitude_48 23 rfl rfl)
theorem dJ26_divideMagnitude_1148 : decode cJ26_divideMagnitude 1148 = .ok (.iconst 0, 1) := dk_3 (dk_at dksJ26_divideMagnitude_49 0 rfl rfl)
theorem dJ26_divideMagnitude_1149 : decode cJ26_divideMagnitude 1149 = .ok (.iastore, 1) := dk_79 (dk_at dksJ26_divideMagnitude_49 1 rfl rfl)
theorem dJ26_divideMagnitude_1150 : decode cJ26_divideMagnitude 1150 = .ok (.iload_n 3, 1) := dk_29 (dk_at dksJ26_divideMagnitude_49 2 rfl rfl)
theorem dJ26_divideMagnitude_1151 : decode cJ26_divideMagnitude 1151 = .ok (.ifCond .eq 33, 3) := dk_153 0 33 (dk_at dksJ26_divideMagnitude_49 3 rfl rfl)
theorem dJ26_divideMagnitude_1154 : decode cJ26_divideMagnitude 1154 = .ok (.aload_n 0, 1) := dk_42 (dk_at dksJ26_divideMagnitude_49 6 rfl rfl)
theorem dJ26_divideMagnitude_1155 : decode cJ26_divideMagnitude 1155 = .ok (.aload 7, 2) := dk_25 7 (dk_at dksJ26_divideMagnitude_49 7 rfl rfl)
theorem dJ26_divideMagnitude_1157 : decode cJ26_divideMagnitude 1157 = .ok (.getfield 17, 3) := dk_180 0 17 (dk_at dksJ26_divideMagnitude_49 9 rfl rfl)
theorem dJ26_divideMagnitude_1160 : decode cJ26_divideMagnitude 1160 = .ok (.aload 6, 2) := dk_25 6 (dk_at dksJ26_divideMagnitude_49 12 rfl rfl)
theorem dJ26_divideMagnitude_1162 : decode cJ26_divideMagnitude 1162 = .ok (.iload 15, 2) := dk_21 15 (dk_at dksJ26_divideMagnitude_49 14 rfl rfl)
theorem dJ26_divideMagnitude_1164 : decode cJ26_divideMagnitude 1164 = .ok (.iload 5, 2) := dk_21 5 (dk_at dksJ26_divideMagnitude_49 16 rfl rfl)
theorem dJ26_divideMagnitude_1166 : decode cJ26_divideMagnitude 1166 = .ok (.iload 9, 2) := dk_21 9 (dk_at dksJ26_divideMagnitude_49 18 rfl rfl)
theorem dJ26_divideMagnitude_1168 : decode cJ26_divideMagnitude 1168 = .ok (.iconst 1, 1) := dk_4 (dk_at dksJ26_divideMagnitude_49 20 rfl rfl)
theorem dJ26_divideMagnitude_1169 : decode cJ26_divideMagnitude 1169 = .ok (.isub, 1) := dk_100 (dk_at dksJ26_divideMagnitude_49 21 rfl rfl)
theorem dJ26_divideMagnitude_1170 : decode cJ26_divideMagnitude 1170 = .ok (.aload 7, 2) := dk_25 7 (dk_at dksJ26_divideMagnitude_49 22 rfl rfl)
theorem dJ26_divideMagnitude_1172 : decode cJ26_divideMagnitude 1172 = .ok (.getfield 11, 3) := dk_180 0 11 (dk_at dksJ26_divideMagnitude_50 0 rfl rfl)
theorem dJ26_divideMagnitude_1175 : decode cJ26_divideMagnitude 1175 = .ok (.iadd, 1) := dk_96 (dk_at dksJ26_divideMagnitude_50 3 rfl rfl)
theorem dJ26_divideMagnitude_1176 : decode cJ26_divideMagnitude 1176 = .ok (.invokevirtual 277, 3) := dk_182 1 21 (dk_at dksJ26_divideMagnitude_50 4 rfl rfl)
theorem dJ26_divideMagnitude_1179 : decode cJ26_divideMagnitude 1179 = .ok (.istore 21, 2) := dk_54 21 (dk_at dksJ26_divideMagnitude_50 7 rfl rfl)
theorem dJ26_divideMagnitude_1181 : decode cJ26_divideMagnitude 1181 = .ok (.goto 30, 3) := dk_167 0 30 (dk_at dksJ26_divideMagnitude_50 9 rfl rfl)
theorem dJ26_divideMagnitude_1184 : decode cJ26_divideMagnitude 1184 = .ok (.aload_n 0, 1) := dk_42 (dk_at dksJ26_divideMagnitude_50 12 rfl rfl)
theorem dJ26_divideMagnitude_1185 : decode cJ26_divideMagnitude 1185 = .ok (.aload 7, 2) := dk_25 7 (dk_at dksJ26_divideMagnitude_50 13 rfl rfl)
theorem dJ26_divideMagnitude_1187 : decode cJ26_divideMagnitude 1187 = .ok (.getfield 17, 3) := dk_180 0 17 (dk_at dksJ26_divideMagnitude_50 15 rfl rfl)
theorem dJ26_divideMagnitude_1190 : decode cJ26_divideMagnitude 1190 = .ok (.aload 6, 2) := dk_25 6 (dk_at dksJ26_divideMagnitude_50 18 rfl rfl)
theorem dJ26_divideMagnitude_1192 : decode cJ26_divideMagnitude 1192 = .ok (.iload 15, 2) := dk_21 15 (dk_at dksJ26_divideMagnitude_50 20 rfl rfl)
theorem dJ26_divideMagnitude_1194 : decode cJ26_divideMagnitude 1194 = .ok (.iload 5, 2) := dk_21 5 (dk_at dksJ26_divideMagnitude_50 22 rfl rfl)
theorem dJ26_divideMagnitude_1196 : decode cJ26_divideMagnitude 1196 = .ok (.iload 9, 2) := dk_21 9 (dk_at dksJ26_divideMagnitude_51 0 rfl rfl)
theorem dJ26_divideMagnitude_1198 : decode cJ26_divideMagnitude 1198 = .ok (.iconst 1, 1) := dk_4 (dk_at dksJ26_divideMagnitude_51 2 rfl rfl)
theorem dJ26_divideMagnitude_1199 : decode cJ26_divideMagnitude 1199 = .ok (.isub, 1) := dk_100 (dk_at dksJ26_divideMagnitude_51 3 rfl rfl)
theorem dJ26_divideMagnitude_1200 : decode cJ26_divideMagnitude 1200 = .ok (.aload 7, 2) := dk_25 7 (dk_at dksJ26_divideMagnitude_51 4 rfl rfl)
theorem dJ26_divideMagnitude_1202 : decode cJ26_divideMagnitude 1202 = .ok (.getfield 11, 3) := dk_180 0 11 (dk_at dksJ26_divideMagnitude_51 6 rfl rfl)
theorem dJ26_divideMagnitude_1205 : decode cJ26_divideMagnitude 1205 = .ok (.iadd, 1) := dk_96 (dk_at dksJ26_divideMagnitude_51 9 rfl rfl)
theorem dJ26_divideMagnitude_1206 : decode cJ26_divideMagnitude 1206 = .ok (.invokevirtual 285, 3) := dk_182 1 29 (dk_at dksJ26_divideMagnitude_51 10 rfl rfl)
theorem dJ26_divideMagnitude_1209 : decode cJ26_divideMagnitude 1209 = .ok (.istore 21, 2) := dk_54 21 (dk_at dksJ26_divideMagnitude_51 13 rfl rfl)
theorem dJ26_divideMagnitude_1211 : decode cJ26_divideMagnitude 1211 = .ok (.iload 21, 2) := dk_21 21 (dk_at dksJ26_divideMagnitude_51 15 rfl rfl)
theorem dJ26_divideMagnitude_1213 : decode cJ26_divideMagnitude 1213 = .ok (.ldc 88, 2) := dk_18 88 (dk_at dksJ26_divideMagnitude_51 17 rfl rfl)
theorem dJ26_divideMagnitude_1215 : decode cJ26_divideMagnitude 1215 = .ok (.iadd, 1) := dk_96 (dk_at dksJ26_divideMagnitude_51 19 rfl rfl)
theorem dJ26_divideMagnitude_1216 : decode cJ26_divideMagnitude 1216 = .ok (.iload 19, 2) := dk_21 19 (dk_at dksJ26_divideMagnitude_51 20 rfl rfl)
theorem dJ26_divideMagnitude_1218 : decode cJ26_divideMagnitude 1218 = .ok (.if_icmp .le 34, 3) := dk_164 0 34 (dk_at dksJ26_divideMagnitude_52 0 rfl rfl)
theorem dJ26_divideMagnitude_1221 : decode cJ26_divideMagnitude 1221 = .ok (.iload_n 3, 1) := dk_29 (dk_at dksJ26_divideMagnitude_52 3 rfl rfl)
theorem dJ26_divideMagnitude_1222 : decode cJ26_divideMagnitude 1222 = .ok (.ifCond .eq 27, 3) := dk_153 0 27 (dk_at dksJ26_divideMagnitude_52 4 rfl rfl)
theorem dJ26_divideMagnitude_1225 : decode cJ26_divideMagnitude 1225 = .ok (.aload_n 0, 1) := dk_42 (dk_at dksJ26_divideMagnitude_52 7 rfl rfl)
theorem dJ26_divideMagnitude_1226 : decode cJ26_divideMagnitude 1226 = .ok (.aload 6, 2) := dk_25 6 (dk_at dksJ26_divideMagnitude_52 8 rfl rfl)
theorem dJ26_divideMagnitude_1228 : decode cJ26_divideMagnitude 1228 = .ok (.aload 7, 2) := dk_25 7 (dk_at dksJ26_divideMagnitude_52 10 rfl rfl)
theorem dJ26_divideMagnitude_1230 : decode cJ26_divideMagnitude 1230 = .ok (.getfield 17, 3) := dk_180 0 17 (dk_at dksJ26_divideMagnitude_52 12 rfl rfl)
theorem dJ26_divideMagnitude_1233 : decode cJ26_divideMagnitude 1233 = .ok (.iload 9, 2) := dk_21 9 (dk_at dksJ26_divideMagnitude_52 15 rfl rfl)
theorem dJ26_divideMagnitude_1235 : decode cJ26_divideMagnitude 1235 = .ok (.iconst 1, 1) := dk_4 (dk_at dksJ26_divideMagnitude_52 17 rfl rfl)
theorem dJ26_divideMagnitude_1236 : decode cJ26_divideMagnitude 1236 = .ok (.isub, 1) := dk_100 (dk_at dksJ26_divideMagnitude_52 18 rfl rfl)
theorem dJ26_divideMagnitude_1237 : decode cJ26_divideMagnitude 1237 = .ok (.iconst 1, 1) := dk_4 (dk_at dksJ26_divideMagnitude_52 19 rfl rfl)
theorem dJ26_divideMagnitude_1238 : decode cJ26_divideMagnitude 1238 = .ok (.iadd, 1) := dk_96 (dk_at dksJ26_divideMagnitude_52 20 rfl rfl)
theorem dJ26_divideMagnitude_1239 : decode cJ26_divideMagnitude 1239 = .ok (.aload 7, 2) := dk_25 7 (dk_at dksJ26_divideMagnitude_52 21 rfl rfl)
theorem dJ26_divideMagnitude_1241 : decode cJ26_divideMagnitude 1241 = .ok (.getfield 11, 3) := dk_180 0 11 (dk_at dksJ26_divideMagnitude_53 0 rfl rfl)
theorem dJ26_divideMagnitude_1244 : decode cJ26_divideMagnitude 1244 = .ok (.iadd, 1) := dk_96 (dk_at dksJ26_divideMagnitude_53 3 rfl rfl)
theorem dJ26_divideMagnitude_1245 : decode cJ26_divideMagnitude 1245 = .ok (.invokevirtual 281, 3) := dk_182 1 25 (dk_at dksJ26_divideMagnitude_53 4 rfl rfl)
theorem dJ26_divideMagnitude_1248 : decode cJ26_divideMagnitude 1248 = .ok (.pop, 1) := dk_87 (dk_at dksJ26_divideMagnitude_53 7 rfl rfl)
theorem dJ26_divideMagnitude_1249 : decode cJ26_divideMagnitude 1249 = .ok (.iinc 15 (-1), 3) := dk_132 15 255 (dk_at dksJ26_divideMagnitude_53 8 rfl rfl)
theorem dJ26_divideMagnitude_1252 : decode cJ26_divideMagnitude 1252 = .ok (.aload 10, 2) := dk_25 10 (dk_at dksJ26_divideMagnitude_53 11 rfl rfl)
theorem dJ26_divideMagnitude_1254 : decode cJ26_divideMagnitude 1254 = .ok (.iload 9, 2) := dk_21 9 (dk_at dksJ26_divideMagnitude_53 13 rfl rfl)
theorem dJ26_divideMagnitude_1256 : decode cJ26_divideMagnitude 1256 = .ok (.iconst 1, 1) := dk_4 (dk_at dksJ26_divideMagnitude_53 15 rfl rfl)
theorem dJ26_divideMagnitude_1257 : decode cJ26_divideMagnitude 1257 = .ok (.isub, 1) := dk_100 (dk_at dksJ26_divideMagnitude_53 16 rfl rfl)
theorem dJ26_divideMagnitude_1258 : decode cJ26_divideMagnitude 1258 = .ok (.iload 15, 2) := dk_21 15 (dk_at dksJ26_divideMagnitude_53 17 rfl rfl)
theorem dJ26_divideMagnitude_1260 : decode cJ26_divideMagnitude 1260 = .ok (.iastore, 1) := dk_79 (dk_at dksJ26_divideMagnitude_53 19 rfl rfl)
theorem dJ26_divideMagnitude_1261 : decode cJ26_divideMagnitude 1261 = .ok (.iload_n 3, 1) := dk_29 (dk_at dksJ26_divideMagnitude_53 20 rfl rfl)
theorem dJ26_divideMagnitude_1262 : decode cJ26_divideMagnitude 1262 = .ok (.ifCond .eq 20, 3) := dk_153 0 20 (dk_at dksJ26_divideMagnitude_53 21 rfl rfl)
theorem dJ26_divideMagnitude_1265 : decode cJ26_divideMagnitude 1265 = .ok (.iload 4, 2) := dk_21 4 (dk_at dksJ26_divideMagnitude_54 0 rfl rfl)
theorem dJ26_divideMagnitude_1267 : decode cJ26_divideMagnitude 1267 = .ok (.ifCond .le 10, 3) := dk_158 0 10 (dk_at dksJ26_divideMagnitude_54 2 rfl rfl)
theorem dJ26_divideMagnitude_1270 : decode cJ26_divideMagnitude 1270 = .ok (.aload 7, 2) := dk_25 7 (dk_at dksJ26_divideMagnitude_54 5 rfl rfl)
theorem dJ26_divideMagnitude_1272 : decode cJ26_divideMagnitude 1272 = .ok (.iload 4, 2) := dk_21 4 (dk_at dksJ26_divideMagnitude_54 7 rfl rfl)
theorem dJ26_divideMagnitude_1274 : decode cJ26_divideMagnitude 1274 = .ok (.invokevirtual 108, 3) := dk_182 0 108 (dk_at dksJ26_divideMagnitude_54 9 rfl rfl)
theorem dJ26_divideMagnitude_1277 : decode cJ26_divideMagnitude 1277 = .ok (.aload 7, 2) := dk_25 7 (dk_at dksJ26_divideMagnitude_54 12 rfl rfl)
theorem dJ26_divideMagnitude_1279 : decode cJ26_divideMagnitude 1279 = .ok (.invokevirtual 64, 3) := dk_182 0 64 (dk_at dksJ26_divideMagnitude_54 14 rfl rfl)
theorem dJ26_divideMagnitude_1282 : decode cJ26_divideMagnitude 1282 = .ok (.aload_n 2, 1) := dk_44 (dk_at dksJ26_divideMagnitude_54 17 rfl rfl)
theorem dJ26_divideMagnitude_1283 : decode cJ26_divideMagnitude 1283 = .ok (.invokevirtual 64, 3) := dk_182 0 64 (dk_at dksJ26_divideMagnitude_54 18 rfl rfl)
theorem dJ26_divideMagnitude_1286 : decode cJ26_divideMagnitude 1286 = .ok (.iload_n 3, 1) := dk_29 (dk_at dksJ26_divideMagnitude_54 21 rfl rfl)
theorem dJ26_divideMagnitude_1287 : decode cJ26_divideMagnitude 1287 = .ok (.ifCond .eq 8, 3) := dk_153 0 8 (dk_at dksJ26_divideMagnitude_55 0 rfl rfl)
theorem dJ26_divideMagnitude_1290 : decode cJ26_divideMagnitude 1290 = .ok (.aload 7, 2) := dk_25 7 (dk_at dksJ26_divideMagnitude_55 3 rfl rfl)
theorem dJ26_divideMagnitude_1292 : decode cJ26_divideMagnitude 1292 = .ok (.goto 4, 3) := dk_167 0 4 (dk_at dksJ26_divideMagnitude_55 5 rfl rfl)
theorem dJ26_divideMagnitude_1295 : decode cJ26_divideMagnitude 1295 = .ok (.aconst_null, 1) := dk_1 (dk_at dksJ26_divideMagnitude_55 8 rfl rfl)
theorem dJ26_divideMagnitude_1296 : decode cJ26_divideMagnitude 1296 = .ok (.areturn, 1) := dk_176 (dk_at dksJ26_divideMagnitude_55 9 rfl rfl)
abbrev cJ26_copyAndShift : ByteArray := prog_33_method_64_code
def yJ26_copyAndShift : MethodName := ⟨RJ26, "copyAndShift", "([III[III)V"⟩
def dkwJ26_copyAndShift_3 : List UInt8 := [120, 79, 177]
abbrev dktJ26_copyAndShift_3 : List UInt8 := dkwJ26_copyAndShift_3 ++ []
def dkwJ26_copyAndShift_2 : List UInt8 := [21, 7, 21, 6, 124, 128, 79, 132, 8, 1, 167, 255, 215, 45, 21, 4, 28, 96, 4, 100, 21, 7, 21, 5]
abbrev dktJ26_copyAndShift_2 : List UInt8 := dkwJ26_copyAndShift_2 ++ dktJ26_copyAndShift_3
def dkwJ26_copyAndShift_1 : List UInt8 := [21, 7, 54, 9, 42, 132, 1, 1, 27, 46, 54, 7, 45, 21, 4, 21, 8, 96, 21, 9, 21, 5, 120]
abbrev dktJ26_copyAndShift_1 : List UInt8 := dkwJ26_copyAndShift_1 ++ dktJ26_copyAndShift_2
def dkwJ26_copyAndShift_0 : List UInt8 := [16, 32, 21, 5, 100, 54, 6, 42, 27, 46, 54, 7, 3, 54, 8, 21, 8, 28, 4, 100, 162, 0, 39]
abbrev dktJ26_copyAndShift_0 : List UInt8 := dkwJ26_copyAndShift_0 ++ dktJ26_copyAndShift_1
theorem dksJ26_copyAndShift_0 : cJ26_copyAndShift.data.toList.drop 0 = dktJ26_copyAndShift_0 := by decide +kernel
theorem dksJ26_copyAndShift_1 : cJ26_copyAndShift.data.toList.drop 23 = dktJ26_copyAndShift_1 := dk_seg dksJ26_copyAndShift_0 23 rfl rfl
theorem dksJ26_copyAndShift_2 : cJ26_copyAndShift.data.toList.drop 46 = dktJ26_copyAndShift_2 := dk_seg dksJ26_copyAndShift_1 23 rfl rfl
theorem dksJ26_copyAndShift_3 : cJ26_copyAndShift.data.toList.drop 70 = dktJ26_copyAndShift_3 := dk_seg dksJ26_copyAndShift_2 24 rfl rfl
theorem dJ26_copyAndShift_0 : decode cJ26_copyAndShift 0 = .ok (.bipush 32, 2) := dk_16 32 (dk_at dksJ26_copyAndShift_0 0 rfl rfl)
theorem dJ26_copyAndShift_2 : decode cJ26_copyAndShift 2 = .ok (.iload 5, 2) := dk_21 5 (dk_at dksJ26_copyAndShift_0 2 rfl rfl)
theorem dJ26_copyAndShift_4 : decode cJ26_copyAndShift 4 = .ok (.isub, 1) := dk_100 (dk_at dksJ26_copyAndShift_0 4 rfl rfl)
theorem dJ26_copyAndShift_5 : decode cJ26_copyAndShift 5 = .ok (.istore 6, 2) := dk_54 6 (dk_at dksJ26_copyAndShift_0 5 rfl rfl)
theorem dJ26_copyAndShift_7 : decode cJ26_copyAndShift 7 = .ok (.aload_n 0, 1) := dk_42 (dk_at dksJ26_copyAndShift_0 7 rfl rfl)
theorem dJ26_copyAndShift_8 : decode cJ26_copyAndShift 8 = .ok (.iload_n 1, 1) := dk_27 (dk_at dksJ26_copyAndShift_0 8 rfl rfl)
theorem dJ26_copyAndShift_9 : decode cJ26_copyAndShift 9 = .ok (.iaload, 1) := dk_46 (dk_at dksJ26_copyAndShift_0 9 rfl rfl)
theorem dJ26_copyAndShift_10 : decode cJ26_copyAndShift 10 = .ok (.istore 7, 2) := dk_54 7 (dk_at dksJ26_copyAndShift_0 10 rfl rfl)
theorem dJ26_copyAndShift_12 : decode cJ26_copyAndShift 12 = .ok (.iconst 0, 1) := dk_3 (dk_at dksJ26_copyAndShift_0 12 rfl rfl)
theorem dJ26_copyAndShift_13 : decode cJ26_copyAndShift 13 = .ok (.istore 8, 2) := dk_54 8 (dk_at dksJ26_copyAndShift_0 13 rfl rfl)
theorem dJ26_copyAndShift_15 : decode cJ26_copyAndShift 15 = .ok (.iload 8, 2) := dk_21 8 (dk_at dksJ26_copyAndShift_0 15 rfl rfl)
theorem dJ26_copyAndShift_17 : decode cJ26_copyAndShift 17 = .ok (.iload_n 2, 1) := dk_28 (dk_at dksJ26_copyAndShift_0 17 rfl rfl)
theorem dJ26_copyAndShift_18 : decode cJ26_copyAndShift 18 = .ok (.iconst 1, 1) := dk_4 (dk_at dksJ26_copyAndShift_0 18 rfl rfl)
theorem dJ26_copyAndShift_19 : decode cJ26_copyAndShift 19 = .ok (.isub, 1) := dk_100 (dk_at dksJ26_copyAndShift_0 19 rfl rfl)
theorem dJ26_copyAndShift_20 : decode cJ26_copyAndShift 20 = .ok (.if_icmp .ge 39, 3) := dk_162 0 39 (dk_at dksJ26_copyAndShift_0 20 rfl rfl)
theorem dJ26_copyAndShift_23 : decode cJ26_copyAndShift 23 = .ok (.iload 7, 2) := dk_21 7 (dk_at dksJ26_copyAndShift_1 0 rfl rfl)
theorem dJ26_copyAndShift_25 : decode cJ26_copyAndShift 25 = .ok (.istore 9, 2) := dk_54 9 (dk_at dksJ26_copyAndShift_1 2 rfl rfl)
theorem dJ26_copyAndShift_27 : decode cJ26_copyAndShift 27 = .ok (.aload_n 0, 1) := dk_42 (dk_at dksJ26_copyAndShift_1 4 rfl rfl)
theorem dJ26_copyAndShift_28 : decode cJ26_copyAndShift 28 = .ok (.iinc 1 1, 3) := dk_132 1 1 (dk_at dksJ26_copyAndShift_1 5 rfl rfl)
theorem dJ26_copyAndShift_31 : decode cJ26_copyAndShift 31 = .ok (.iload_n 1, 1) := dk_27 (dk_at dksJ26_copyAndShift_1 8 rfl rfl)
theorem dJ26_copyAndShift_32 : decode cJ26_copyAndShift 32 = .ok (.iaload, 1) := dk_46 (dk_at dksJ26_copyAndShift_1 9 rfl rfl)
theorem dJ26_copyAndShift_33 : decode cJ26_copyAndShift 33 = .ok (.istore 7, 2) := dk_54 7 (dk_at dksJ26_copyAndShift_1 10 rfl rfl)
theorem dJ26_copyAndShift_35 : decode cJ26_copyAndShift 35 = .ok (.aload_n 3, 1) := dk_45 (dk_at dksJ26_copyAndShift_1 12 rfl rfl)
theorem dJ26_copyAndShift_36 : decode cJ26_copyAndShift 36 = .ok (.iload 4, 2) := dk_21 4 (dk_at dksJ26_copyAndShift_1 13 rfl rfl)
theorem dJ26_copyAndShift_38 : decode cJ26_copyAndShift 38 = .ok (.iload 8, 2) := dk_21 8 (dk_at dksJ26_copyAndShift_1 15 rfl rfl)
theorem dJ26_copyAndShift_40 : decode cJ26_copyAndShift 40 = .ok (.iadd, 1) := dk_96 (dk_at dksJ26_copyAndShift_1 17 rfl rfl)
theorem dJ26_copyAndShift_41 : decode cJ26_copyAndShift 41 = .ok (.iload 9, 2) := dk_21 9 (dk_at dksJ26_copyAndShift_1 18 rfl rfl)
theorem dJ26_copyAndShift_43 : decode cJ26_copyAndShift 43 = .ok (.iload 5, 2) := dk_21 5 (dk_at dksJ26_copyAndShift_1 20 rfl rfl)
theorem dJ26_copyAndShift_45 : decode cJ26_copyAndShift 45 = .ok (.ishl, 1) := dk_120 (dk_at dksJ26_copyAndShift_1 22 rfl rfl)
theorem dJ26_copyAndShift_46 : decode cJ26_copyAndShift 46 = .ok (.iload 7, 2) := dk_21 7 (dk_at dksJ26_copyAndShift_2 0 rfl rfl)
theorem dJ26_copyAndShift_48 : decode cJ26_copyAndShift 48 = .ok (.iload 6, 2) := dk_21 6 (dk_at dksJ26_copyAndShift_2 2 rfl rfl)
theorem dJ26_copyAndShift_50 : decode cJ26_copyAndShift 50 = .ok (.iushr, 1) := dk_124 (dk_at dksJ26_copyAndShift_2 4 rfl rfl)
theorem dJ26_copyAndShift_51 : decode cJ26_copyAndShift 51 = .ok (.ior, 1) := dk_128 (dk_at dksJ26_copyAndShift_2 5 rfl rfl)
theorem dJ26_copyAndShift_52 : decode cJ26_copyAndShift 52 = .ok (.iastore, 1) := dk_79 (dk_at dksJ26_copyAndShift_2 6 rfl rfl)
theorem dJ26_copyAndShift_53 : decode cJ26_copyAndShift 53 = .ok (.iinc 8 1, 3) := dk_132 8 1 (dk_at dksJ26_copyAndShift_2 7 rfl rfl)
theorem dJ26_copyAndShift_56 : decode cJ26_copyAndShift 56 = .ok (.goto (-41), 3) := dk_167 255 215 (dk_at dksJ26_copyAndShift_2 10 rfl rfl)
theorem dJ26_copyAndShift_59 : decode cJ26_copyAndShift 59 = .ok (.aload_n 3, 1) := dk_45 (dk_at dksJ26_copyAndShift_2 13 rfl rfl)
theorem dJ26_copyAndShift_60 : decode cJ26_copyAndShift 60 = .ok (.iload 4, 2) := dk_21 4 (dk_at dksJ26_copyAndShift_2 14 rfl rfl)
theorem dJ26_copyAndShift_62 : decode cJ26_copyAndShift 62 = .ok (.iload_n 2, 1) := dk_28 (dk_at dksJ26_copyAndShift_2 16 rfl rfl)
theorem dJ26_copyAndShift_63 : decode cJ26_copyAndShift 63 = .ok (.iadd, 1) := dk_96 (dk_at dksJ26_copyAndShift_2 17 rfl rfl)
theorem dJ26_copyAndShift_64 : decode cJ26_copyAndShift 64 = .ok (.iconst 1, 1) := dk_4 (dk_at dksJ26_copyAndShift_2 18 rfl rfl)
theorem dJ26_copyAndShift_65 : decode cJ26_copyAndShift 65 = .ok (.isub, 1) := dk_100 (dk_at dksJ26_copyAndShift_2 19 rfl rfl)
theorem dJ26_copyAndShift_66 : decode cJ26_copyAndShift 66 = .ok (.iload 7, 2) := dk_21 7 (dk_at dksJ26_copyAndShift_2 20 rfl rfl)
theorem dJ26_copyAndShift_68 : decode cJ26_copyAndShift 68 = .ok (.iload 5, 2) := dk_21 5 (dk_at dksJ26_copyAndShift_2 22 rfl rfl)
theorem dJ26_copyAndShift_70 : decode cJ26_copyAndShift 70 = .ok (.ishl, 1) := dk_120 (dk_at dksJ26_copyAndShift_3 0 rfl rfl)
theorem dJ26_copyAndShift_71 : decode cJ26_copyAndShift 71 = .ok (.iastore, 1) := dk_79 (dk_at dksJ26_copyAndShift_3 1 rfl rfl)
theorem dJ26_copyAndShift_72 : decode cJ26_copyAndShift 72 = .ok (.return_, 1) := dk_177 (dk_at dksJ26_copyAndShift_3 2 rfl rfl)
abbrev cJ26_init_5 : ByteArray := prog_33_method_3_code
def yJ26_init_5 : MethodName := ⟨RJ26, "<init>", "([I)V"⟩
def dkwJ26_init_5_0 : List UInt8 := [42, 183, 0, 5, 42, 3, 181, 0, 11, 42, 43, 181, 0, 17, 42, 43, 190, 181, 0, 21, 177]
abbrev dktJ26_init_5_0 : List UInt8 := dkwJ26_init_5_0 ++ []
theorem dksJ26_init_5_0 : cJ26_init_5.data.toList.drop 0 = dktJ26_init_5_0 := by decide +kernel
theorem dJ26_init_5_0 : decode cJ26_init_5 0 = .ok (.aload_n 0, 1) := dk_42 (dk_at dksJ26_init_5_0 0 rfl rfl)
theorem dJ26_init_5_1 : decode cJ26_init_5 1 = .ok (.invokespecial 5, 3) := dk_183 0 5 (dk_at dksJ26_init_5_0 1 rfl rfl)
theorem dJ26_init_5_4 : decode cJ26_init_5 4 = .ok (.aload_n 0, 1) := dk_42 (dk_at dksJ26_init_5_0 4 rfl rfl)
theorem dJ26_init_5_5 : decode cJ26_init_5 5 = .ok (.iconst 0, 1) := dk_3 (dk_at dksJ26_init_5_0 5 rfl rfl)
theorem dJ26_init_5_6 : decode cJ26_init_5 6 = .ok (.putfield 11, 3) := dk_181 0 11 (dk_at dksJ26_init_5_0 6 rfl rfl)
theorem dJ26_init_5_9 : decode cJ26_init_5 9 = .ok (.aload_n 0, 1) := dk_42 (dk_at dksJ26_init_5_0 9 rfl rfl)
theorem dJ26_init_5_10 : decode cJ26_init_5 10 = .ok (.aload_n 1, 1) := dk_43 (dk_at dksJ26_init_5_0 10 rfl rfl)
theorem dJ26_init_5_11 : decode cJ26_init_5 11 = .ok (.putfield 17, 3) := dk_181 0 17 (dk_at dksJ26_init_5_0 11 rfl rfl)
theorem dJ26_init_5_14 : decode cJ26_init_5 14 = .ok (.aload_n 0, 1) := dk_42 (dk_at dksJ26_init_5_0 14 rfl rfl)
theorem dJ26_init_5_15 : decode cJ26_init_5 15 = .ok (.aload_n 1, 1) := dk_43 (dk_at dksJ26_init_5_0 15 rfl rfl)
theorem dJ26_init_5_16 : decode cJ26_init_5 16 = .ok (.arraylength, 1) := dk_190 (dk_at dksJ26_init_5_0 16 rfl rfl)
theorem dJ26_init_5_17 : decode cJ26_init_5 17 = .ok (.putfield 21, 3) := dk_181 0 21 (dk_at dksJ26_init_5_0 17 rfl rfl)
theorem dJ26_init_5_20 : decode cJ26_init_5 20 = .ok (.return_, 1) := dk_177 (dk_at dksJ26_init_5_0 20 rfl rfl)
abbrev cJ26_unsignedLongCompare : ByteArray := prog_33_method_69_code
def yJ26_unsignedLongCompare : MethodName := ⟨RJ26, "unsignedLongCompare", "(JJ)Z"⟩
def dkwJ26_unsignedLongCompare_0 : List UInt8 := [31, 20, 0, 79, 97, 33, 20, 0, 79, 97, 148, 158, 0, 7, 4, 167, 0, 4, 3, 172]
abbrev dktJ26_unsignedLongCompare_0 : List UInt8 := dkwJ26_unsignedLongCompare_0 ++ []
theorem dksJ26_unsignedLongCompare_0 : cJ26_unsignedLongCompare.data.toList.drop 0 = dktJ26_unsignedLongCompare_0 := by decide +kernel
theorem dJ26_unsignedLongCompare_0 : decode cJ26_unsignedLongCompare 0 = .ok (.lload_n 1, 1) := dk_31 (dk_at dksJ26_unsignedLongCompare_0 0 rfl rfl)
theorem dJ26_unsignedLongCompare_1 : decode cJ26_unsignedLongCompare 1 = .ok (.ldc2_w 79, 3) := dk_20 0 79 (dk_at dksJ26_unsignedLongCompare_0 1 rfl rfl)
theorem dJ26_unsignedLongCompare_4 : decode cJ26_unsignedLongCompare 4 = .ok (.ladd, 1) := dk_97 (dk_at dksJ26_unsignedLongCompare_0 4 rfl rfl)
theorem dJ26_unsignedLongCompare_5 : decode cJ26_unsignedLongCompare 5 = .ok (.lload_n 3, 1) := dk_33 (dk_at dksJ26_unsignedLongCompare_0 5 rfl rfl)
theorem dJ26_unsignedLongCompare_6 : decode cJ26_unsignedLongCompare 6 = .ok (.ldc2_w 79, 3) := dk_20 0 79 (dk_at dksJ26_unsignedLongCompare_0 6 rfl rfl)
theorem dJ26_unsignedLongCompare_9 : decode cJ26_unsignedLongCompare 9 = .ok (.ladd, 1) := dk_97 (dk_at dksJ26_unsignedLongCompare_0 9 rfl rfl)
theorem dJ26_unsignedLongCompare_10 : decode cJ26_unsignedLongCompare 10 = .ok (.lcmp, 1) := dk_148 (dk_at dksJ26_unsignedLongCompare_0 10 rfl rfl)
theorem dJ26_unsignedLongCompare_11 : decode cJ26_unsignedLongCompare 11 = .ok (.ifCond .le 7, 3) := dk_158 0 7 (dk_at dksJ26_unsignedLongCompare_0 11 rfl rfl)
theorem dJ26_unsignedLongCompare_14 : decode cJ26_unsignedLongCompare 14 = .ok (.iconst 1, 1) := dk_4 (dk_at dksJ26_unsignedLongCompare_0 14 rfl rfl)
theorem dJ26_unsignedLongCompare_15 : decode cJ26_unsignedLongCompare 15 = .ok (.goto 4, 3) := dk_167 0 4 (dk_at dksJ26_unsignedLongCompare_0 15 rfl rfl)
theorem dJ26_unsignedLongCompare_18 : decode cJ26_unsignedLongCompare 18 = .ok (.iconst 0, 1) := dk_3 (dk_at dksJ26_unsignedLongCompare_0 18 rfl rfl)
theorem dJ26_unsignedLongCompare_19 : decode cJ26_unsignedLongCompare 19 = .ok (.ireturn, 1) := dk_172 (dk_at dksJ26_unsignedLongCompare_0 19 rfl rfl)
abbrev cJ26_mulsub : ByteArray := prog_33_method_39_code
def yJ26_mulsub : MethodName := ⟨RJ26, "mulsub", "([I[IIII)I"⟩
def dkwJ26_mulsub_4 : List UInt8 := [3, 133, 97, 55, 8, 132, 10, 255, 167, 255, 177, 22, 8, 136, 172]
abbrev dktJ26_mulsub_4 : List UInt8 := dkwJ26_mulsub_4 ++ []
def dkwJ26_mulsub_3 : List UInt8 := [22, 13, 20, 0, 52, 127, 22, 11, 136, 2, 130, 133, 20, 0, 52, 127, 148, 158, 0, 7, 4, 167, 0, 4]
abbrev dktJ26_mulsub_3 : List UInt8 := dkwJ26_mulsub_3 ++ dktJ26_mulsub_4
def dkwJ26_mulsub_2 : List UInt8 := [21, 5, 46, 133, 22, 11, 101, 55, 13, 43, 21, 5, 132, 5, 255, 22, 13, 136, 79, 22, 11, 16, 32, 125]
abbrev dktJ26_mulsub_2 : List UInt8 := dkwJ26_mulsub_2 ++ dktJ26_mulsub_3
def dkwJ26_mulsub_1 : List UInt8 := [21, 10, 155, 0, 80, 44, 21, 10, 46, 133, 20, 0, 52, 127, 22, 6, 105, 22, 8, 97, 55, 11, 43]
abbrev dktJ26_mulsub_1 : List UInt8 := dkwJ26_mulsub_1 ++ dktJ26_mulsub_2
def dkwJ26_mulsub_0 : List UInt8 := [29, 133, 20, 0, 52, 127, 55, 6, 9, 55, 8, 21, 5, 21, 4, 96, 54, 5, 21, 4, 4, 100, 54, 10]
abbrev dktJ26_mulsub_0 : List UInt8 := dkwJ26_mulsub_0 ++ dktJ26_mulsub_1
theorem dksJ26_mulsub_0 : cJ26_mulsub.data.toList.drop 0 = dktJ26_mulsub_0 := by decide +kernel
theorem dksJ26_mulsub_1 : cJ26_mulsub.data.toList.drop 24 = dktJ26_mulsub_1 := dk_seg dksJ26_mulsub_0 24 rfl rfl
theorem dksJ26_mulsub_2 : cJ26_mulsub.data.toList.drop 47 = dktJ26_mulsub_2 := dk_seg dksJ26_mulsub_1 23 rfl rfl
theorem dksJ26_mulsub_3 : cJ26_mulsub.data.toList.drop 71 = dktJ26_mulsub_3 := dk_seg dksJ26_mulsub_2 24 rfl rfl
theorem dksJ26_mulsub_4 : cJ26_mulsub.data.toList.drop 95 = dktJ26_mulsub_4 := dk_seg dksJ26_mulsub_3 24 rfl rfl
theorem dJ26_mulsub_0 : decode cJ26_mulsub 0 = .ok (.iload_n 3, 1) := dk_29 (dk_at dksJ26_mulsub_0 0 rfl rfl)
theorem dJ26_mulsub_1 : decode cJ26_mulsub 1 = .ok (.i2l, 1) := dk_133 (dk_at dksJ26_mulsub_0 1 rfl rfl)
theorem dJ26_mulsub_2 : decode cJ26_mulsub 2 = .ok (.ldc2_w 52, 3) := dk_20 0 52 (dk_at dksJ26_mulsub_0 2 rfl rfl)
theorem dJ26_mulsub_5 : decode cJ26_mulsub 5 = .ok (.land, 1) := dk_127 (dk_at dksJ26_mulsub_0 5 rfl rfl)
theorem dJ26_mulsub_6 : decode cJ26_mulsub 6 = .ok (.lstore 6, 2) := dk_55 6 (dk_at dksJ26_mulsub_0 6 rfl rfl)
theorem dJ26_mulsub_8 : decode cJ26_mulsub 8 = .ok (.lconst 0, 1) := dk_9 (dk_at dksJ26_mulsub_0 8 rfl rfl)
theorem dJ26_mulsub_9 : decode cJ26_mulsub 9 = .ok (.lstore 8, 2) := dk_55 8 (dk_at dksJ26_mulsub_0 9 rfl rfl)
theorem dJ26_mulsub_11 : decode cJ26_mulsub 11 = .ok (.iload 5, 2) := dk_21 5 (dk_at dksJ26_mulsub_0 11 rfl rfl)
theorem dJ26_mulsub_13 : decode cJ26_mulsub 13 = .ok (.iload 4, 2) := dk_21 4 (dk_at dksJ26_mulsub_0 13 rfl rfl)
theorem dJ26_mulsub_15 : decode cJ26_mulsub 15 = .ok (.iadd, 1) := dk_96 (dk_at dksJ26_mulsub_0 15 rfl rfl)
theorem dJ26_mulsub_16 : decode cJ26_mulsub 16 = .ok (.istore 5, 2) := dk_54 5 (dk_at dksJ26_mulsub_0 16 rfl rfl)
theorem dJ26_mulsub_18 : decode cJ26_mulsub 18 = .ok (.iload 4, 2) := dk_21 4 (dk_at dksJ26_mulsub_0 18 rfl rfl)
theorem dJ26_mulsub_20 : decode cJ26_mulsub 20 = .ok (.iconst 1, 1) := dk_4 (dk_at dksJ26_mulsub_0 20 rfl rfl)
theorem dJ26_mulsub_21 : decode cJ26_mulsub 21 = .ok (.isub, 1) := dk_100 (dk_at dksJ26_mulsub_0 21 rfl rfl)
theorem dJ26_mulsub_22 : decode cJ26_mulsub 22 = .ok (.istore 10, 2) := dk_54 10 (dk_at dksJ26_mulsub_0 22 rfl rfl)
theorem dJ26_mulsub_24 : decode cJ26_mulsub 24 = .ok (.iload 10, 2) := dk_21 10 (dk_at dksJ26_mulsub_1 0 rfl rfl)
theorem dJ26_mulsub_26 : decode cJ26_mulsub 26 = .ok (.ifCond .lt 80, 3) := dk_155 0 80 (dk_at dksJ26_mulsub_1 2 rfl rfl)
theorem dJ26_mulsub_29 : decode cJ26_mulsub 29 = .ok (.aload_n 2, 1) := dk_44 (dk_at dksJ26_mulsub_1 5 rfl rfl)
theorem dJ26_mulsub_30 : decode cJ26_mulsub 30 = .ok (.iload 10, 2) := dk_21 10 (dk_at dksJ26_mulsub_1 6 rfl rfl)
theorem dJ26_mulsub_32 : decode cJ26_mulsub 32 = .ok (.iaload, 1) := dk_46 (dk_at dksJ26_mulsub_1 8 rfl rfl)
theorem dJ26_mulsub_33 : decode cJ26_mulsub 33 = .ok (.i2l, 1) := dk_133 (dk_at dksJ26_mulsub_1 9 rfl rfl)
theorem dJ26_mulsub_34 : decode cJ26_mulsub 34 = .ok (.ldc2_w 52, 3) := dk_20 0 52 (dk_at dksJ26_mulsub_1 10 rfl rfl)
theorem dJ26_mulsub_37 : decode cJ26_mulsub 37 = .ok (.land, 1) := dk_127 (dk_at dksJ26_mulsub_1 13 rfl rfl)
theorem dJ26_mulsub_38 : decode cJ26_mulsub 38 = .ok (.lload 6, 2) := dk_22 6 (dk_at dksJ26_mulsub_1 14 rfl rfl)
theorem dJ26_mulsub_40 : decode cJ26_mulsub 40 = .ok (.lmul, 1) := dk_105 (dk_at dksJ26_mulsub_1 16 rfl rfl)
theorem dJ26_mulsub_41 : decode cJ26_mulsub 41 = .ok (.lload 8, 2) := dk_22 8 (dk_at dksJ26_mulsub_1 17 rfl rfl)
theorem dJ26_mulsub_43 : decode cJ26_mulsub 43 = .ok (.ladd, 1) := dk_97 (dk_at dksJ26_mulsub_1 19 rfl rfl)
theorem dJ26_mulsub_44 : decode cJ26_mulsub 44 = .ok (.lstore 11, 2) := dk_55 11 (dk_at dksJ26_mulsub_1 20 rfl rfl)
theorem dJ26_mulsub_46 : decode cJ26_mulsub 46 = .ok (.aload_n 1, 1) := dk_43 (dk_at dksJ26_mulsub_1 22 rfl rfl)
theorem dJ26_mulsub_47 : decode cJ26_mulsub 47 = .ok (.iload 5, 2) := dk_21 5 (dk_at dksJ26_mulsub_2 0 rfl rfl)
theorem dJ26_mulsub_49 : decode cJ26_mulsub 49 = .ok (.iaload, 1) := dk_46 (dk_at dksJ26_mulsub_2 2 rfl rfl)
theorem dJ26_mulsub_50 : decode cJ26_mulsub 50 = .ok (.i2l, 1) := dk_133 (dk_at dksJ26_mulsub_2 3 rfl rfl)
theorem dJ26_mulsub_51 : decode cJ26_mulsub 51 = .ok (.lload 11, 2) := dk_22 11 (dk_at dksJ26_mulsub_2 4 rfl rfl)
theorem dJ26_mulsub_53 : decode cJ26_mulsub 53 = .ok (.lsub, 1) := dk_101 (dk_at dksJ26_mulsub_2 6 rfl rfl)
theorem dJ26_mulsub_54 : decode cJ26_mulsub 54 = .ok (.lstore 13, 2) := dk_55 13 (dk_at dksJ26_mulsub_2 7 rfl rfl)
theorem dJ26_mulsub_56 : decode cJ26_mulsub 56 = .ok (.aload_n 1, 1) := dk_43 (dk_at dksJ26_mulsub_2 9 rfl rfl)
theorem dJ26_mulsub_57 : decode cJ26_mulsub 57 = .ok (.iload 5, 2) := dk_21 5 (dk_at dksJ26_mulsub_2 10 rfl rfl)
theorem dJ26_mulsub_59 : decode cJ26_mulsub 59 = .ok (.iinc 5 (-1), 3) := dk_132 5 255 (dk_at dksJ26_mulsub_2 12 rfl rfl)
theorem dJ26_mulsub_62 : decode cJ26_mulsub 62 = .ok (.lload 13, 2) := dk_22 13 (dk_at dksJ26_mulsub_2 15 rfl rfl)
theorem dJ26_mulsub_64 : decode cJ26_mulsub 64 = .ok (.l2i, 1) := dk_136 (dk_at dksJ26_mulsub_2 17 rfl rfl)
theorem dJ26_mulsub_65 : decode cJ26_mulsub 65 = .ok (.iastore, 1) := dk_79 (dk_at dksJ26_mulsub_2 18 rfl rfl)
theorem dJ26_mulsub_66 : decode cJ26_mulsub 66 = .ok (.lload 11, 2) := dk_22 11 (dk_at dksJ26_mulsub_2 19 rfl rfl)
theorem dJ26_mulsub_68 : decode cJ26_mulsub 68 = .ok (.bipush 32, 2) := dk_16 32 (dk_at dksJ26_mulsub_2 21 rfl rfl)
theorem dJ26_mulsub_70 : decode cJ26_mulsub 70 = .ok (.lushr, 1) := dk_125 (dk_at dksJ26_mulsub_2 23 rfl rfl)
theorem dJ26_mulsub_71 : decode cJ26_mulsub 71 = .ok (.lload 13, 2) := dk_22 13 (dk_at dksJ26_mulsub_3 0 rfl rfl)
theorem dJ26_mulsub_73 : decode cJ26_mulsub 73 = .ok (.ldc2_w 52, 3) := dk_20 0 52 (dk_at dksJ26_mulsub_3 2 rfl rfl)
theorem dJ26_mulsub_76 : decode cJ26_mulsub 76 = .ok (.land, 1) := dk_127 (dk_at dksJ26_mulsub_3 5 rfl rfl)
theorem dJ26_mulsub_77 : decode cJ26_mulsub 77 = .ok (.lload 11, 2) := dk_22 11 (dk_at dksJ26_mulsub_3 6 rfl rfl)
theorem dJ26_mulsub_79 : decode cJ26_mulsub 79 = .ok (.l2i, 1) := dk_136 (dk_at dksJ26_mulsub_3 8 rfl rfl)
theorem dJ26_mulsub_80 : decode cJ26_mulsub 80 = .ok (.iconst (-1), 1) := dk_2 (dk_at dksJ26_mulsub_3 9 rfl rfl)
theorem dJ26_mulsub_81 : decode cJ26_mulsub 81 = .ok (.ixor, 1) := dk_130 (dk_at dksJ26_mulsub_3 10 rfl rfl)
theorem dJ26_mulsub_82 : decode cJ26_mulsub 82 = .ok (.i2l, 1) := dk_133 (dk_at dksJ26_mulsub_3 11 rfl rfl)
theorem dJ26_mulsub_83 : decode cJ26_mulsub 83 = .ok (.ldc2_w 52, 3) := dk_20 0 52 (dk_at dksJ26_mulsub_3 12 rfl rfl)
theorem dJ26_mulsub_86 : decode cJ26_mulsub 86 = .ok (.land, 1) := dk_127 (dk_at dksJ26_mulsub_3 15 rfl rfl)
theorem dJ26_mulsub_87 : decode cJ26_mulsub 87 = .ok (.lcmp, 1) := dk_148 (dk_at dksJ26_mulsub_3 16 rfl rfl)
theorem dJ26_mulsub_88 : decode cJ26_mulsub 88 = .ok (.ifCond .le 7, 3) := dk_158 0 7 (dk_at dksJ26_mulsub_3 17 rfl rfl)
theorem dJ26_mulsub_91 : decode cJ26_mulsub 91 = .ok (.iconst 1, 1) := dk_4 (dk_at dksJ26_mulsub_3 20 rfl rfl)
theorem dJ26_mulsub_92 : decode cJ26_mulsub 92 = .ok (.goto 4, 3) := dk_167 0 4 (dk_at dksJ26_mulsub_3 21 rfl rfl)
theorem dJ26_mulsub_95 : decode cJ26_mulsub 95 = .ok (.iconst 0, 1) := dk_3 (dk_at dksJ26_mulsub_4 0 rfl rfl)
theorem dJ26_mulsub_96 : decode cJ26_mulsub 96 = .ok (.i2l, 1) := dk_133 (dk_at dksJ26_mulsub_4 1 rfl rfl)
theorem dJ26_mulsub_97 : decode cJ26_mulsub 97 = .ok (.ladd, 1) := dk_97 (dk_at dksJ26_mulsub_4 2 rfl rfl)
theorem dJ26_mulsub_98 : decode cJ26_mulsub 98 = .ok (.lstore 8, 2) := dk_55 8 (dk_at dksJ26_mulsub_4 3 rfl rfl)
theorem dJ26_mulsub_100 : decode cJ26_mulsub 100 = .ok (.iinc 10 (-1), 3) := dk_132 10 255 (dk_at dksJ26_mulsub_4 5 rfl rfl)
theorem dJ26_mulsub_103 : decode cJ26_mulsub 103 = .ok (.goto (-79), 3) := dk_167 255 177 (dk_at dksJ26_mulsub_4 8 rfl rfl)
theorem dJ26_mulsub_106 : decode cJ26_mulsub 106 = .ok (.lload 8, 2) := dk_22 8 (dk_at dksJ26_mulsub_4 11 rfl rfl)
theorem dJ26_mulsub_108 : decode cJ26_mulsub 108 = .ok (.l2i, 1) := dk_136 (dk_at dksJ26_mulsub_4 13 rfl rfl)
theorem dJ26_mulsub_109 : decode cJ26_mulsub 109 = .ok (.ireturn, 1) := dk_172 (dk_at dksJ26_mulsub_4 14 rfl rfl)
abbrev cJ26_divadd : ByteArray := prog_33_method_38_code
def yJ26_divadd : MethodName := ⟨RJ26, "divadd", "([I[II)I"⟩
def dkwJ26_divadd_2 : List UInt8 := [79, 22, 7, 16, 32, 125, 55, 4, 132, 6, 255, 167, 255, 206, 22, 4, 136, 172]
abbrev dktJ26_divadd_2 : List UInt8 := dkwJ26_divadd_2 ++ []
def dkwJ26_divadd_1 : List UInt8 := [21, 6, 29, 96, 46, 133, 20, 0, 52, 127, 97, 22, 4, 97, 55, 7, 44, 21, 6, 29, 96, 22, 7, 136]
abbrev dktJ26_divadd_1 : List UInt8 := dkwJ26_divadd_1 ++ dktJ26_divadd_2
def dkwJ26_divadd_0 : List UInt8 := [9, 55, 4, 43, 190, 4, 100, 54, 6, 21, 6, 155, 0, 51, 43, 21, 6, 46, 133, 20, 0, 52, 127, 44]
abbrev dktJ26_divadd_0 : List UInt8 := dkwJ26_divadd_0 ++ dktJ26_divadd_1
theorem dksJ26_divadd_0 : cJ26_divadd.data.toList.drop 0 = dktJ26_divadd_0 := by decide +kernel
theorem dksJ26_divadd_1 : cJ26_divadd.data.toList.drop 24 = dktJ26_divadd_1 := dk_seg dksJ26_divadd_0 24 rfl rfl
theorem dksJ26_divadd_2 : cJ26_divadd.data.toList.drop 48 = dktJ26_divadd_2 := dk_seg dksJ26_divadd_1 24 rfl rfl
theorem dJ26_divadd_0 : decode cJ26_divadd 0 = .ok (.lconst 0, 1) := dk_9 (dk_at dksJ26_divadd_0 0 rfl rfl)
theorem dJ26_divadd_1 : decode cJ26_divadd 1 = .ok (.lstore 4, 2) := dk_55 4 (dk_at dksJ26_divadd_0 1 rfl rfl)
theorem dJ26_divadd_3 : decode cJ26_divadd 3 = .ok (.aload_n 1, 1) := dk_43 (dk_at dksJ26_divadd_0 3 rfl rfl)
theorem dJ26_divadd_4 : decode cJ26_divadd 4 = .ok (.arraylength, 1) := dk_190 (dk_at dksJ26_divadd_0 4 rfl rfl)
theorem dJ26_divadd_5 : decode cJ26_divadd 5 = .ok (.iconst 1, 1) := dk_4 (dk_at dksJ26_divadd_0 5 rfl rfl)
theorem dJ26_divadd_6 : decode cJ26_divadd 6 = .ok (.isub, 1) := dk_100 (dk_at dksJ26_divadd_0 6 rfl rfl)
theorem dJ26_divadd_7 : decode cJ26_divadd 7 = .ok (.istore 6, 2) := dk_54 6 (dk_at dksJ26_divadd_0 7 rfl rfl)
theorem dJ26_divadd_9 : decode cJ26_divadd 9 = .ok (.iload 6, 2) := dk_21 6 (dk_at dksJ26_divadd_0 9 rfl rfl)
theorem dJ26_divadd_11 : decode cJ26_divadd 11 = .ok (.ifCond .lt 51, 3) := dk_155 0 51 (dk_at dksJ26_divadd_0 11 rfl rfl)
theorem dJ26_divadd_14 : decode cJ26_divadd 14 = .ok (.aload_n 1, 1) := dk_43 (dk_at dksJ26_divadd_0 14 rfl rfl)
theorem dJ26_divadd_15 : decode cJ26_divadd 15 = .ok (.iload 6, 2) := dk_21 6 (dk_at dksJ26_divadd_0 15 rfl rfl)
theorem dJ26_divadd_17 : decode cJ26_divadd 17 = .ok (.iaload, 1) := dk_46 (dk_at dksJ26_divadd_0 17 rfl rfl)
theorem dJ26_divadd_18 : decode cJ26_divadd 18 = .ok (.i2l, 1) := dk_133 (dk_at dksJ26_divadd_0 18 rfl rfl)
theorem dJ26_divadd_19 : decode cJ26_divadd 19 = .ok (.ldc2_w 52, 3) := dk_20 0 52 (dk_at dksJ26_divadd_0 19 rfl rfl)
theorem dJ26_divadd_22 : decode cJ26_divadd 22 = .ok (.land, 1) := dk_127 (dk_at dksJ26_divadd_0 22 rfl rfl)
theorem dJ26_divadd_23 : decode cJ26_divadd 23 = .ok (.aload_n 2, 1) := dk_44 (dk_at dksJ26_divadd_0 23 rfl rfl)
theorem dJ26_divadd_24 : decode cJ26_divadd 24 = .ok (.iload 6, 2) := dk_21 6 (dk_at dksJ26_divadd_1 0 rfl rfl)
theorem dJ26_divadd_26 : decode cJ26_divadd 26 = .ok (.iload_n 3, 1) := dk_29 (dk_at dksJ26_divadd_1 2 rfl rfl)
theorem dJ26_divadd_27 : decode cJ26_divadd 27 = .ok (.iadd, 1) := dk_96 (dk_at dksJ26_divadd_1 3 rfl rfl)
theorem dJ26_divadd_28 : decode cJ26_divadd 28 = .ok (.iaload, 1) := dk_46 (dk_at dksJ26_divadd_1 4 rfl rfl)
theorem dJ26_divadd_29 : decode cJ26_divadd 29 = .ok (.i2l, 1) := dk_133 (dk_at dksJ26_divadd_1 5 rfl rfl)
theorem dJ26_divadd_30 : decode cJ26_divadd 30 = .ok (.ldc2_w 52, 3) := dk_20 0 52 (dk_at dksJ26_divadd_1 6 rfl rfl)
theorem dJ26_divadd_33 : decode cJ26_divadd 33 = .ok (.land, 1) := dk_127 (dk_at dksJ26_divadd_1 9 rfl rfl)
theorem dJ26_divadd_34 : decode cJ26_divadd 34 = .ok (.ladd, 1) := dk_97 (dk_at dksJ26_divadd_1 10 rfl rfl)
theorem dJ26_divadd_35 : decode cJ26_divadd 35 = .ok (.lload 4, 2) := dk_22 4 (dk_at dksJ26_divadd_1 11 rfl rfl)
theorem dJ26_divadd_37 : decode cJ26_divadd 37 = .ok (.ladd, 1) := dk_97 (dk_at dksJ26_divadd_1 13 rfl rfl)
theorem dJ26_divadd_38 : decode cJ26_divadd 38 = .ok (.lstore 7, 2) := dk_55 7 (dk_at dksJ26_divadd_1 14 rfl rfl)
theorem dJ26_divadd_40 : decode cJ26_divadd 40 = .ok (.aload_n 2, 1) := dk_44 (dk_at dksJ26_divadd_1 16 rfl rfl)
theorem dJ26_divadd_41 : decode cJ26_divadd 41 = .ok (.iload 6, 2) := dk_21 6 (dk_at dksJ26_divadd_1 17 rfl rfl)
theorem dJ26_divadd_43 : decode cJ26_divadd 43 = .ok (.iload_n 3, 1) := dk_29 (dk_at dksJ26_divadd_1 19 rfl rfl)
theorem dJ26_divadd_44 : decode cJ26_divadd 44 = .ok (.iadd, 1) := dk_96 (dk_at dksJ26_divadd_1 20 rfl rfl)
theorem dJ26_divadd_45 : decode cJ26_divadd 45 = .ok (.lload 7, 2) := dk_22 7 (dk_at dksJ26_divadd_1 21 rfl rfl)
theorem dJ26_divadd_47 : decode cJ26_divadd 47 = .ok (.l2i, 1) := dk_136 (dk_at dksJ26_divadd_1 23 rfl rfl)
theorem dJ26_divadd_48 : decode cJ26_divadd 48 = .ok (.iastore, 1) := dk_79 (dk_at dksJ26_divadd_2 0 rfl rfl)
theorem dJ26_divadd_49 : decode cJ26_divadd 49 = .ok (.lload 7, 2) := dk_22 7 (dk_at dksJ26_divadd_2 1 rfl rfl)
theorem dJ26_divadd_51 : decode cJ26_divadd 51 = .ok (.bipush 32, 2) := dk_16 32 (dk_at dksJ26_divadd_2 3 rfl rfl)
theorem dJ26_divadd_53 : decode cJ26_divadd 53 = .ok (.lushr, 1) := dk_125 (dk_at dksJ26_divadd_2 5 rfl rfl)
theorem dJ26_divadd_54 : decode cJ26_divadd 54 = .ok (.lstore 4, 2) := dk_55 4 (dk_at dksJ26_divadd_2 6 rfl rfl)
theorem dJ26_divadd_56 : decode cJ26_divadd 56 = .ok (.iinc 6 (-1), 3) := dk_132 6 255 (dk_at dksJ26_divadd_2 8 rfl rfl)
theorem dJ26_divadd_59 : decode cJ26_divadd 59 = .ok (.goto (-50), 3) := dk_167 255 206 (dk_at dksJ26_divadd_2 11 rfl rfl)
theorem dJ26_divadd_62 : decode cJ26_divadd 62 = .ok (.lload 4, 2) := dk_22 4 (dk_at dksJ26_divadd_2 14 rfl rfl)
theorem dJ26_divadd_64 : decode cJ26_divadd 64 = .ok (.l2i, 1) := dk_136 (dk_at dksJ26_divadd_2 16 rfl rfl)
theorem dJ26_divadd_65 : decode cJ26_divadd 65 = .ok (.ireturn, 1) := dk_172 (dk_at dksJ26_divadd_2 17 rfl rfl)
abbrev cJ26_mulsubBorrow : ByteArray := prog_33_method_40_code
def yJ26_mulsubBorrow : MethodName := ⟨RJ26, "mulsubBorrow", "([I[IIII)I"⟩
def dkwJ26_mulsubBorrow_4 : List UInt8 := [132, 10, 255, 167, 255, 184, 22, 8, 136, 172]
abbrev dktJ26_mulsubBorrow_4 : List UInt8 := dkwJ26_mulsubBorrow_4 ++ []
def dkwJ26_mulsubBorrow_3 : List UInt8 := [22, 11, 136, 2, 130, 133, 20, 0, 52, 127, 148, 158, 0, 7, 4, 167, 0, 4, 3, 133, 97, 55, 8]
abbrev dktJ26_mulsubBorrow_3 : List UInt8 := dkwJ26_mulsubBorrow_3 ++ dktJ26_mulsubBorrow_4
def dkwJ26_mulsubBorrow_2 : List UInt8 := [21, 5, 132, 5, 255, 46, 133, 22, 11, 101, 55, 13, 22, 11, 16, 32, 125, 22, 13, 20, 0, 52, 127]
abbrev dktJ26_mulsubBorrow_2 : List UInt8 := dkwJ26_mulsubBorrow_2 ++ dktJ26_mulsubBorrow_3
def dkwJ26_mulsubBorrow_1 : List UInt8 := [21, 10, 155, 0, 73, 44, 21, 10, 46, 133, 20, 0, 52, 127, 22, 6, 105, 22, 8, 97, 55, 11, 43]
abbrev dktJ26_mulsubBorrow_1 : List UInt8 := dkwJ26_mulsubBorrow_1 ++ dktJ26_mulsubBorrow_2
def dkwJ26_mulsubBorrow_0 : List UInt8 := [29, 133, 20, 0, 52, 127, 55, 6, 9, 55, 8, 21, 5, 21, 4, 96, 54, 5, 21, 4, 4, 100, 54, 10]
abbrev dktJ26_mulsubBorrow_0 : List UInt8 := dkwJ26_mulsubBorrow_0 ++ dktJ26_mulsubBorrow_1
theorem dksJ26_mulsubBorrow_0 : cJ26_mulsubBorrow.data.toList.drop 0 = dktJ26_mulsubBorrow_0 := by decide +kernel
theorem dksJ26_mulsubBorrow_1 : cJ26_mulsubBorrow.data.toList.drop 24 = dktJ26_mulsubBorrow_1 := dk_seg dksJ26_mulsubBorrow_0 24 rfl rfl
theorem dksJ26_mulsubBorrow_2 : cJ26_mulsubBorrow.data.toList.drop 47 = dktJ26_mulsubBorrow_2 := dk_seg dksJ26_mulsubBorrow_1 23 rfl rfl
theorem dksJ26_mulsubBorrow_3 : cJ26_mulsubBorrow.data.toList.drop 70 = dktJ26_mulsubBorrow_3 := dk_seg dksJ26_mulsubBorrow_2 23 rfl rfl
theorem dksJ26_mulsubBorrow_4 : cJ26_mulsubBorrow.data.toList.drop 93 = dktJ26_mulsubBorrow_4 := dk_seg dksJ26_mulsubBorrow_3 23 rfl rfl
theorem dJ26_mulsubBorrow_0 : decode cJ26_mulsubBorrow 0 = .ok (.iload_n 3, 1) := dk_29 (dk_at dksJ26_mulsubBorrow_0 0 rfl rfl)
theorem dJ26_mulsubBorrow_1 : decode cJ26_mulsubBorrow 1 = .ok (.i2l, 1) := dk_133 (dk_at dksJ26_mulsubBorrow_0 1 rfl rfl)
theorem dJ26_mulsubBorrow_2 : decode cJ26_mulsubBorrow 2 = .ok (.ldc2_w 52, 3) := dk_20 0 52 (dk_at dksJ26_mulsubBorrow_0 2 rfl rfl)
theorem dJ26_mulsubBorrow_5 : decode cJ26_mulsubBorrow 5 = .ok (.land, 1) := dk_127 (dk_at dksJ26_mulsubBorrow_0 5 rfl rfl)
theorem dJ26_mulsubBorrow_6 : decode cJ26_mulsubBorrow 6 = .ok (.lstore 6, 2) := dk_55 6 (dk_at dksJ26_mulsubBorrow_0 6 rfl rfl)
theorem dJ26_mulsubBorrow_8 : decode cJ26_mulsubBorrow 8 = .ok (.lconst 0, 1) := dk_9 (dk_at dksJ26_mulsubBorrow_0 8 rfl rfl)
theorem dJ26_mulsubBorrow_9 : decode cJ26_mulsubBorrow 9 = .ok (.lstore 8, 2) := dk_55 8 (dk_at dksJ26_mulsubBorrow_0 9 rfl rfl)
theorem dJ26_mulsubBorrow_11 : decode cJ26_mulsubBorrow 11 = .ok (.iload 5, 2) := dk_21 5 (dk_at dksJ26_mulsubBorrow_0 11 rfl rfl)
theorem dJ26_mulsubBorrow_13 : decode cJ26_mulsubBorrow 13 = .ok (.iload 4, 2) := dk_21 4 (dk_at dksJ26_mulsubBorrow_0 13 rfl rfl)
theorem dJ26_mulsubBorrow_15 : decode cJ26_mulsubBorrow 15 = .ok (.iadd, 1) := dk_96 (dk_at dksJ26_mulsubBorrow_0 15 rfl rfl)
theorem dJ26_mulsubBorrow_16 : decode cJ26_mulsubBorrow 16 = .ok (.istore 5, 2) := dk_54 5 (dk_at dksJ26_mulsubBorrow_0 16 rfl rfl)
theorem dJ26_mulsubBorrow_18 : decode cJ26_mulsubBorrow 18 = .ok (.iload 4, 2) := dk_21 4 (dk_at dksJ26_mulsubBorrow_0 18 rfl rfl)
theorem dJ26_mulsubBorrow_20 : decode cJ26_mulsubBorrow 20 = .ok (.iconst 1, 1) := dk_4 (dk_at dksJ26_mulsubBorrow_0 20 rfl rfl)
theorem dJ26_mulsubBorrow_21 : decode cJ26_mulsubBorrow 21 = .ok (.isub, 1) := dk_100 (dk_at dksJ26_mulsubBorrow_0 21 rfl rfl)
theorem dJ26_mulsubBorrow_22 : decode cJ26_mulsubBorrow 22 = .ok (.istore 10, 2) := dk_54 10 (dk_at dksJ26_mulsubBorrow_0 22 rfl rfl)
theorem dJ26_mulsubBorrow_24 : decode cJ26_mulsubBorrow 24 = .ok (.iload 10, 2) := dk_21 10 (dk_at dksJ26_mulsubBorrow_1 0 rfl rfl)
theorem dJ26_mulsubBorrow_26 : decode cJ26_mulsubBorrow 26 = .ok (.ifCond .lt 73, 3) := dk_155 0 73 (dk_at dksJ26_mulsubBorrow_1 2 rfl rfl)
theorem dJ26_mulsubBorrow_29 : decode cJ26_mulsubBorrow 29 = .ok (.aload_n 2, 1) := dk_44 (dk_at dksJ26_mulsubBorrow_1 5 rfl rfl)
theorem dJ26_mulsubBorrow_30 : decode cJ26_mulsubBorrow 30 = .ok (.iload 10, 2) := dk_21 10 (dk_at dksJ26_mulsubBorrow_1 6 rfl rfl)
theorem dJ26_mulsubBorrow_32 : decode cJ26_mulsubBorrow 32 = .ok (.iaload, 1) := dk_46 (dk_at dksJ26_mulsubBorrow_1 8 rfl rfl)
theorem dJ26_mulsubBorrow_33 : decode cJ26_mulsubBorrow 33 = .ok (.i2l, 1) := dk_133 (dk_at dksJ26_mulsubBorrow_1 9 rfl rfl)
theorem dJ26_mulsubBorrow_34 : decode cJ26_mulsubBorrow 34 = .ok (.ldc2_w 52, 3) := dk_20 0 52 (dk_at dksJ26_mulsubBorrow_1 10 rfl rfl)
theorem dJ26_mulsubBorrow_37 : decode cJ26_mulsubBorrow 37 = .ok (.land, 1) := dk_127 (dk_at dksJ26_mulsubBorrow_1 13 rfl rfl)
theorem dJ26_mulsubBorrow_38 : decode cJ26_mulsubBorrow 38 = .ok (.lload 6, 2) := dk_22 6 (dk_at dksJ26_mulsubBorrow_1 14 rfl rfl)
theorem dJ26_mulsubBorrow_40 : decode cJ26_mulsubBorrow 40 = .ok (.lmul, 1) := dk_105 (dk_at dksJ26_mulsubBorrow_1 16 rfl rfl)
theorem dJ26_mulsubBorrow_41 : decode cJ26_mulsubBorrow 41 = .ok (.lload 8, 2) := dk_22 8 (dk_at dksJ26_mulsubBorrow_1 17 rfl rfl)
theorem dJ26_mulsubBorrow_43 : decode cJ26_mulsubBorrow 43 = .ok (.ladd, 1) := dk_97 (dk_at dksJ26_mulsubBorrow_1 19 rfl rfl)
theorem dJ26_mulsubBorrow_44 : decode cJ26_mulsubBorrow 44 = .ok (.lstore 11, 2) := dk_55 11 (dk_at dksJ26_mulsubBorrow_1 20 rfl rfl)
theorem dJ26_mulsubBorrow_46 : decode cJ26_mulsubBorrow 46 = .ok (.aload_n 1, 1) := dk_43 (dk_at dksJ26_mulsubBorrow_1 22 rfl rfl)
theorem dJ26_mulsubBorrow_47 : decode cJ26_mulsubBorrow 47 = .ok (.iload 5, 2) := dk_21 5 (dk_at dksJ26_mulsubBorrow_2 0 rfl rfl)
theorem dJ26_mulsubBorrow_49 : decode cJ26_mulsubBorrow 49 = .ok (.iinc 5 (-1), 3) := dk_132 5 255 (dk_at dksJ26_mulsubBorrow_2 2 rfl rfl)
theorem dJ26_mulsubBorrow_52 : decode cJ26_mulsubBorrow 52 = .ok (.iaload, 1) := dk_46 (dk_at dksJ26_mulsubBorrow_2 5 rfl rfl)
theorem dJ26_mulsubBorrow_53 : decode cJ26_mulsubBorrow 53 = .ok (.i2l, 1) := dk_133 (dk_at dksJ26_mulsubBorrow_2 6 rfl rfl)
theorem dJ26_mulsubBorrow_54 : decode cJ26_mulsubBorrow 54 = .ok (.lload 11, 2) := dk_22 11 (dk_at dksJ26_mulsubBorrow_2 7 rfl rfl)
theorem dJ26_mulsubBorrow_56 : decode cJ26_mulsubBorrow 56 = .ok (.lsub, 1) := dk_101 (dk_at dksJ26_mulsubBorrow_2 9 rfl rfl)
theorem dJ26_mulsubBorrow_57 : decode cJ26_mulsubBorrow 57 = .ok (.lstore 13, 2) := dk_55 13 (dk_at dksJ26_mulsubBorrow_2 10 rfl rfl)
theorem dJ26_mulsubBorrow_59 : decode cJ26_mulsubBorrow 59 = .ok (.lload 11, 2) := dk_22 11 (dk_at dksJ26_mulsubBorrow_2 12 rfl rfl)
theorem dJ26_mulsubBorrow_61 : decode cJ26_mulsubBorrow 61 = .ok (.bipush 32, 2) := dk_16 32 (dk_at dksJ26_mulsubBorrow_2 14 rfl rfl)
theorem dJ26_mulsubBorrow_63 : decode cJ26_mulsubBorrow 63 = .ok (.lushr, 1) := dk_125 (dk_at dksJ26_mulsubBorrow_2 16 rfl rfl)
theorem dJ26_mulsubBorrow_64 : decode cJ26_mulsubBorrow 64 = .ok (.lload 13, 2) := dk_22 13 (dk_at dksJ26_mulsubBorrow_2 17 rfl rfl)
theorem dJ26_mulsubBorrow_66 : decode cJ26_mulsubBorrow 66 = .ok (.ldc2_w 52, 3) := dk_20 0 52 (dk_at dksJ26_mulsubBorrow_2 19 rfl rfl)
theorem dJ26_mulsubBorrow_69 : decode cJ26_mulsubBorrow 69 = .ok (.land, 1) := dk_127 (dk_at dksJ26_mulsubBorrow_2 22 rfl rfl)
theorem dJ26_mulsubBorrow_70 : decode cJ26_mulsubBorrow 70 = .ok (.lload 11, 2) := dk_22 11 (dk_at dksJ26_mulsubBorrow_3 0 rfl rfl)
theorem dJ26_mulsubBorrow_72 : decode cJ26_mulsubBorrow 72 = .ok (.l2i, 1) := dk_136 (dk_at dksJ26_mulsubBorrow_3 2 rfl rfl)
theorem dJ26_mulsubBorrow_73 : decode cJ26_mulsubBorrow 73 = .ok (.iconst (-1), 1) := dk_2 (dk_at dksJ26_mulsubBorrow_3 3 rfl rfl)
theorem dJ26_mulsubBorrow_74 : decode cJ26_mulsubBorrow 74 = .ok (.ixor, 1) := dk_130 (dk_at dksJ26_mulsubBorrow_3 4 rfl rfl)
theorem dJ26_mulsubBorrow_75 : decode cJ26_mulsubBorrow 75 = .ok (.i2l, 1) := dk_133 (dk_at dksJ26_mulsubBorrow_3 5 rfl rfl)
theorem dJ26_mulsubBorrow_76 : decode cJ26_mulsubBorrow 76 = .ok (.ldc2_w 52, 3) := dk_20 0 52 (dk_at dksJ26_mulsubBorrow_3 6 rfl rfl)
theorem dJ26_mulsubBorrow_79 : decode cJ26_mulsubBorrow 79 = .ok (.land, 1) := dk_127 (dk_at dksJ26_mulsubBorrow_3 9 rfl rfl)
theorem dJ26_mulsubBorrow_80 : decode cJ26_mulsubBorrow 80 = .ok (.lcmp, 1) := dk_148 (dk_at dksJ26_mulsubBorrow_3 10 rfl rfl)
theorem dJ26_mulsubBorrow_81 : decode cJ26_mulsubBorrow 81 = .ok (.ifCond .le 7, 3) := dk_158 0 7 (dk_at dksJ26_mulsubBorrow_3 11 rfl rfl)
theorem dJ26_mulsubBorrow_84 : decode cJ26_mulsubBorrow 84 = .ok (.iconst 1, 1) := dk_4 (dk_at dksJ26_mulsubBorrow_3 14 rfl rfl)
theorem dJ26_mulsubBorrow_85 : decode cJ26_mulsubBorrow 85 = .ok (.goto 4, 3) := dk_167 0 4 (dk_at dksJ26_mulsubBorrow_3 15 rfl rfl)
theorem dJ26_mulsubBorrow_88 : decode cJ26_mulsubBorrow 88 = .ok (.iconst 0, 1) := dk_3 (dk_at dksJ26_mulsubBorrow_3 18 rfl rfl)
theorem dJ26_mulsubBorrow_89 : decode cJ26_mulsubBorrow 89 = .ok (.i2l, 1) := dk_133 (dk_at dksJ26_mulsubBorrow_3 19 rfl rfl)
theorem dJ26_mulsubBorrow_90 : decode cJ26_mulsubBorrow 90 = .ok (.ladd, 1) := dk_97 (dk_at dksJ26_mulsubBorrow_3 20 rfl rfl)
theorem dJ26_mulsubBorrow_91 : decode cJ26_mulsubBorrow 91 = .ok (.lstore 8, 2) := dk_55 8 (dk_at dksJ26_mulsubBorrow_3 21 rfl rfl)
theorem dJ26_mulsubBorrow_93 : decode cJ26_mulsubBorrow 93 = .ok (.iinc 10 (-1), 3) := dk_132 10 255 (dk_at dksJ26_mulsubBorrow_4 0 rfl rfl)
theorem dJ26_mulsubBorrow_96 : decode cJ26_mulsubBorrow 96 = .ok (.goto (-72), 3) := dk_167 255 184 (dk_at dksJ26_mulsubBorrow_4 3 rfl rfl)
theorem dJ26_mulsubBorrow_99 : decode cJ26_mulsubBorrow 99 = .ok (.lload 8, 2) := dk_22 8 (dk_at dksJ26_mulsubBorrow_4 6 rfl rfl)
theorem dJ26_mulsubBorrow_101 : decode cJ26_mulsubBorrow 101 = .ok (.l2i, 1) := dk_136 (dk_at dksJ26_mulsubBorrow_4 8 rfl rfl)
theorem dJ26_mulsubBorrow_102 : decode cJ26_mulsubBorrow 102 = .ok (.ireturn, 1) := dk_172 (dk_at dksJ26_mulsubBorrow_4 9 rfl rfl)
abbrev cJ26_isZero : ByteArray := prog_33_method_29_code
def yJ26_isZero : MethodName := ⟨RJ26, "isZero", "()Z"⟩
def dkwJ26_isZero_0 : List UInt8 := [42, 180, 0, 21, 154, 0, 7, 4, 167, 0, 4, 3, 172]
abbrev dktJ26_isZero_0 : List UInt8 := dkwJ26_isZero_0 ++ []
theorem dksJ26_isZero_0 : cJ26_isZero.data.toList.drop 0 = dktJ26_isZero_0 := by decide +kernel
theorem dJ26_isZero_0 : decode cJ26_isZero 0 = .ok (.aload_n 0, 1) := dk_42 (dk_at dksJ26_isZero_0 0 rfl rfl)
theorem dJ26_isZero_1 : decode cJ26_isZero 1 = .ok (.getfield 21, 3) := dk_180 0 21 (dk_at dksJ26_isZero_0 1 rfl rfl)
theorem dJ26_isZero_4 : decode cJ26_isZero 4 = .ok (.ifCond .ne 7, 3) := dk_154 0 7 (dk_at dksJ26_isZero_0 4 rfl rfl)
theorem dJ26_isZero_7 : decode cJ26_isZero 7 = .ok (.iconst 1, 1) := dk_4 (dk_at dksJ26_isZero_0 7 rfl rfl)
theorem dJ26_isZero_8 : decode cJ26_isZero 8 = .ok (.goto 4, 3) := dk_167 0 4 (dk_at dksJ26_isZero_0 8 rfl rfl)
theorem dJ26_isZero_11 : decode cJ26_isZero 11 = .ok (.iconst 0, 1) := dk_3 (dk_at dksJ26_isZero_0 11 rfl rfl)
theorem dJ26_isZero_12 : decode cJ26_isZero 12 = .ok (.ireturn, 1) := dk_172 (dk_at dksJ26_isZero_0 12 rfl rfl)
abbrev cJ26_reset : ByteArray := prog_33_method_14_code
def yJ26_reset : MethodName := ⟨RJ26, "reset", "()V"⟩
def dkwJ26_reset_0 : List UInt8 := [42, 42, 3, 90, 181, 0, 21, 181, 0, 11, 177]
abbrev dktJ26_reset_0 : List UInt8 := dkwJ26_reset_0 ++ []
theorem dksJ26_reset_0 : cJ26_reset.data.toList.drop 0 = dktJ26_reset_0 := by decide +kernel
theorem dJ26_reset_0 : decode cJ26_reset 0 = .ok (.aload_n 0, 1) := dk_42 (dk_at dksJ26_reset_0 0 rfl rfl)
theorem dJ26_reset_1 : decode cJ26_reset 1 = .ok (.aload_n 0, 1) := dk_42 (dk_at dksJ26_reset_0 1 rfl rfl)
theorem dJ26_reset_2 : decode cJ26_reset 2 = .ok (.iconst 0, 1) := dk_3 (dk_at dksJ26_reset_0 2 rfl rfl)
theorem dJ26_reset_3 : decode cJ26_reset 3 = .ok (.dup_x1, 1) := dk_90 (dk_at dksJ26_reset_0 3 rfl rfl)
theorem dJ26_reset_4 : decode cJ26_reset 4 = .ok (.putfield 21, 3) := dk_181 0 21 (dk_at dksJ26_reset_0 4 rfl rfl)
theorem dJ26_reset_7 : decode cJ26_reset 7 = .ok (.putfield 11, 3) := dk_181 0 11 (dk_at dksJ26_reset_0 7 rfl rfl)
theorem dJ26_reset_10 : decode cJ26_reset 10 = .ok (.return_, 1) := dk_177 (dk_at dksJ26_reset_0 10 rfl rfl)
abbrev cJ26_toBigInteger : ByteArray := prog_33_method_9_code
def yJ26_toBigInteger : MethodName := ⟨RJ26, "toBigInteger", "(I)Ljava/math/BigInteger;"⟩
def dkwJ26_toBigInteger_1 : List UInt8 := [183, 0, 62, 176]
abbrev dktJ26_toBigInteger_1 : List UInt8 := dkwJ26_toBigInteger_1 ++ []
def dkwJ26_toBigInteger_0 : List UInt8 := [42, 180, 0, 21, 153, 0, 7, 27, 154, 0, 7, 178, 0, 54, 176, 187, 0, 1, 89, 42, 182, 0, 58, 27]
abbrev dktJ26_toBigInteger_0 : List UInt8 := dkwJ26_toBigInteger_0 ++ dktJ26_toBigInteger_1
theorem dksJ26_toBigInteger_0 : cJ26_toBigInteger.data.toList.drop 0 = dktJ26_toBigInteger_0 := by decide +kernel
theorem dksJ26_toBigInteger_1 : cJ26_toBigInteger.data.toList.drop 24 = dktJ26_toBigInteger_1 := dk_seg dksJ26_toBigInteger_0 24 rfl rfl
theorem dJ26_toBigInteger_0 : decode cJ26_toBigInteger 0 = .ok (.aload_n 0, 1) := dk_42 (dk_at dksJ26_toBigInteger_0 0 rfl rfl)
theorem dJ26_toBigInteger_1 : decode cJ26_toBigInteger 1 = .ok (.getfield 21, 3) := dk_180 0 21 (dk_at dksJ26_toBigInteger_0 1 rfl rfl)
theorem dJ26_toBigInteger_4 : decode cJ26_toBigInteger 4 = .ok (.ifCond .eq 7, 3) := dk_153 0 7 (dk_at dksJ26_toBigInteger_0 4 rfl rfl)
theorem dJ26_toBigInteger_7 : decode cJ26_toBigInteger 7 = .ok (.iload_n 1, 1) := dk_27 (dk_at dksJ26_toBigInteger_0 7 rfl rfl)
theorem dJ26_toBigInteger_8 : decode cJ26_toBigInteger 8 = .ok (.ifCond .ne 7, 3) := dk_154 0 7 (dk_at dksJ26_toBigInteger_0 8 rfl rfl)
theorem dJ26_toBigInteger_11 : decode cJ26_toBigInteger 11 = .ok (.getstatic 54, 3) := dk_178 0 54 (dk_at dksJ26_toBigInteger_0 11 rfl rfl)
theorem dJ26_toBigInteger_14 : decode cJ26_toBigInteger 14 = .ok (.areturn, 1) := dk_176 (dk_at dksJ26_toBigInteger_0 14 rfl rfl)
theorem dJ26_toBigInteger_15 : decode cJ26_toBigInteger 15 = .ok (.new 1, 3) := dk_187 0 1 (dk_at dksJ26_toBigInteger_0 15 rfl rfl)
theorem dJ26_toBigInteger_18 : decode cJ26_toBigInteger 18 = .ok (.dup, 1) := dk_89 (dk_at dksJ26_toBigInteger_0 18 rfl rfl)
theorem dJ26_toBigInteger_19 : decode cJ26_toBigInteger 19 = .ok (.aload_n 0, 1) := dk_42 (dk_at dksJ26_toBigInteger_0 19 rfl rfl)
theorem dJ26_toBigInteger_20 : decode cJ26_toBigInteger 20 = .ok (.invokevirtual 58, 3) := dk_182 0 58 (dk_at dksJ26_toBigInteger_0 20 rfl rfl)
theorem dJ26_toBigInteger_23 : decode cJ26_toBigInteger 23 = .ok (.iload_n 1, 1) := dk_27 (dk_at dksJ26_toBigInteger_0 23 rfl rfl)
theorem dJ26_toBigInteger_24 : decode cJ26_toBigInteger 24 = .ok (.invokespecial 62, 3) := dk_183 0 62 (dk_at dksJ26_toBigInteger_1 0 rfl rfl)
theorem dJ26_toBigInteger_27 : decode cJ26_toBigInteger 27 = .ok (.areturn, 1) := dk_176 (dk_at dksJ26_toBigInteger_1 3 rfl rfl)
abbrev cJ26_getMagnitudeArray : ByteArray := prog_33_method_7_code
def yJ26_getMagnitudeArray : MethodName := ⟨RJ26, "getMagnitudeArray", "()[I"⟩
def dkwJ26_getMagnitudeArray_2 : List UInt8 := [42, 3, 181, 0, 11, 42, 43, 190, 181, 0, 21, 42, 43, 181, 0, 17, 42, 180, 0, 17, 176]
abbrev dktJ26_getMagnitudeArray_2 : List UInt8 := dkwJ26_getMagnitudeArray_2 ++ []
def dkwJ26_getMagnitudeArray_1 : List UInt8 := [180, 0, 11, 42, 180, 0, 11, 42, 180, 0, 21, 96, 184, 0, 33, 76, 42, 180, 0, 17, 3, 184, 0, 37]
abbrev dktJ26_getMagnitudeArray_1 : List UInt8 := dkwJ26_getMagnitudeArray_1 ++ dktJ26_getMagnitudeArray_2
def dkwJ26_getMagnitudeArray_0 : List UInt8 := [42, 180, 0, 11, 157, 0, 15, 42, 180, 0, 17, 190, 42, 180, 0, 21, 159, 0, 48, 42, 180, 0, 17, 42]
abbrev dktJ26_getMagnitudeArray_0 : List UInt8 := dkwJ26_getMagnitudeArray_0 ++ dktJ26_getMagnitudeArray_1
theorem dksJ26_getMagnitudeArray_0 : cJ26_getMagnitudeArray.data.toList.drop 0 = dktJ26_getMagnitudeArray_0 := by decide +kernel
theorem dksJ26_getMagnitudeArray_1 : cJ26_getMagnitudeArray.data.toList.drop 24 = dktJ26_getMagnitudeArray_1 := dk_seg dksJ26_getMagnitudeArray_0 24 rfl rfl
theorem dksJ26_getMagnitudeArray_2 : cJ26_getMagnitudeArray.data.toList.drop 48 = dktJ26_getMagnitudeArray_2 := dk_seg dksJ26_getMagnitudeArray_1 24 rfl rfl
theorem dJ26_getMagnitudeArray_0 : decode cJ26_getMagnitudeArray 0 = .ok (.aload_n 0, 1) := dk_42 (dk_at dksJ26_getMagnitudeArray_0 0 rfl rfl)
theorem dJ26_getMagnitudeArray_1 : decode cJ26_getMagnitudeArray 1 = .ok (.getfield 11, 3) := dk_180 0 11 (dk_at dksJ26_getMagnitudeArray_0 1 rfl rfl)
theorem dJ26_getMagnitudeArray_4 : decode cJ26_getMagnitudeArray 4 = .ok (.ifCond .gt 15, 3) := dk_157 0 15 (dk_at dksJ26_getMagnitudeArray_0 4 rfl rfl)
theorem dJ26_getMagnitudeArray_7 : decode cJ26_getMagnitudeArray 7 = .ok (.aload_n 0, 1) := dk_42 (dk_at dksJ26_getMagnitudeArray_0 7 rfl rfl)
theorem dJ26_getMagnitudeArray_8 : decode cJ26_getMagnitudeArray 8 = .ok (.getfield 17, 3) := dk_180 0 17 (dk_at dksJ26_getMagnitudeArray_0 8 rfl rfl)
theorem dJ26_getMagnitudeArray_11 : decode cJ26_getMagnitudeArray 11 = .ok (.arraylength, 1) := dk_190 (dk_at dksJ26_getMagnitudeArray_0 11 rfl rfl)
theorem dJ26_getMagnitudeArray_12 : decode cJ26_getMagnitudeArray 12 = .ok (.aload_n 0, 1) := dk_42 (dk_at dksJ26_getMagnitudeArray_0 12 rfl rfl)
theorem dJ26_getMagnitudeArray_13 : decode cJ26_getMagnitudeArray 13 = .ok (.getfield 21, 3) := dk_180 0 21 (dk_at dksJ26_getMagnitudeArray_0 13 rfl rfl)
theorem dJ26_getMagnitudeArray_16 : decode cJ26_getMagnitudeArray 16 = .ok (.if_icmp .eq 48, 3) := dk_159 0 48 (dk_at dksJ26_getMagnitudeArray_0 16 rfl rfl)
theorem dJ26_getMagnitudeArray_19 : decode cJ26_getMagnitudeArray 19 = .ok (.aload_n 0, 1) := dk_42 (dk_at dksJ26_getMagnitudeArray_0 19 rfl rfl)
theorem dJ26_getMagnitudeArray_20 : decode cJ26_getMagnitudeArray 20 = .ok (.getfield 17, 3) := dk_180 0 17 (dk_at dksJ26_getMagnitudeArray_0 20 rfl rfl)
theorem dJ26_getMagnitudeArray_23 : decode cJ26_getMagnitudeArray 23 = .ok (.aload_n 0, 1) := dk_42 (dk_at dksJ26_getMagnitudeArray_0 23 rfl rfl)
theorem dJ26_getMagnitudeArray_24 : decode cJ26_getMagnitudeArray 24 = .ok (.getfield 11, 3) := dk_180 0 11 (dk_at dksJ26_getMagnitudeArray_1 0 rfl rfl)
theorem dJ26_getMagnitudeArray_27 : decode cJ26_getMagnitudeArray 27 = .ok (.aload_n 0, 1) := dk_42 (dk_at dksJ26_getMagnitudeArray_1 3 rfl rfl)
theorem dJ26_getMagnitudeArray_28 : decode cJ26_getMagnitudeArray 28 = .ok (.getfield 11, 3) := dk_180 0 11 (dk_at dksJ26_getMagnitudeArray_1 4 rfl rfl)
theorem dJ26_getMagnitudeArray_31 : decode cJ26_getMagnitudeArray 31 = .ok (.aload_n 0, 1) := dk_42 (dk_at dksJ26_getMagnitudeArray_1 7 rfl rfl)
theorem dJ26_getMagnitudeArray_32 : decode cJ26_getMagnitudeArray 32 = .ok (.getfield 21, 3) := dk_180 0 21 (dk_at dksJ26_getMagnitudeArray_1 8 rfl rfl)
theorem dJ26_getMagnitudeArray_35 : decode cJ26_getMagnitudeArray 35 = .ok (.iadd, 1) := dk_96 (dk_at dksJ26_getMagnitudeArray_1 11 rfl rfl)
theorem dJ26_getMagnitudeArray_36 : decode cJ26_getMagnitudeArray 36 = .ok (.invokestatic 33, 3) := dk_184 0 33 (dk_at dksJ26_getMagnitudeArray_1 12 rfl rfl)
theorem dJ26_getMagnitudeArray_39 : decode cJ26_getMagnitudeArray 39 = .ok (.astore_n 1, 1) := dk_76 (dk_at dksJ26_getMagnitudeArray_1 15 rfl rfl)
theorem dJ26_getMagnitudeArray_40 : decode cJ26_getMagnitudeArray 40 = .ok (.aload_n 0, 1) := dk_42 (dk_at dksJ26_getMagnitudeArray_1 16 rfl rfl)
theorem dJ26_getMagnitudeArray_41 : decode cJ26_getMagnitudeArray 41 = .ok (.getfield 17, 3) := dk_180 0 17 (dk_at dksJ26_getMagnitudeArray_1 17 rfl rfl)
theorem dJ26_getMagnitudeArray_44 : decode cJ26_getMagnitudeArray 44 = .ok (.iconst 0, 1) := dk_3 (dk_at dksJ26_getMagnitudeArray_1 20 rfl rfl)
theorem dJ26_getMagnitudeArray_45 : decode cJ26_getMagnitudeArray 45 = .ok (.invokestatic 37, 3) := dk_184 0 37 (dk_at dksJ26_getMagnitudeArray_1 21 rfl rfl)
theorem dJ26_getMagnitudeArray_48 : decode cJ26_getMagnitudeArray 48 = .ok (.aload_n 0, 1) := dk_42 (dk_at dksJ26_getMagnitudeArray_2 0 rfl rfl)
theorem dJ26_getMagnitudeArray_49 : decode cJ26_getMagnitudeArray 49 = .ok (.iconst 0, 1) := dk_3 (dk_at dksJ26_getMagnitudeArray_2 1 rfl rfl)
theorem dJ26_getMagnitudeArray_50 : decode cJ26_getMagnitudeArray 50 = .ok (.putfield 11, 3) := dk_181 0 11 (dk_at dksJ26_getMagnitudeArray_2 2 rfl rfl)
theorem dJ26_getMagnitudeArray_53 : decode cJ26_getMagnitudeArray 53 = .ok (.aload_n 0, 1) := dk_42 (dk_at dksJ26_getMagnitudeArray_2 5 rfl rfl)
theorem dJ26_getMagnitudeArray_54 : decode cJ26_getMagnitudeArray 54 = .ok (.aload_n 1, 1) := dk_43 (dk_at dksJ26_getMagnitudeArray_2 6 rfl rfl)
theorem dJ26_getMagnitudeArray_55 : decode cJ26_getMagnitudeArray 55 = .ok (.arraylength, 1) := dk_190 (dk_at dksJ26_getMagnitudeArray_2 7 rfl rfl)
theorem dJ26_getMagnitudeArray_56 : decode cJ26_getMagnitudeArray 56 = .ok (.putfield 21, 3) := dk_181 0 21 (dk_at dksJ26_getMagnitudeArray_2 8 rfl rfl)
theorem dJ26_getMagnitudeArray_59 : decode cJ26_getMagnitudeArray 59 = .ok (.aload_n 0, 1) := dk_42 (dk_at dksJ26_getMagnitudeArray_2 11 rfl rfl)
theorem dJ26_getMagnitudeArray_60 : decode cJ26_getMagnitudeArray 60 = .ok (.aload_n 1, 1) := dk_43 (dk_at dksJ26_getMagnitudeArray_2 12 rfl rfl)
theorem dJ26_getMagnitudeArray_61 : decode cJ26_getMagnitudeArray 61 = .ok (.putfield 17, 3) := dk_181 0 17 (dk_at dksJ26_getMagnitudeArray_2 13 rfl rfl)
theorem dJ26_getMagnitudeArray_64 : decode cJ26_getMagnitudeArray 64 = .ok (.aload_n 0, 1) := dk_42 (dk_at dksJ26_getMagnitudeArray_2 16 rfl rfl)
theorem dJ26_getMagnitudeArray_65 : decode cJ26_getMagnitudeArray 65 = .ok (.getfield 17, 3) := dk_180 0 17 (dk_at dksJ26_getMagnitudeArray_2 17 rfl rfl)
theorem dJ26_getMagnitudeArray_68 : decode cJ26_getMagnitudeArray 68 = .ok (.areturn, 1) := dk_176 (dk_at dksJ26_getMagnitudeArray_2 20 rfl rfl)
abbrev cJ26_toBigInteger_2 : ByteArray := prog_33_method_10_code
def yJ26_toBigInteger_2 : MethodName := ⟨RJ26, "toBigInteger", "()Ljava/math/BigInteger;"⟩
def dkwJ26_toBigInteger_2_0 : List UInt8 := [42, 182, 0, 64, 42, 42, 182, 0, 67, 153, 0, 7, 3, 167, 0, 4, 4, 182, 0, 71, 176]
abbrev dktJ26_toBigInteger_2_0 : List UInt8 := dkwJ26_toBigInteger_2_0 ++ []
theorem dksJ26_toBigInteger_2_0 : cJ26_toBigInteger_2.data.toList.drop 0 = dktJ26_toBigInteger_2_0 := by decide +kernel
theorem dJ26_toBigInteger_2_0 : decode cJ26_toBigInteger_2 0 = .ok (.aload_n 0, 1) := dk_42 (dk_at dksJ26_toBigInteger_2_0 0 rfl rfl)
theorem dJ26_toBigInteger_2_1 : decode cJ26_toBigInteger_2 1 = .ok (.invokevirtual 64, 3) := dk_182 0 64 (dk_at dksJ26_toBigInteger_2_0 1 rfl rfl)
theorem dJ26_toBigInteger_2_4 : decode cJ26_toBigInteger_2 4 = .ok (.aload_n 0, 1) := dk_42 (dk_at dksJ26_toBigInteger_2_0 4 rfl rfl)
theorem dJ26_toBigInteger_2_5 : decode cJ26_toBigInteger_2 5 = .ok (.aload_n 0, 1) := dk_42 (dk_at dksJ26_toBigInteger_2_0 5 rfl rfl)
theorem dJ26_toBigInteger_2_6 : decode cJ26_toBigInteger_2 6 = .ok (.invokevirtual 67, 3) := dk_182 0 67 (dk_at dksJ26_toBigInteger_2_0 6 rfl rfl)
theorem dJ26_toBigInteger_2_9 : decode cJ26_toBigInteger_2 9 = .ok (.ifCond .eq 7, 3) := dk_153 0 7 (dk_at dksJ26_toBigInteger_2_0 9 rfl rfl)
theorem dJ26_toBigInteger_2_12 : decode cJ26_toBigInteger_2 12 = .ok (.iconst 0, 1) := dk_3 (dk_at dksJ26_toBigInteger_2_0 12 rfl rfl)
theorem dJ26_toBigInteger_2_13 : decode cJ26_toBigInteger_2 13 = .ok (.goto 4, 3) := dk_167 0 4 (dk_at dksJ26_toBigInteger_2_0 13 rfl rfl)
theorem dJ26_toBigInteger_2_16 : decode cJ26_toBigInteger_2 16 = .ok (.iconst 1, 1) := dk_4 (dk_at dksJ26_toBigInteger_2_0 16 rfl rfl)
theorem dJ26_toBigInteger_2_17 : decode cJ26_toBigInteger_2 17 = .ok (.invokevirtual 71, 3) := dk_182 0 71 (dk_at dksJ26_toBigInteger_2_0 17 rfl rfl)
theorem dJ26_toBigInteger_2_20 : decode cJ26_toBigInteger_2 20 = .ok (.areturn, 1) := dk_176 (dk_at dksJ26_toBigInteger_2_0 20 rfl rfl)
abbrev cJ26_subtract : ByteArray := prog_33_method_49_code
def yJ26_subtract : MethodName := ⟨RJ26, "subtract", "(Ljava/math/MutableBigInteger;)I"⟩
def dkwJ26_subtract_9 : List UInt8 := [181, 0, 11, 42, 182, 0, 64, 21, 4, 172]
abbrev dktJ26_subtract_9 : List UInt8 := dkwJ26_subtract_9 ++ []
def dkwJ26_subtract_8 : List UInt8 := [167, 255, 213, 42, 45, 181, 0, 17, 42, 21, 5, 181, 0, 21, 42, 42, 180, 0, 17, 190, 21, 5, 100]
abbrev dktJ26_subtract_8 : List UInt8 := dkwJ26_subtract_8 ++ dktJ26_subtract_9
def dkwJ26_subtract_7 : List UInt8 := [20, 0, 52, 127, 22, 6, 16, 32, 123, 97, 55, 6, 45, 21, 10, 132, 10, 255, 22, 6, 136, 79]
abbrev dktJ26_subtract_7 : List UInt8 := dkwJ26_subtract_7 ++ dktJ26_subtract_8
def dkwJ26_subtract_6 : List UInt8 := [167, 255, 192, 21, 8, 158, 0, 44, 132, 8, 255, 44, 180, 0, 17, 21, 8, 44, 180, 0, 11, 96, 46, 133]
abbrev dktJ26_subtract_6 : List UInt8 := dkwJ26_subtract_6 ++ dktJ26_subtract_7
def dkwJ26_subtract_5 : List UInt8 := [20, 0, 52, 127, 101, 22, 6, 16, 32, 123, 97, 55, 6, 45, 21, 10, 132, 10, 255, 22, 6, 136, 79]
abbrev dktJ26_subtract_5 : List UInt8 := dkwJ26_subtract_5 ++ dktJ26_subtract_6
def dkwJ26_subtract_4 : List UInt8 := [180, 0, 11, 96, 46, 133, 20, 0, 52, 127, 43, 180, 0, 17, 21, 9, 43, 180, 0, 11, 96, 46, 133]
abbrev dktJ26_subtract_4 : List UInt8 := dkwJ26_subtract_4 ++ dktJ26_subtract_5
def dkwJ26_subtract_3 : List UInt8 := [190, 4, 100, 54, 10, 21, 9, 158, 0, 65, 132, 8, 255, 132, 9, 255, 44, 180, 0, 17, 21, 8, 44]
abbrev dktJ26_subtract_3 : List UInt8 := dkwJ26_subtract_3 ++ dktJ26_subtract_4
def dkwJ26_subtract_2 : List UInt8 := [162, 0, 8, 21, 5, 188, 10, 78, 9, 55, 6, 44, 180, 0, 21, 54, 8, 43, 180, 0, 21, 54, 9, 45]
abbrev dktJ26_subtract_2 : List UInt8 := dkwJ26_subtract_2 ++ dktJ26_subtract_3
def dkwJ26_subtract_1 : List UInt8 := [172, 21, 4, 156, 0, 11, 44, 58, 5, 43, 77, 25, 5, 76, 44, 180, 0, 21, 54, 5, 45, 190, 21, 5]
abbrev dktJ26_subtract_1 : List UInt8 := dkwJ26_subtract_1 ++ dktJ26_subtract_2
def dkwJ26_subtract_0 : List UInt8 := [42, 77, 42, 180, 0, 17, 78, 44, 43, 182, 0, 142, 54, 4, 21, 4, 154, 0, 9, 42, 182, 0, 105, 3]
abbrev dktJ26_subtract_0 : List UInt8 := dkwJ26_subtract_0 ++ dktJ26_subtract_1
theorem dksJ26_subtract_0 : cJ26_subtract.data.toList.drop 0 = dktJ26_subtract_0 := by decide +kernel
theorem dksJ26_subtract_1 : cJ26_subtract.data.toList.drop 24 = dktJ26_subtract_1 := dk_seg dksJ26_subtract_0 24 rfl rfl
theorem dksJ26_subtract_2 : cJ26_subtract.data.toList.drop 48 = dktJ26_subtract_2 := dk_seg dksJ26_subtract_1 24 rfl rfl
theorem dksJ26_subtract_3 : cJ26_subtract.data.toList.drop 72 = dktJ26_subtract_3 := dk_seg dksJ26_subtract_2 24 rfl rfl
theorem dksJ26_subtract_4 : cJ26_subtract.data.toList.drop 95 = dktJ26_subtract_4 := dk_seg dksJ26_subtract_3 23 rfl rfl
theorem dksJ26_subtract_5 : cJ26_subtract.data.toList.drop 118 = dktJ26_subtract_5 := dk_seg dksJ26_subtract_4 23 rfl rfl
theorem dksJ26_subtract_6 : cJ26_subtract.data.toList.drop 141 = dktJ26_subtract_6 := dk_seg dksJ26_subtract_5 23 rfl rfl
theorem dksJ26_subtract_7 : cJ26_subtract.data.toList.drop 165 = dktJ26_subtract_7 := dk_seg dksJ26_subtract_6 24 rfl rfl
theorem dksJ26_subtract_8 : cJ26_subtract.data.toList.drop 187 = dktJ26_subtract_8 := dk_seg dksJ26_subtract_7 22 rfl rfl
theorem dksJ26_subtract_9 : cJ26_subtract.data.toList.drop 210 = dktJ26_subtract_9 := dk_seg dksJ26_subtract_8 23 rfl rfl
theorem dJ26_subtract_0 : decode cJ26_subtract 0 = .ok (.aload_n 0, 1) := dk_42 (dk_at dksJ26_subtract_0 0 rfl rfl)
theorem dJ26_subtract_1 : decode cJ26_subtract 1 = .ok (.astore_n 2, 1) := dk_77 (dk_at dksJ26_subtract_0 1 rfl rfl)
theorem dJ26_subtract_2 : decode cJ26_subtract 2 = .ok (.aload_n 0, 1) := dk_42 (dk_at dksJ26_subtract_0 2 rfl rfl)
theorem dJ26_subtract_3 : decode cJ26_subtract 3 = .ok (.getfield 17, 3) := dk_180 0 17 (dk_at dksJ26_subtract_0 3 rfl rfl)
theorem dJ26_subtract_6 : decode cJ26_subtract 6 = .ok (.astore_n 3, 1) := dk_78 (dk_at dksJ26_subtract_0 6 rfl rfl)
theorem dJ26_subtract_7 : decode cJ26_subtract 7 = .ok (.aload_n 2, 1) := dk_44 (dk_at dksJ26_subtract_0 7 rfl rfl)
theorem dJ26_subtract_8 : decode cJ26_subtract 8 = .ok (.aload_n 1, 1) := dk_43 (dk_at dksJ26_subtract_0 8 rfl rfl)
theorem dJ26_subtract_9 : decode cJ26_subtract 9 = .ok (.invokevirtual 142, 3) := dk_182 0 142 (dk_at dksJ26_subtract_0 9 rfl rfl)
theorem dJ26_subtract_12 : decode cJ26_subtract 12 = .ok (.istore 4, 2) := dk_54 4 (dk_at dksJ26_subtract_0 12 rfl rfl)
theorem dJ26_subtract_14 : decode cJ26_subtract 14 = .ok (.iload 4, 2) := dk_21 4 (dk_at dksJ26_subtract_0 14 rfl rfl)
theorem dJ26_subtract_16 : decode cJ26_subtract 16 = .ok (.ifCond .ne 9, 3) := dk_154 0 9 (dk_at dksJ26_subtract_0 16 rfl rfl)
theorem dJ26_subtract_19 : decode cJ26_subtract 19 = .ok (.aload_n 0, 1) := dk_42 (dk_at dksJ26_subtract_0 19 rfl rfl)
theorem dJ26_subtract_20 : decode cJ26_subtract 20 = .ok (.invokevirtual 105, 3) := dk_182 0 105 (dk_at dksJ26_subtract_0 20 rfl rfl)
theorem dJ26_subtract_23 : decode cJ26_subtract 23 = .ok (.iconst 0, 1) := dk_3 (dk_at dksJ26_subtract_0 23 rfl rfl)
theorem dJ26_subtract_24 : decode cJ26_subtract 24 = .ok (.ireturn, 1) := dk_172 (dk_at dksJ26_subtract_1 0 rfl rfl)
theorem dJ26_subtract_25 : decode cJ26_subtract 25 = .ok (.iload 4, 2) := dk_21 4 (dk_at dksJ26_subtract_1 1 rfl rfl)
theorem dJ26_subtract_27 : decode cJ26_subtract 27 = .ok (.ifCond .ge 11, 3) := dk_156 0 11 (dk_at dksJ26_subtract_1 3 rfl rfl)
theorem dJ26_subtract_30 : decode cJ26_subtract 30 = .ok (.aload_n 2, 1) := dk_44 (dk_at dksJ26_subtract_1 6 rfl rfl)
theorem dJ26_subtract_31 : decode cJ26_subtract 31 = .ok (.astore 5, 2) := dk_58 5 (dk_at dksJ26_subtract_1 7 rfl rfl)
theorem dJ26_subtract_33 : decode cJ26_subtract 33 = .ok (.aload_n 1, 1) := dk_43 (dk_at dksJ26_subtract_1 9 rfl rfl)
theorem dJ26_subtract_34 : decode cJ26_subtract 34 = .ok (.astore_n 2, 1) := dk_77 (dk_at dksJ26_subtract_1 10 rfl rfl)
theorem dJ26_subtract_35 : decode cJ26_subtract 35 = .ok (.aload 5, 2) := dk_25 5 (dk_at dksJ26_subtract_1 11 rfl rfl)
theorem dJ26_subtract_37 : decode cJ26_subtract 37 = .ok (.astore_n 1, 1) := dk_76 (dk_at dksJ26_subtract_1 13 rfl rfl)
theorem dJ26_subtract_38 : decode cJ26_subtract 38 = .ok (.aload_n 2, 1) := dk_44 (dk_at dksJ26_subtract_1 14 rfl rfl)
theorem dJ26_subtract_39 : decode cJ26_subtract 39 = .ok (.getfield 21, 3) := dk_180 0 21 (dk_at dksJ26_subtract_1 15 rfl rfl)
theorem dJ26_subtract_42 : decode cJ26_subtract 42 = .ok (.istore 5, 2) := dk_54 5 (dk_at dksJ26_subtract_1 18 rfl rfl)
theorem dJ26_subtract_44 : decode cJ26_subtract 44 = .ok (.aload_n 3, 1) := dk_45 (dk_at dksJ26_subtract_1 20 rfl rfl)
theorem dJ26_subtract_45 : decode cJ26_subtract 45 = .ok (.arraylength, 1) := dk_190 (dk_at dksJ26_subtract_1 21 rfl rfl)
theorem dJ26_subtract_46 : decode cJ26_subtract 46 = .ok (.iload 5, 2) := dk_21 5 (dk_at dksJ26_subtract_1 22 rfl rfl)
theorem dJ26_subtract_48 : decode cJ26_subtract 48 = .ok (.if_icmp .ge 8, 3) := dk_162 0 8 (dk_at dksJ26_subtract_2 0 rfl rfl)
theorem dJ26_subtract_51 : decode cJ26_subtract 51 = .ok (.iload 5, 2) := dk_21 5 (dk_at dksJ26_subtract_2 3 rfl rfl)
theorem dJ26_subtract_53 : decode cJ26_subtract 53 = .ok (.newarray .int, 2) := dk_188_10 (dk_at dksJ26_subtract_2 5 rfl rfl)
theorem dJ26_subtract_55 : decode cJ26_subtract 55 = .ok (.astore_n 3, 1) := dk_78 (dk_at dksJ26_subtract_2 7 rfl rfl)
theorem dJ26_subtract_56 : decode cJ26_subtract 56 = .ok (.lconst 0, 1) := dk_9 (dk_at dksJ26_subtract_2 8 rfl rfl)
theorem dJ26_subtract_57 : decode cJ26_subtract 57 = .ok (.lstore 6, 2) := dk_55 6 (dk_at dksJ26_subtract_2 9 rfl rfl)
theorem dJ26_subtract_59 : decode cJ26_subtract 59 = .ok (.aload_n 2, 1) := dk_44 (dk_at dksJ26_subtract_2 11 rfl rfl)
theorem dJ26_subtract_60 : decode cJ26_subtract 60 = .ok (.getfield 21, 3) := dk_180 0 21 (dk_at dksJ26_subtract_2 12 rfl rfl)
theorem dJ26_subtract_63 : decode cJ26_subtract 63 = .ok (.istore 8, 2) := dk_54 8 (dk_at dksJ26_subtract_2 15 rfl rfl)
theorem dJ26_subtract_65 : decode cJ26_subtract 65 = .ok (.aload_n 1, 1) := dk_43 (dk_at dksJ26_subtract_2 17 rfl rfl)
theorem dJ26_subtract_66 : decode cJ26_subtract 66 = .ok (.getfield 21, 3) := dk_180 0 21 (dk_at dksJ26_subtract_2 18 rfl rfl)
theorem dJ26_subtract_69 : decode cJ26_subtract 69 = .ok (.istore 9, 2) := dk_54 9 (dk_at dksJ26_subtract_2 21 rfl rfl)
theorem dJ26_subtract_71 : decode cJ26_subtract 71 = .ok (.aload_n 3, 1) := dk_45 (dk_at dksJ26_subtract_2 23 rfl rfl)
theorem dJ26_subtract_72 : decode cJ26_subtract 72 = .ok (.arraylength, 1) := dk_190 (dk_at dksJ26_subtract_3 0 rfl rfl)
theorem dJ26_subtract_73 : decode cJ26_subtract 73 = .ok (.iconst 1, 1) := dk_4 (dk_at dksJ26_subtract_3 1 rfl rfl)
theorem dJ26_subtract_74 : decode cJ26_subtract 74 = .ok (.isub, 1) := dk_100 (dk_at dksJ26_subtract_3 2 rfl rfl)
theorem dJ26_subtract_75 : decode cJ26_subtract 75 = .ok (.istore 10, 2) := dk_54 10 (dk_at dksJ26_subtract_3 3 rfl rfl)
theorem dJ26_subtract_77 : decode cJ26_subtract 77 = .ok (.iload 9, 2) := dk_21 9 (dk_at dksJ26_subtract_3 5 rfl rfl)
theorem dJ26_subtract_79 : decode cJ26_subtract 79 = .ok (.ifCond .le 65, 3) := dk_158 0 65 (dk_at dksJ26_subtract_3 7 rfl rfl)
theorem dJ26_subtract_82 : decode cJ26_subtract 82 = .ok (.iinc 8 (-1), 3) := dk_132 8 255 (dk_at dksJ26_subtract_3 10 rfl rfl)
theorem dJ26_subtract_85 : decode cJ26_subtract 85 = .ok (.iinc 9 (-1), 3) := dk_132 9 255 (dk_at dksJ26_subtract_3 13 rfl rfl)
theorem dJ26_subtract_88 : decode cJ26_subtract 88 = .ok (.aload_n 2, 1) := dk_44 (dk_at dksJ26_subtract_3 16 rfl rfl)
theorem dJ26_subtract_89 : decode cJ26_subtract 89 = .ok (.getfield 17, 3) := dk_180 0 17 (dk_at dksJ26_subtract_3 17 rfl rfl)
theorem dJ26_subtract_92 : decode cJ26_subtract 92 = .ok (.iload 8, 2) := dk_21 8 (dk_at dksJ26_subtract_3 20 rfl rfl)
theorem dJ26_subtract_94 : decode cJ26_subtract 94 = .ok (.aload_n 2, 1) := dk_44 (dk_at dksJ26_subtract_3 22 rfl rfl)
theorem dJ26_subtract_95 : decode cJ26_subtract 95 = .ok (.getfield 11, 3) := dk_180 0 11 (dk_at dksJ26_subtract_4 0 rfl rfl)
theorem dJ26_subtract_98 : decode cJ26_subtract 98 = .ok (.iadd, 1) := dk_96 (dk_at dksJ26_subtract_4 3 rfl rfl)
theorem dJ26_subtract_99 : decode cJ26_subtract 99 = .ok (.iaload, 1) := dk_46 (dk_at dksJ26_subtract_4 4 rfl rfl)
theorem dJ26_subtract_100 : decode cJ26_subtract 100 = .ok (.i2l, 1) := dk_133 (dk_at dksJ26_subtract_4 5 rfl rfl)
theorem dJ26_subtract_101 : decode cJ26_subtract 101 = .ok (.ldc2_w 52, 3) := dk_20 0 52 (dk_at dksJ26_subtract_4 6 rfl rfl)
theorem dJ26_subtract_104 : decode cJ26_subtract 104 = .ok (.land, 1) := dk_127 (dk_at dksJ26_subtract_4 9 rfl rfl)
theorem dJ26_subtract_105 : decode cJ26_subtract 105 = .ok (.aload_n 1, 1) := dk_43 (dk_at dksJ26_subtract_4 10 rfl rfl)
theorem dJ26_subtract_106 : decode cJ26_subtract 106 = .ok (.getfield 17, 3) := dk_180 0 17 (dk_at dksJ26_subtract_4 11 rfl rfl)
theorem dJ26_subtract_109 : decode cJ26_subtract 109 = .ok (.iload 9, 2) := dk_21 9 (dk_at dksJ26_subtract_4 14 rfl rfl)
theorem dJ26_subtract_111 : decode cJ26_subtract 111 = .ok (.aload_n 1, 1) := dk_43 (dk_at dksJ26_subtract_4 16 rfl rfl)
theorem dJ26_subtract_112 : decode cJ26_subtract 112 = .ok (.getfield 11, 3) := dk_180 0 11 (dk_at dksJ26_subtract_4 17 rfl rfl)
theorem dJ26_subtract_115 : decode cJ26_subtract 115 = .ok (.iadd, 1) := dk_96 (dk_at dksJ26_subtract_4 20 rfl rfl)
theorem dJ26_subtract_116 : decode cJ26_subtract 116 = .ok (.iaload, 1) := dk_46 (dk_at dksJ26_subtract_4 21 rfl rfl)
theorem dJ26_subtract_117 : decode cJ26_subtract 117 = .ok (.i2l, 1) := dk_133 (dk_at dksJ26_subtract_4 22 rfl rfl)
theorem dJ26_subtract_118 : decode cJ26_subtract 118 = .ok (.ldc2_w 52, 3) := dk_20 0 52 (dk_at dksJ26_subtract_5 0 rfl rfl)
theorem dJ26_subtract_121 : decode cJ26_subtract 121 = .ok (.land, 1) := dk_127 (dk_at dksJ26_subtract_5 3 rfl rfl)
theorem dJ26_subtract_122 : decode cJ26_subtract 122 = .ok (.lsub, 1) := dk_101 (dk_at dksJ26_subtract_5 4 rfl rfl)
theorem dJ26_subtract_123 : decode cJ26_subtract 123 = .ok (.lload 6, 2) := dk_22 6 (dk_at dksJ26_subtract_5 5 rfl rfl)
theorem dJ26_subtract_125 : decode cJ26_subtract 125 = .ok (.bipush 32, 2) := dk_16 32 (dk_at dksJ26_subtract_5 7 rfl rfl)
theorem dJ26_subtract_127 : decode cJ26_subtract 127 = .ok (.lshr, 1) := dk_123 (dk_at dksJ26_subtract_5 9 rfl rfl)
theorem dJ26_subtract_128 : decode cJ26_subtract 128 = .ok (.ladd, 1) := dk_97 (dk_at dksJ26_subtract_5 10 rfl rfl)
theorem dJ26_subtract_129 : decode cJ26_subtract 129 = .ok (.lstore 6, 2) := dk_55 6 (dk_at dksJ26_subtract_5 11 rfl rfl)
theorem dJ26_subtract_131 : decode cJ26_subtract 131 = .ok (.aload_n 3, 1) := dk_45 (dk_at dksJ26_subtract_5 13 rfl rfl)
theorem dJ26_subtract_132 : decode cJ26_subtract 132 = .ok (.iload 10, 2) := dk_21 10 (dk_at dksJ26_subtract_5 14 rfl rfl)
theorem dJ26_subtract_134 : decode cJ26_subtract 134 = .ok (.iinc 10 (-1), 3) := dk_132 10 255 (dk_at dksJ26_subtract_5 16 rfl rfl)
theorem dJ26_subtract_137 : decode cJ26_subtract 137 = .ok (.lload 6, 2) := dk_22 6 (dk_at dksJ26_subtract_5 19 rfl rfl)
theorem dJ26_subtract_139 : decode cJ26_subtract 139 = .ok (.l2i, 1) := dk_136 (dk_at dksJ26_subtract_5 21 rfl rfl)
theorem dJ26_subtract_140 : decode cJ26_subtract 140 = .ok (.iastore, 1) := dk_79 (dk_at dksJ26_subtract_5 22 rfl rfl)
theorem dJ26_subtract_141 : decode cJ26_subtract 141 = .ok (.goto (-64), 3) := dk_167 255 192 (dk_at dksJ26_subtract_6 0 rfl rfl)
theorem dJ26_subtract_144 : decode cJ26_subtract 144 = .ok (.iload 8, 2) := dk_21 8 (dk_at dksJ26_subtract_6 3 rfl rfl)
theorem dJ26_subtract_146 : decode cJ26_subtract 146 = .ok (.ifCond .le 44, 3) := dk_158 0 44 (dk_at dksJ26_subtract_6 5 rfl rfl)
theorem dJ26_subtract_149 : decode cJ26_subtract 149 = .ok (.iinc 8 (-1), 3) := dk_132 8 255 (dk_at dksJ26_subtract_6 8 rfl rfl)
theorem dJ26_subtract_152 : decode cJ26_subtract 152 = .ok (.aload_n 2, 1) := dk_44 (dk_at dksJ26_subtract_6 11 rfl rfl)
theorem dJ26_subtract_153 : decode cJ26_subtract 153 = .ok (.getfield 17, 3) := dk_180 0 17 (dk_at dksJ26_subtract_6 12 rfl rfl)
theorem dJ26_subtract_156 : decode cJ26_subtract 156 = .ok (.iload 8, 2) := dk_21 8 (dk_at dksJ26_subtract_6 15 rfl rfl)
theorem dJ26_subtract_158 : decode cJ26_subtract 158 = .ok (.aload_n 2, 1) := dk_44 (dk_at dksJ26_subtract_6 17 rfl rfl)
theorem dJ26_subtract_159 : decode cJ26_subtract 159 = .ok (.getfield 11, 3) := dk_180 0 11 (dk_at dksJ26_subtract_6 18 rfl rfl)
theorem dJ26_subtract_162 : decode cJ26_subtract 162 = .ok (.iadd, 1) := dk_96 (dk_at dksJ26_subtract_6 21 rfl rfl)
theorem dJ26_subtract_163 : decode cJ26_subtract 163 = .ok (.iaload, 1) := dk_46 (dk_at dksJ26_subtract_6 22 rfl rfl)
theorem dJ26_subtract_164 : decode cJ26_subtract 164 = .ok (.i2l, 1) := dk_133 (dk_at dksJ26_subtract_6 23 rfl rfl)
theorem dJ26_subtract_165 : decode cJ26_subtract 165 = .ok (.ldc2_w 52, 3) := dk_20 0 52 (dk_at dksJ26_subtract_7 0 rfl rfl)
theorem dJ26_subtract_168 : decode cJ26_subtract 168 = .ok (.land, 1) := dk_127 (dk_at dksJ26_subtract_7 3 rfl rfl)
theorem dJ26_subtract_169 : decode cJ26_subtract 169 = .ok (.lload 6, 2) := dk_22 6 (dk_at dksJ26_subtract_7 4 rfl rfl)
theorem dJ26_subtract_171 : decode cJ26_subtract 171 = .ok (.bipush 32, 2) := dk_16 32 (dk_at dksJ26_subtract_7 6 rfl rfl)
theorem dJ26_subtract_173 : decode cJ26_subtract 173 = .ok (.lshr, 1) := dk_123 (dk_at dksJ26_subtract_7 8 rfl rfl)
theorem dJ26_subtract_174 : decode cJ26_subtract 174 = .ok (.ladd, 1) := dk_97 (dk_at dksJ26_subtract_7 9 rfl rfl)
theorem dJ26_subtract_175 : decode cJ26_subtract 175 = .ok (.lstore 6, 2) := dk_55 6 (dk_at dksJ26_subtract_7 10 rfl rfl)
theorem dJ26_subtract_177 : decode cJ26_subtract 177 = .ok (.aload_n 3, 1) := dk_45 (dk_at dksJ26_subtract_7 12 rfl rfl)
theorem dJ26_subtract_178 : decode cJ26_subtract 178 = .ok (.iload 10, 2) := dk_21 10 (dk_at dksJ26_subtract_7 13 rfl rfl)
theorem dJ26_subtract_180 : decode cJ26_subtract 180 = .ok (.iinc 10 (-1), 3) := dk_132 10 255 (dk_at dksJ26_subtract_7 15 rfl rfl)
theorem dJ26_subtract_183 : decode cJ26_subtract 183 = .ok (.lload 6, 2) := dk_22 6 (dk_at dksJ26_subtract_7 18 rfl rfl)
theorem dJ26_subtract_185 : decode cJ26_subtract 185 = .ok (.l2i, 1) := dk_136 (dk_at dksJ26_subtract_7 20 rfl rfl)
theorem dJ26_subtract_186 : decode cJ26_subtract 186 = .ok (.iastore, 1) := dk_79 (dk_at dksJ26_subtract_7 21 rfl rfl)
theorem dJ26_subtract_187 : decode cJ26_subtract 187 = .ok (.goto (-43), 3) := dk_167 255 213 (dk_at dksJ26_subtract_8 0 rfl rfl)
theorem dJ26_subtract_190 : decode cJ26_subtract 190 = .ok (.aload_n 0, 1) := dk_42 (dk_at dksJ26_subtract_8 3 rfl rfl)
theorem dJ26_subtract_191 : decode cJ26_subtract 191 = .ok (.aload_n 3, 1) := dk_45 (dk_at dksJ26_subtract_8 4 rfl rfl)
theorem dJ26_subtract_192 : decode cJ26_subtract 192 = .ok (.putfield 17, 3) := dk_181 0 17 (dk_at dksJ26_subtract_8 5 rfl rfl)
theorem dJ26_subtract_195 : decode cJ26_subtract 195 = .ok (.aload_n 0, 1) := dk_42 (dk_at dksJ26_subtract_8 8 rfl rfl)
theorem dJ26_subtract_196 : decode cJ26_subtract 196 = .ok (.iload 5, 2) := dk_21 5 (dk_at dksJ26_subtract_8 9 rfl rfl)
theorem dJ26_subtract_198 : decode cJ26_subtract 198 = .ok (.putfield 21, 3) := dk_181 0 21 (dk_at dksJ26_subtract_8 11 rfl rfl)
theorem dJ26_subtract_201 : decode cJ26_subtract 201 = .ok (.aload_n 0, 1) := dk_42 (dk_at dksJ26_subtract_8 14 rfl rfl)
theorem dJ26_subtract_202 : decode cJ26_subtract 202 = .ok (.aload_n 0, 1) := dk_42 (dk_at dksJ26_subtract_8 15 rfl rfl)
theorem dJ26_subtract_203 : decode cJ26_subtract 203 = .ok (.getfield 17, 3) := dk_180 0 17 (dk_at dksJ26_subtract_8 16 rfl rfl)
theorem dJ26_subtract_206 : decode cJ26_subtract 206 = .ok (.arraylength, 1) := dk_190 (dk_at dksJ26_subtract_8 19 rfl rfl)
theorem dJ26_subtract_207 : decode cJ26_subtract 207 = .ok (.iload 5, 2) := dk_21 5 (dk_at dksJ26_subtract_8 20 rfl rfl)
theorem dJ26_subtract_209 : decode cJ26_subtract 209 = .ok (.isub, 1) := dk_100 (dk_at dksJ26_subtract_8 22 rfl rfl)
theorem dJ26_subtract_210 : decode cJ26_subtract 210 = .ok (.putfield 11, 3) := dk_181 0 11 (dk_at dksJ26_subtract_9 0 rfl rfl)
theorem dJ26_subtract_213 : decode cJ26_subtract 213 = .ok (.aload_n 0, 1) := dk_42 (dk_at dksJ26_subtract_9 3 rfl rfl)
theorem dJ26_subtract_214 : decode cJ26_subtract 214 = .ok (.invokevirtual 64, 3) := dk_182 0 64 (dk_at dksJ26_subtract_9 4 rfl rfl)
theorem dJ26_subtract_217 : decode cJ26_subtract 217 = .ok (.iload 4, 2) := dk_21 4 (dk_at dksJ26_subtract_9 7 rfl rfl)
theorem dJ26_subtract_219 : decode cJ26_subtract 219 = .ok (.ireturn, 1) := dk_172 (dk_at dksJ26_subtract_9 9 rfl rfl)
theorem q101 : (Jvm.Cond.initialized "java/math/MutableBigInteger") ∈ lw_all := lw_g (lw_at lw_m1 32 rfl) rfl
theorem q253 : (Jvm.Cond.selects "java/math/MutableBigInteger" ({ cls := "java/lang/Object", name := "getClass", desc := "()Ljava/lang/Class;" } : Jvm.MethodName) ({ cls := "java/lang/Object", name := "getClass", desc := "()Ljava/lang/Class;" } : Jvm.MethodName)) ∈ lw_all := lw_g (lw_at lw_m1 184 rfl) rfl
theorem q495 : (Jvm.Cond.fieldLink "java/math/MutableBigInteger" (24 : Nat) "java/math/BigInteger" "mag" "[I") ∈ lw_all := lw_g (lw_at lw_m2 186 rfl) rfl
theorem q1166 : (Jvm.Cond.instantiable "java/math/MutableBigInteger" (3 : Nat)) ∈ lw_all := lw_g (lw_at lw_m5 137 rfl) rfl
theorem q1168 : (Jvm.Cond.instanceMethod ({ cls := "java/math/MutableBigInteger", name := "<init>", desc := "(Ljava/math/BigInteger;)V" } : Jvm.MethodName)) ∈ lw_all := lw_g (lw_at lw_m5 139 rfl) rfl
theorem q1169 : (Jvm.Cond.code ({ cls := "java/math/MutableBigInteger", name := "<init>", desc := "(Ljava/math/BigInteger;)V" } : Jvm.MethodName) prog_33_method_4_code (2 : Nat) (Option.none : Option Jvm.ClassFile.FieldType)) ∈ lw_all := lw_g (lw_at lw_m5 140 rfl) rfl
theorem q1170 : (Jvm.Cond.methodLink "java/math/MutableBigInteger" (5 : Nat) ({ cls := "java/lang/Object", name := "<init>", desc := "()V" } : Jvm.MethodName)) ∈ lw_all := lw_g (lw_at lw_m5 141 rfl) rfl
theorem q1171 : (Jvm.Cond.methodLink "java/math/MutableBigInteger" (27 : Nat) ({ cls := "java/util/Arrays", name := "copyOf", desc := "([II)[I" } : Jvm.MethodName)) ∈ lw_all := lw_g (lw_at lw_m5 142 rfl) rfl
theorem q1172 : (Jvm.Cond.fieldLink "java/math/MutableBigInteger" (17 : Nat) "java/math/MutableBigInteger" "value" "[I") ∈ lw_all := lw_g (lw_at lw_m5 143 rfl) rfl
theorem q1173 : (Jvm.Cond.fieldLink "java/math/MutableBigInteger" (21 : Nat) "java/math/MutableBigInteger" "intLen" "I") ∈ lw_all := lw_g (lw_at lw_m5 144 rfl) rfl
theorem q1174 : (Jvm.Cond.fieldLink "java/math/MutableBigInteger" (11 : Nat) "java/math/MutableBigInteger" "offset" "I") ∈ lw_all := lw_g (lw_at lw_m5 145 rfl) rfl
theorem q1175 : (Jvm.Cond.lays "java/math/MutableBigInteger" "java/math/MutableBigInteger" "value" "[I") ∈ lw_all := lw_g (lw_at lw_m5 146 rfl) rfl
theorem q1176 : (Jvm.Cond.soleField "java/math/MutableBigInteger" "value") ∈ lw_all := lw_g (lw_at lw_m5 147 rfl) rfl
theorem q1177 : (Jvm.Cond.lays "java/math/MutableBigInteger" "java/math/MutableBigInteger" "intLen" "I") ∈ lw_all := lw_g (lw_at lw_m5 148 rfl) rfl
theorem q1178 : (Jvm.Cond.soleField "java/math/MutableBigInteger" "intLen") ∈ lw_all := lw_g (lw_at lw_m5 149 rfl) rfl
theorem q1179 : (Jvm.Cond.lays "java/math/MutableBigInteger" "java/math/MutableBigInteger" "offset" "I") ∈ lw_all := lw_g (lw_at lw_m5 150 rfl) rfl
theorem q1180 : (Jvm.Cond.soleField "java/math/MutableBigInteger" "offset") ∈ lw_all := lw_g (lw_at lw_m5 151 rfl) rfl
theorem q1181 : (Jvm.Cond.superclass "java/math/MutableBigInteger" "java/lang/Object") ∈ lw_all := lw_g (lw_at lw_m5 152 rfl) rfl
theorem q1183 : (Jvm.Cond.instanceMethod ({ cls := "java/math/MutableBigInteger", name := "hybridGCD", desc := "(Ljava/math/MutableBigInteger;)Ljava/math/MutableBigInteger;" } : Jvm.MethodName)) ∈ lw_all := lw_g (lw_at lw_m5 154 rfl) rfl
theorem q1184 : (Jvm.Cond.selects "java/math/MutableBigInteger" ({ cls := "java/math/MutableBigInteger", name := "hybridGCD", desc := "(Ljava/math/MutableBigInteger;)Ljava/math/MutableBigInteger;" } : Jvm.MethodName) ({ cls := "java/math/MutableBigInteger", name := "hybridGCD", desc := "(Ljava/math/MutableBigInteger;)Ljava/math/MutableBigInteger;" } : Jvm.MethodName)) ∈ lw_all := lw_g (lw_at lw_m5 155 rfl) rfl
theorem q1185 : (Jvm.Cond.code ({ cls := "java/math/MutableBigInteger", name := "hybridGCD", desc := "(Ljava/math/MutableBigInteger;)Ljava/math/MutableBigInteger;" } : Jvm.MethodName) prog_33_method_72_code (5 : Nat) (Option.some (Jvm.ClassFile.FieldType.object "java/math/MutableBigInteger"))) ∈ lw_all := lw_g (lw_at lw_m5 156 rfl) rfl
theorem q1186 : (Jvm.Cond.classLink "java/math/MutableBigInteger" (12 : Nat) "java/math/MutableBigInteger") ∈ lw_all := lw_g (lw_at lw_m5 157 rfl) rfl
theorem q1187 : (Jvm.Cond.methodLink "java/math/MutableBigInteger" (177 : Nat) ({ cls := "java/math/MutableBigInteger", name := "<init>", desc := "()V" } : Jvm.MethodName)) ∈ lw_all := lw_g (lw_at lw_m5 158 rfl) rfl
theorem q1188 : (Jvm.Cond.instanceMethod ({ cls := "java/math/MutableBigInteger", name := "<init>", desc := "()V" } : Jvm.MethodName)) ∈ lw_all := lw_g (lw_at lw_m5 159 rfl) rfl
theorem q1189 : (Jvm.Cond.code ({ cls := "java/math/MutableBigInteger", name := "<init>", desc := "()V" } : Jvm.MethodName) prog_33_method_1_code (1 : Nat) (Option.none : Option Jvm.ClassFile.FieldType)) ∈ lw_all := lw_g (lw_at lw_m5 160 rfl) rfl
theorem q1190 : (Jvm.Cond.methodLink "java/math/MutableBigInteger" (329 : Nat) ({ cls := "java/lang/Math", name := "abs", desc := "(I)I" } : Jvm.MethodName)) ∈ lw_all := lw_g (lw_at lw_m5 161 rfl) rfl
theorem q1193 : (Jvm.Cond.methodLink "java/math/MutableBigInteger" (332 : Nat) ({ cls := "java/math/MutableBigInteger", name := "binaryGCD", desc := "(Ljava/math/MutableBigInteger;)Ljava/math/MutableBigInteger;" } : Jvm.MethodName)) ∈ lw_all := lw_g (lw_at lw_m5 164 rfl) rfl
theorem q1194 : (Jvm.Cond.privateMethod ({ cls := "java/math/MutableBigInteger", name := "binaryGCD", desc := "(Ljava/math/MutableBigInteger;)Ljava/math/MutableBigInteger;" } : Jvm.MethodName)) ∈ lw_tbl := lw_at lw_m5 165 rfl
theorem q1195 : (Jvm.Cond.instanceMethod ({ cls := "java/math/MutableBigInteger", name := "binaryGCD", desc := "(Ljava/math/MutableBigInteger;)Ljava/math/MutableBigInteger;" } : Jvm.MethodName)) ∈ lw_all := lw_g (lw_at lw_m5 166 rfl) rfl
theorem q1196 : (Jvm.Cond.code ({ cls := "java/math/MutableBigInteger", name := "binaryGCD", desc := "(Ljava/math/MutableBigInteger;)Ljava/math/MutableBigInteger;" } : Jvm.MethodName) prog_33_method_73_code (13 : Nat) (Option.some (Jvm.ClassFile.FieldType.object "java/math/MutableBigInteger"))) ∈ lw_all := lw_g (lw_at lw_m5 167 rfl) rfl
theorem q1197 : (Jvm.Cond.methodLink "java/math/MutableBigInteger" (184 : Nat) ({ cls := "java/math/MutableBigInteger", name := "getLowestSetBit", desc := "()I" } : Jvm.MethodName)) ∈ lw_all := lw_g (lw_at lw_m5 168 rfl) rfl
theorem q1198 : (Jvm.Cond.privateMethod ({ cls := "java/math/MutableBigInteger", name := "getLowestSetBit", desc := "()I" } : Jvm.MethodName)) ∈ lw_tbl := lw_at lw_m5 169 rfl
theorem q1199 : (Jvm.Cond.instanceMethod ({ cls := "java/math/MutableBigInteger", name := "getLowestSetBit", desc := "()I" } : Jvm.MethodName)) ∈ lw_all := lw_g (lw_at lw_m5 170 rfl) rfl
theorem q1200 : (Jvm.Cond.code ({ cls := "java/math/MutableBigInteger", name := "getLowestSetBit", desc := "()I" } : Jvm.MethodName) prog_33_method_18_code (3 : Nat) (Option.some Jvm.ClassFile.FieldType.int)) ∈ lw_all := lw_g (lw_at lw_m5 171 rfl) rfl
theorem q1201 : (Jvm.Cond.methodLink "java/math/MutableBigInteger" (89 : Nat) ({ cls := "java/lang/Integer", name := "numberOfTrailingZeros", desc := "(I)I" } : Jvm.MethodName)) ∈ lw_all := lw_g (lw_at lw_m5 172 rfl) rfl
theorem q1202 : (Jvm.Cond.methodLink "java/math/MutableBigInteger" (108 : Nat) ({ cls := "java/math/MutableBigInteger", name := "rightShift", desc := "(I)V" } : Jvm.MethodName)) ∈ lw_all := lw_g (lw_at lw_m5 173 rfl) rfl
theorem q1203 : (Jvm.Cond.instanceMethod ({ cls := "java/math/MutableBigInteger", name := "rightShift", desc := "(I)V" } : Jvm.MethodName)) ∈ lw_all := lw_g (lw_at lw_m5 174 rfl) rfl
theorem q1204 : (Jvm.Cond.selects "java/math/MutableBigInteger" ({ cls := "java/math/MutableBigInteger", name := "rightShift", desc := "(I)V" } : Jvm.MethodName) ({ cls := "java/math/MutableBigInteger", name := "rightShift", desc := "(I)V" } : Jvm.MethodName)) ∈ lw_all := lw_g (lw_at lw_m5 175 rfl) rfl
theorem q1205 : (Jvm.Cond.code ({ cls := "java/math/MutableBigInteger", name := "rightShift", desc := "(I)V" } : Jvm.MethodName) prog_33_method_35_code (5 : Nat) (Option.none : Option Jvm.ClassFile.FieldType)) ∈ lw_all := lw_g (lw_at lw_m5 176 rfl) rfl
theorem q1206 : (Jvm.Cond.methodLink "java/math/MutableBigInteger" (112 : Nat) ({ cls := "java/math/BigInteger", name := "bitLengthForInt", desc := "(I)I" } : Jvm.MethodName)) ∈ lw_all := lw_g (lw_at lw_m5 177 rfl) rfl
theorem q1212 : (Jvm.Cond.methodLink "java/math/MutableBigInteger" (115 : Nat) ({ cls := "java/math/MutableBigInteger", name := "primitiveLeftShift", desc := "(I)V" } : Jvm.MethodName)) ∈ lw_all := lw_g (lw_at lw_m5 183 rfl) rfl
theorem q1213 : (Jvm.Cond.privateMethod ({ cls := "java/math/MutableBigInteger", name := "primitiveLeftShift", desc := "(I)V" } : Jvm.MethodName)) ∈ lw_tbl := lw_at lw_m5 184 rfl
theorem q1214 : (Jvm.Cond.instanceMethod ({ cls := "java/math/MutableBigInteger", name := "primitiveLeftShift", desc := "(I)V" } : Jvm.MethodName)) ∈ lw_all := lw_g (lw_at lw_m5 185 rfl) rfl
theorem q1215 : (Jvm.Cond.code ({ cls := "java/math/MutableBigInteger", name := "primitiveLeftShift", desc := "(I)V" } : Jvm.MethodName) prog_33_method_42_code (8 : Nat) (Option.none : Option Jvm.ClassFile.FieldType)) ∈ lw_all := lw_g (lw_at lw_m5 186 rfl) rfl
theorem q1216 : (Jvm.Cond.methodLink "java/math/MutableBigInteger" (118 : Nat) ({ cls := "java/math/MutableBigInteger", name := "primitiveRightShift", desc := "(I)V" } : Jvm.MethodName)) ∈ lw_all := lw_g (lw_at lw_m5 187 rfl) rfl
theorem q1217 : (Jvm.Cond.privateMethod ({ cls := "java/math/MutableBigInteger", name := "primitiveRightShift", desc := "(I)V" } : Jvm.MethodName)) ∈ lw_tbl := lw_at lw_m5 188 rfl
theorem q1218 : (Jvm.Cond.instanceMethod ({ cls := "java/math/MutableBigInteger", name := "primitiveRightShift", desc := "(I)V" } : Jvm.MethodName)) ∈ lw_all := lw_g (lw_at lw_m5 189 rfl) rfl
theorem q1219 : (Jvm.Cond.code ({ cls := "java/math/MutableBigInteger", name := "primitiveRightShift", desc := "(I)V" } : Jvm.MethodName) prog_33_method_41_code (7 : Nat) (Option.none : Option Jvm.ClassFile.FieldType)) ∈ lw_all := lw_g (lw_at lw_m5 190 rfl) rfl
theorem q1220 : (Jvm.Cond.methodLink "java/math/MutableBigInteger" (338 : Nat) ({ cls := "java/math/MutableBigInteger", name := "binaryGcd", desc := "(II)I" } : Jvm.MethodName)) ∈ lw_all := lw_g (lw_at lw_m5 191 rfl) rfl
theorem q1221 : (Jvm.Cond.static ({ cls := "java/math/MutableBigInteger", name := "binaryGcd", desc := "(II)I" } : Jvm.MethodName)) ∈ lw_all := lw_g (lw_at lw_m5 192 rfl) rfl
theorem q1222 : (Jvm.Cond.code ({ cls := "java/math/MutableBigInteger", name := "binaryGcd", desc := "(II)I" } : Jvm.MethodName) prog_33_method_74_code (5 : Nat) (Option.some Jvm.ClassFile.FieldType.int)) ∈ lw_all := lw_g (lw_at lw_m5 193 rfl) rfl
theorem q1223 : (Jvm.Cond.constant "java/math/MutableBigInteger" (88 : Nat) (-2147483648 : Int32)) ∈ lw_all := lw_g (lw_at lw_m5 194 rfl) rfl
theorem q1224 : (Jvm.Cond.methodLink "java/math/MutableBigInteger" (121 : Nat) ({ cls := "java/math/MutableBigInteger", name := "leftShift", desc := "(I)V" } : Jvm.MethodName)) ∈ lw_all := lw_g (lw_at lw_m5 195 rfl) rfl
theorem q1225 : (Jvm.Cond.instanceMethod ({ cls := "java/math/MutableBigInteger", name := "leftShift", desc := "(I)V" } : Jvm.MethodName)) ∈ lw_all := lw_g (lw_at lw_m5 196 rfl) rfl
theorem q1226 : (Jvm.Cond.selects "java/math/MutableBigInteger" ({ cls := "java/math/MutableBigInteger", name := "leftShift", desc := "(I)V" } : Jvm.MethodName) ({ cls := "java/math/MutableBigInteger", name := "leftShift", desc := "(I)V" } : Jvm.MethodName)) ∈ lw_all := lw_g (lw_at lw_m5 197 rfl) rfl
theorem q1227 : (Jvm.Cond.code ({ cls := "java/math/MutableBigInteger", name := "leftShift", desc := "(I)V" } : Jvm.MethodName) prog_33_method_37_code (8 : Nat) (Option.none : Option Jvm.ClassFile.FieldType)) ∈ lw_all := lw_g (lw_at lw_m5 198 rfl) rfl
theorem q1228 : (Jvm.Cond.methodLink "java/math/MutableBigInteger" (124 : Nat) ({ cls := "java/math/MutableBigInteger", name := "setValue", desc := "([II)V" } : Jvm.MethodName)) ∈ lw_all := lw_g (lw_at lw_m5 199 rfl) rfl
theorem q1229 : (Jvm.Cond.instanceMethod ({ cls := "java/math/MutableBigInteger", name := "setValue", desc := "([II)V" } : Jvm.MethodName)) ∈ lw_all := lw_g (lw_at lw_m5 200 rfl) rfl
theorem q1230 : (Jvm.Cond.selects "java/math/MutableBigInteger" ({ cls := "java/math/MutableBigInteger", name := "setValue", desc := "([II)V" } : Jvm.MethodName) ({ cls := "java/math/MutableBigInteger", name := "setValue", desc := "([II)V" } : Jvm.MethodName)) ∈ lw_all := lw_g (lw_at lw_m5 201 rfl) rfl
theorem q1231 : (Jvm.Cond.code ({ cls := "java/math/MutableBigInteger", name := "setValue", desc := "([II)V" } : Jvm.MethodName) prog_33_method_25_code (3 : Nat) (Option.none : Option Jvm.ClassFile.FieldType)) ∈ lw_all := lw_g (lw_at lw_m5 202 rfl) rfl
theorem q1232 : (Jvm.Cond.methodLink "java/math/MutableBigInteger" (341 : Nat) ({ cls := "java/math/MutableBigInteger", name := "difference", desc := "(Ljava/math/MutableBigInteger;)I" } : Jvm.MethodName)) ∈ lw_all := lw_g (lw_at lw_m5 203 rfl) rfl
theorem q1233 : (Jvm.Cond.privateMethod ({ cls := "java/math/MutableBigInteger", name := "difference", desc := "(Ljava/math/MutableBigInteger;)I" } : Jvm.MethodName)) ∈ lw_tbl := lw_at lw_m5 204 rfl
theorem q1234 : (Jvm.Cond.instanceMethod ({ cls := "java/math/MutableBigInteger", name := "difference", desc := "(Ljava/math/MutableBigInteger;)I" } : Jvm.MethodName)) ∈ lw_all := lw_g (lw_at lw_m5 205 rfl) rfl
theorem q1235 : (Jvm.Cond.code ({ cls := "java/math/MutableBigInteger", name := "difference", desc := "(Ljava/math/MutableBigInteger;)I" } : Jvm.MethodName) prog_33_method_50_code (8 : Nat) (Option.some Jvm.ClassFile.FieldType.int)) ∈ lw_all := lw_g (lw_at lw_m5 206 rfl) rfl
theorem q1236 : (Jvm.Cond.methodLink "java/math/MutableBigInteger" (142 : Nat) ({ cls := "java/math/MutableBigInteger", name := "compare", desc := "(Ljava/math/MutableBigInteger;)I" } : Jvm.MethodName)) ∈ lw_all := lw_g (lw_at lw_m5 207 rfl) rfl
theorem q1237 : (Jvm.Cond.instanceMethod ({ cls := "java/math/MutableBigInteger", name := "compare", desc := "(Ljava/math/MutableBigInteger;)I" } : Jvm.MethodName)) ∈ lw_all := lw_g (lw_at lw_m5 208 rfl) rfl
theorem q1238 : (Jvm.Cond.selects "java/math/MutableBigInteger" ({ cls := "java/math/MutableBigInteger", name := "compare", desc := "(Ljava/math/MutableBigInteger;)I" } : Jvm.MethodName) ({ cls := "java/math/MutableBigInteger", name := "compare", desc := "(Ljava/math/MutableBigInteger;)I" } : Jvm.MethodName)) ∈ lw_all := lw_g (lw_at lw_m5 209 rfl) rfl
theorem q1239 : (Jvm.Cond.code ({ cls := "java/math/MutableBigInteger", name := "compare", desc := "(Ljava/math/MutableBigInteger;)I" } : Jvm.MethodName) prog_33_method_15_code (8 : Nat) (Option.some Jvm.ClassFile.FieldType.int)) ∈ lw_all := lw_g (lw_at lw_m5 210 rfl) rfl
theorem q1240 : (Jvm.Cond.constantLong "java/math/MutableBigInteger" (52 : Nat) (4294967295 : Int64)) ∈ lw_all := lw_g (lw_at lw_m5 211 rfl) rfl
theorem q1241 : (Jvm.Cond.methodLink "java/math/MutableBigInteger" (64 : Nat) ({ cls := "java/math/MutableBigInteger", name := "normalize", desc := "()V" } : Jvm.MethodName)) ∈ lw_all := lw_g (lw_at lw_m5 212 rfl) rfl
theorem q1242 : (Jvm.Cond.instanceMethod ({ cls := "java/math/MutableBigInteger", name := "normalize", desc := "()V" } : Jvm.MethodName)) ∈ lw_all := lw_g (lw_at lw_m5 213 rfl) rfl
theorem q1243 : (Jvm.Cond.selects "java/math/MutableBigInteger" ({ cls := "java/math/MutableBigInteger", name := "normalize", desc := "()V" } : Jvm.MethodName) ({ cls := "java/math/MutableBigInteger", name := "normalize", desc := "()V" } : Jvm.MethodName)) ∈ lw_all := lw_g (lw_at lw_m5 214 rfl) rfl
theorem q1244 : (Jvm.Cond.code ({ cls := "java/math/MutableBigInteger", name := "normalize", desc := "()V" } : Jvm.MethodName) prog_33_method_21_code (4 : Nat) (Option.none : Option Jvm.ClassFile.FieldType)) ∈ lw_all := lw_g (lw_at lw_m5 215 rfl) rfl
theorem q1245 : (Jvm.Cond.methodLink "java/math/MutableBigInteger" (336 : Nat) ({ cls := "java/math/MutableBigInteger", name := "divide", desc := "(Ljava/math/MutableBigInteger;Ljava/math/MutableBigInteger;)Ljava/math/MutableBigInteger;" } : Jvm.MethodName)) ∈ lw_all := lw_g (lw_at lw_m5 216 rfl) rfl
theorem q1246 : (Jvm.Cond.instanceMethod ({ cls := "java/math/MutableBigInteger", name := "divide", desc := "(Ljava/math/MutableBigInteger;Ljava/math/MutableBigInteger;)Ljava/math/MutableBigInteger;" } : Jvm.MethodName)) ∈ lw_all := lw_g (lw_at lw_m5 217 rfl) rfl
theorem q1247 : (Jvm.Cond.selects "java/math/MutableBigInteger" ({ cls := "java/math/MutableBigInteger", name := "divide", desc := "(Ljava/math/MutableBigInteger;Ljava/math/MutableBigInteger;)Ljava/math/MutableBigInteger;" } : Jvm.MethodName) ({ cls := "java/math/MutableBigInteger", name := "divide", desc := "(Ljava/math/MutableBigInteger;Ljava/math/MutableBigInteger;)Ljava/math/MutableBigInteger;" } : Jvm.MethodName)) ∈ lw_all := lw_g (lw_at lw_m5 218 rfl) rfl
theorem q1248 : (Jvm.Cond.code ({ cls := "java/math/MutableBigInteger", name := "divide", desc := "(Ljava/math/MutableBigInteger;Ljava/math/MutableBigInteger;)Ljava/math/MutableBigInteger;" } : Jvm.MethodName) prog_33_method_54_code (3 : Nat) (Option.some (Jvm.ClassFile.FieldType.object "java/math/MutableBigInteger"))) ∈ lw_all := lw_g (lw_at lw_m5 219 rfl) rfl
theorem q1249 : (Jvm.Cond.methodLink "java/math/MutableBigInteger" (159 : Nat) ({ cls := "java/math/MutableBigInteger", name := "divide", desc := "(Ljava/math/MutableBigInteger;Ljava/math/MutableBigInteger;Z)Ljava/math/MutableBigInteger;" } : Jvm.MethodName)) ∈ lw_all := lw_g (lw_at lw_m5 220 rfl) rfl
theorem q1250 : (Jvm.Cond.instanceMethod ({ cls := "java/math/MutableBigInteger", name := "divide", desc := "(Ljava/math/MutableBigInteger;Ljava/math/MutableBigInteger;Z)Ljava/math/MutableBigInteger;" } : Jvm.MethodName)) ∈ lw_all := lw_g (lw_at lw_m5 221 rfl) rfl
theorem q1251 : (Jvm.Cond.selects "java/math/MutableBigInteger" ({ cls := "java/math/MutableBigInteger", name := "divide", desc := "(Ljava/math/MutableBigInteger;Ljava/math/MutableBigInteger;Z)Ljava/math/MutableBigInteger;" } : Jvm.MethodName) ({ cls := "java/math/MutableBigInteger", name := "divide", desc := "(Ljava/math/MutableBigInteger;Ljava/math/MutableBigInteger;Z)Ljava/math/MutableBigInteger;" } : Jvm.MethodName)) ∈ lw_all := lw_g (lw_at lw_m5 222 rfl) rfl
theorem q1252 : (Jvm.Cond.code ({ cls := "java/math/MutableBigInteger", name := "divide", desc := "(Ljava/math/MutableBigInteger;Ljava/math/MutableBigInteger;Z)Ljava/math/MutableBigInteger;" } : Jvm.MethodName) prog_33_method_55_code (4 : Nat) (Option.some (Jvm.ClassFile.FieldType.object "java/math/MutableBigInteger"))) ∈ lw_all := lw_g (lw_at lw_m5 223 rfl) rfl
theorem q1253 : (Jvm.Cond.methodLink "java/math/MutableBigInteger" (163 : Nat) ({ cls := "java/math/MutableBigInteger", name := "divideKnuth", desc := "(Ljava/math/MutableBigInteger;Ljava/math/MutableBigInteger;Z)Ljava/math/MutableBigInteger;" } : Jvm.MethodName)) ∈ lw_all := lw_g (lw_at lw_m5 224 rfl) rfl
theorem q1254 : (Jvm.Cond.instanceMethod ({ cls := "java/math/MutableBigInteger", name := "divideKnuth", desc := "(Ljava/math/MutableBigInteger;Ljava/math/MutableBigInteger;Z)Ljava/math/MutableBigInteger;" } : Jvm.MethodName)) ∈ lw_all := lw_g (lw_at lw_m5 225 rfl) rfl
theorem q1255 : (Jvm.Cond.selects "java/math/MutableBigInteger" ({ cls := "java/math/MutableBigInteger", name := "divideKnuth", desc := "(Ljava/math/MutableBigInteger;Ljava/math/MutableBigInteger;Z)Ljava/math/MutableBigInteger;" } : Jvm.MethodName) ({ cls := "java/math/MutableBigInteger", name := "divideKnuth", desc := "(Ljava/math/MutableBigInteger;Ljava/math/MutableBigInteger;Z)Ljava/math/MutableBigInteger;" } : Jvm.MethodName)) ∈ lw_all := lw_g (lw_at lw_m5 226 rfl) rfl
theorem q1256 : (Jvm.Cond.code ({ cls := "java/math/MutableBigInteger", name := "divideKnuth", desc := "(Ljava/math/MutableBigInteger;Ljava/math/MutableBigInteger;Z)Ljava/math/MutableBigInteger;" } : Jvm.MethodName) prog_33_method_57_code (8 : Nat) (Option.some (Jvm.ClassFile.FieldType.object "java/math/MutableBigInteger"))) ∈ lw_all := lw_g (lw_at lw_m5 227 rfl) rfl
theorem q1257 : (Jvm.Cond.classLink "java/math/MutableBigInteger" (170 : Nat) "java/lang/ArithmeticException") ∈ lw_all := lw_g (lw_at lw_m5 228 rfl) rfl
theorem q1258 : (Jvm.Cond.stringRef "java/math/MutableBigInteger" (172 : Nat) "BigInteger divide by zero") ∈ lw_tbl := lw_at lw_m5 229 rfl
theorem q1259 : (Jvm.Cond.methodLink "java/math/MutableBigInteger" (174 : Nat) ({ cls := "java/lang/ArithmeticException", name := "<init>", desc := "(Ljava/lang/String;)V" } : Jvm.MethodName)) ∈ lw_all := lw_g (lw_at lw_m5 230 rfl) rfl
theorem q1260 : (Jvm.Cond.methodLink "java/math/MutableBigInteger" (136 : Nat) ({ cls := "java/math/MutableBigInteger", name := "<init>", desc := "(Ljava/math/MutableBigInteger;)V" } : Jvm.MethodName)) ∈ lw_all := lw_g (lw_at lw_m5 231 rfl) rfl
theorem q1261 : (Jvm.Cond.instanceMethod ({ cls := "java/math/MutableBigInteger", name := "<init>", desc := "(Ljava/math/MutableBigInteger;)V" } : Jvm.MethodName)) ∈ lw_all := lw_g (lw_at lw_m5 232 rfl) rfl
theorem q1262 : (Jvm.Cond.code ({ cls := "java/math/MutableBigInteger", name := "<init>", desc := "(Ljava/math/MutableBigInteger;)V" } : Jvm.MethodName) prog_33_method_5_code (2 : Nat) (Option.none : Option Jvm.ClassFile.FieldType)) ∈ lw_all := lw_g (lw_at lw_m5 233 rfl) rfl
theorem q1263 : (Jvm.Cond.methodLink "java/math/MutableBigInteger" (33 : Nat) ({ cls := "java/util/Arrays", name := "copyOfRange", desc := "([III)[I" } : Jvm.MethodName)) ∈ lw_all := lw_g (lw_at lw_m5 234 rfl) rfl
theorem q1264 : (Jvm.Cond.methodLink "java/math/MutableBigInteger" (149 : Nat) ({ cls := "java/math/MutableBigInteger", name := "clear", desc := "()V" } : Jvm.MethodName)) ∈ lw_all := lw_g (lw_at lw_m5 235 rfl) rfl
theorem q1265 : (Jvm.Cond.instanceMethod ({ cls := "java/math/MutableBigInteger", name := "clear", desc := "()V" } : Jvm.MethodName)) ∈ lw_all := lw_g (lw_at lw_m5 236 rfl) rfl
theorem q1266 : (Jvm.Cond.selects "java/math/MutableBigInteger" ({ cls := "java/math/MutableBigInteger", name := "clear", desc := "()V" } : Jvm.MethodName) ({ cls := "java/math/MutableBigInteger", name := "clear", desc := "()V" } : Jvm.MethodName)) ∈ lw_all := lw_g (lw_at lw_m5 237 rfl) rfl
theorem q1267 : (Jvm.Cond.code ({ cls := "java/math/MutableBigInteger", name := "clear", desc := "()V" } : Jvm.MethodName) prog_33_method_13_code (3 : Nat) (Option.none : Option Jvm.ClassFile.FieldType)) ∈ lw_all := lw_g (lw_at lw_m5 238 rfl) rfl
theorem q1268 : (Jvm.Cond.methodLink "java/math/MutableBigInteger" (178 : Nat) ({ cls := "java/math/MutableBigInteger", name := "divideOneWord", desc := "(ILjava/math/MutableBigInteger;)I" } : Jvm.MethodName)) ∈ lw_all := lw_g (lw_at lw_m5 239 rfl) rfl
theorem q1269 : (Jvm.Cond.instanceMethod ({ cls := "java/math/MutableBigInteger", name := "divideOneWord", desc := "(ILjava/math/MutableBigInteger;)I" } : Jvm.MethodName)) ∈ lw_all := lw_g (lw_at lw_m6 0 rfl) rfl
theorem q1270 : (Jvm.Cond.selects "java/math/MutableBigInteger" ({ cls := "java/math/MutableBigInteger", name := "divideOneWord", desc := "(ILjava/math/MutableBigInteger;)I" } : Jvm.MethodName) ({ cls := "java/math/MutableBigInteger", name := "divideOneWord", desc := "(ILjava/math/MutableBigInteger;)I" } : Jvm.MethodName)) ∈ lw_all := lw_g (lw_at lw_m6 1 rfl) rfl
theorem q1271 : (Jvm.Cond.code ({ cls := "java/math/MutableBigInteger", name := "divideOneWord", desc := "(ILjava/math/MutableBigInteger;)I" } : Jvm.MethodName) prog_33_method_53_code (15 : Nat) (Option.some Jvm.ClassFile.FieldType.int)) ∈ lw_all := lw_g (lw_at lw_m6 2 rfl) rfl
theorem q1272 : (Jvm.Cond.methodLink "java/math/MutableBigInteger" (152 : Nat) ({ cls := "java/lang/Integer", name := "numberOfLeadingZeros", desc := "(I)I" } : Jvm.MethodName)) ∈ lw_all := lw_g (lw_at lw_m6 3 rfl) rfl
theorem q1273 : (Jvm.Cond.methodLink "java/math/MutableBigInteger" (155 : Nat) ({ cls := "java/math/MutableBigInteger", name := "divWord", desc := "(JI)J" } : Jvm.MethodName)) ∈ lw_all := lw_g (lw_at lw_m6 4 rfl) rfl
theorem q1274 : (Jvm.Cond.static ({ cls := "java/math/MutableBigInteger", name := "divWord", desc := "(JI)J" } : Jvm.MethodName)) ∈ lw_all := lw_g (lw_at lw_m6 5 rfl) rfl
theorem q1275 : (Jvm.Cond.code ({ cls := "java/math/MutableBigInteger", name := "divWord", desc := "(JI)J" } : Jvm.MethodName) prog_33_method_70_code (9 : Nat) (Option.some Jvm.ClassFile.FieldType.long)) ∈ lw_all := lw_g (lw_at lw_m6 6 rfl) rfl
theorem q1276 : (Jvm.Cond.methodLink "java/math/MutableBigInteger" (182 : Nat) ({ cls := "java/math/MutableBigInteger", name := "<init>", desc := "(I)V" } : Jvm.MethodName)) ∈ lw_all := lw_g (lw_at lw_m6 7 rfl) rfl
theorem q1277 : (Jvm.Cond.instanceMethod ({ cls := "java/math/MutableBigInteger", name := "<init>", desc := "(I)V" } : Jvm.MethodName)) ∈ lw_all := lw_g (lw_at lw_m6 8 rfl) rfl
theorem q1278 : (Jvm.Cond.code ({ cls := "java/math/MutableBigInteger", name := "<init>", desc := "(I)V" } : Jvm.MethodName) prog_33_method_2_code (2 : Nat) (Option.none : Option Jvm.ClassFile.FieldType)) ∈ lw_all := lw_g (lw_at lw_m6 9 rfl) rfl
theorem q1279 : (Jvm.Cond.methodLink "java/math/MutableBigInteger" (130 : Nat) ({ cls := "java/lang/Math", name := "min", desc := "(II)I" } : Jvm.MethodName)) ∈ lw_all := lw_g (lw_at lw_m6 10 rfl) rfl
theorem q1280 : (Jvm.Cond.methodLink "java/math/MutableBigInteger" (188 : Nat) ({ cls := "java/math/MutableBigInteger", name := "divideKnuth", desc := "(Ljava/math/MutableBigInteger;Ljava/math/MutableBigInteger;)Ljava/math/MutableBigInteger;" } : Jvm.MethodName)) ∈ lw_all := lw_g (lw_at lw_m6 11 rfl) rfl
theorem q1281 : (Jvm.Cond.instanceMethod ({ cls := "java/math/MutableBigInteger", name := "divideKnuth", desc := "(Ljava/math/MutableBigInteger;Ljava/math/MutableBigInteger;)Ljava/math/MutableBigInteger;" } : Jvm.MethodName)) ∈ lw_all := lw_g (lw_at lw_m6 12 rfl) rfl
theorem q1282 : (Jvm.Cond.selects "java/math/MutableBigInteger" ({ cls := "java/math/MutableBigInteger", name := "divideKnuth", desc := "(Ljava/math/MutableBigInteger;Ljava/math/MutableBigInteger;)Ljava/math/MutableBigInteger;" } : Jvm.MethodName) ({ cls := "java/math/MutableBigInteger", name := "divideKnuth", desc := "(Ljava/math/MutableBigInteger;Ljava/math/MutableBigInteger;)Ljava/math/MutableBigInteger;" } : Jvm.MethodName)) ∈ lw_all := lw_g (lw_at lw_m6 13 rfl) rfl
theorem q1283 : (Jvm.Cond.code ({ cls := "java/math/MutableBigInteger", name := "divideKnuth", desc := "(Ljava/math/MutableBigInteger;Ljava/math/MutableBigInteger;)Ljava/math/MutableBigInteger;" } : Jvm.MethodName) prog_33_method_56_code (3 : Nat) (Option.some (Jvm.ClassFile.FieldType.object "java/math/MutableBigInteger"))) ∈ lw_all := lw_g (lw_at lw_m6 14 rfl) rfl
theorem q1284 : (Jvm.Cond.methodLink "java/math/MutableBigInteger" (190 : Nat) ({ cls := "java/math/MutableBigInteger", name := "divideMagnitude", desc := "(Ljava/math/MutableBigInteger;Ljava/math/MutableBigInteger;Z)Ljava/math/MutableBigInteger;" } : Jvm.MethodName)) ∈ lw_all := lw_g (lw_at lw_m6 15 rfl) rfl
theorem q1285 : (Jvm.Cond.privateMethod ({ cls := "java/math/MutableBigInteger", name := "divideMagnitude", desc := "(Ljava/math/MutableBigInteger;Ljava/math/MutableBigInteger;Z)Ljava/math/MutableBigInteger;" } : Jvm.MethodName)) ∈ lw_tbl := lw_at lw_m6 16 rfl
theorem q1286 : (Jvm.Cond.instanceMethod ({ cls := "java/math/MutableBigInteger", name := "divideMagnitude", desc := "(Ljava/math/MutableBigInteger;Ljava/math/MutableBigInteger;Z)Ljava/math/MutableBigInteger;" } : Jvm.MethodName)) ∈ lw_all := lw_g (lw_at lw_m6 17 rfl) rfl
theorem q1287 : (Jvm.Cond.code ({ cls := "java/math/MutableBigInteger", name := "divideMagnitude", desc := "(Ljava/math/MutableBigInteger;Ljava/math/MutableBigInteger;Z)Ljava/math/MutableBigInteger;" } : Jvm.MethodName) prog_33_method_65_code (28 : Nat) (Option.some (Jvm.ClassFile.FieldType.object "java/math/MutableBigInteger"))) ∈ lw_all := lw_g (lw_at lw_m6 18 rfl) rfl
theorem q1288 : (Jvm.Cond.methodLink "java/math/MutableBigInteger" (269 : Nat) ({ cls := "java/math/MutableBigInteger", name := "copyAndShift", desc := "([III[III)V" } : Jvm.MethodName)) ∈ lw_all := lw_g (lw_at lw_m6 19 rfl) rfl
theorem q1289 : (Jvm.Cond.static ({ cls := "java/math/MutableBigInteger", name := "copyAndShift", desc := "([III[III)V" } : Jvm.MethodName)) ∈ lw_all := lw_g (lw_at lw_m6 20 rfl) rfl
theorem q1290 : (Jvm.Cond.code ({ cls := "java/math/MutableBigInteger", name := "copyAndShift", desc := "([III[III)V" } : Jvm.MethodName) prog_33_method_64_code (10 : Nat) (Option.none : Option Jvm.ClassFile.FieldType)) ∈ lw_all := lw_g (lw_at lw_m6 21 rfl) rfl
theorem q1291 : (Jvm.Cond.methodLink "java/math/MutableBigInteger" (259 : Nat) ({ cls := "java/math/MutableBigInteger", name := "<init>", desc := "([I)V" } : Jvm.MethodName)) ∈ lw_all := lw_g (lw_at lw_m6 22 rfl) rfl
theorem q1292 : (Jvm.Cond.instanceMethod ({ cls := "java/math/MutableBigInteger", name := "<init>", desc := "([I)V" } : Jvm.MethodName)) ∈ lw_all := lw_g (lw_at lw_m6 23 rfl) rfl
theorem q1293 : (Jvm.Cond.code ({ cls := "java/math/MutableBigInteger", name := "<init>", desc := "([I)V" } : Jvm.MethodName) prog_33_method_3_code (2 : Nat) (Option.none : Option Jvm.ClassFile.FieldType)) ∈ lw_all := lw_g (lw_at lw_m6 24 rfl) rfl
theorem q1294 : (Jvm.Cond.methodLink "java/math/MutableBigInteger" (95 : Nat) ({ cls := "java/lang/System", name := "arraycopy", desc := "(Ljava/lang/Object;ILjava/lang/Object;II)V" } : Jvm.MethodName)) ∈ lw_all := lw_g (lw_at lw_m6 25 rfl) rfl
theorem q1295 : (Jvm.Cond.methodLink "java/math/MutableBigInteger" (273 : Nat) ({ cls := "java/math/MutableBigInteger", name := "unsignedLongCompare", desc := "(JJ)Z" } : Jvm.MethodName)) ∈ lw_all := lw_g (lw_at lw_m6 26 rfl) rfl
theorem q1296 : (Jvm.Cond.privateMethod ({ cls := "java/math/MutableBigInteger", name := "unsignedLongCompare", desc := "(JJ)Z" } : Jvm.MethodName)) ∈ lw_tbl := lw_at lw_m6 27 rfl
theorem q1297 : (Jvm.Cond.instanceMethod ({ cls := "java/math/MutableBigInteger", name := "unsignedLongCompare", desc := "(JJ)Z" } : Jvm.MethodName)) ∈ lw_all := lw_g (lw_at lw_m6 28 rfl) rfl
theorem q1298 : (Jvm.Cond.code ({ cls := "java/math/MutableBigInteger", name := "unsignedLongCompare", desc := "(JJ)Z" } : Jvm.MethodName) prog_33_method_69_code (5 : Nat) (Option.some Jvm.ClassFile.FieldType.boolean)) ∈ lw_all := lw_g (lw_at lw_m6 29 rfl) rfl
theorem q1299 : (Jvm.Cond.constantLong "java/math/MutableBigInteger" (79 : Nat) (-9223372036854775808 : Int64)) ∈ lw_all := lw_g (lw_at lw_m6 30 rfl) rfl
theorem q1300 : (Jvm.Cond.methodLink "java/math/MutableBigInteger" (277 : Nat) ({ cls := "java/math/MutableBigInteger", name := "mulsub", desc := "([I[IIII)I" } : Jvm.MethodName)) ∈ lw_all := lw_g (lw_at lw_m6 31 rfl) rfl
theorem q1301 : (Jvm.Cond.privateMethod ({ cls := "java/math/MutableBigInteger", name := "mulsub", desc := "([I[IIII)I" } : Jvm.MethodName)) ∈ lw_tbl := lw_at lw_m6 32 rfl
theorem q1302 : (Jvm.Cond.instanceMethod ({ cls := "java/math/MutableBigInteger", name := "mulsub", desc := "([I[IIII)I" } : Jvm.MethodName)) ∈ lw_all := lw_g (lw_at lw_m6 33 rfl) rfl
theorem q1303 : (Jvm.Cond.code ({ cls := "java/math/MutableBigInteger", name := "mulsub", desc := "([I[IIII)I" } : Jvm.MethodName) prog_33_method_39_code (15 : Nat) (Option.some Jvm.ClassFile.FieldType.int)) ∈ lw_all := lw_g (lw_at lw_m6 34 rfl) rfl
theorem q1304 : (Jvm.Cond.methodLink "java/math/MutableBigInteger" (281 : Nat) ({ cls := "java/math/MutableBigInteger", name := "divadd", desc := "([I[II)I" } : Jvm.MethodName)) ∈ lw_all := lw_g (lw_at lw_m6 35 rfl) rfl
theorem q1305 : (Jvm.Cond.privateMethod ({ cls := "java/math/MutableBigInteger", name := "divadd", desc := "([I[II)I" } : Jvm.MethodName)) ∈ lw_tbl := lw_at lw_m6 36 rfl
theorem q1306 : (Jvm.Cond.instanceMethod ({ cls := "java/math/MutableBigInteger", name := "divadd", desc := "([I[II)I" } : Jvm.MethodName)) ∈ lw_all := lw_g (lw_at lw_m6 37 rfl) rfl
theorem q1307 : (Jvm.Cond.code ({ cls := "java/math/MutableBigInteger", name := "divadd", desc := "([I[II)I" } : Jvm.MethodName) prog_33_method_38_code (9 : Nat) (Option.some Jvm.ClassFile.FieldType.int)) ∈ lw_all := lw_g (lw_at lw_m6 38 rfl) rfl
theorem q1308 : (Jvm.Cond.methodLink "java/math/MutableBigInteger" (285 : Nat) ({ cls := "java/math/MutableBigInteger", name := "mulsubBorrow", desc := "([I[IIII)I" } : Jvm.MethodName)) ∈ lw_all := lw_g (lw_at lw_m6 39 rfl) rfl
theorem q1309 : (Jvm.Cond.privateMethod ({ cls := "java/math/MutableBigInteger", name := "mulsubBorrow", desc := "([I[IIII)I" } : Jvm.MethodName)) ∈ lw_tbl := lw_at lw_m6 40 rfl
theorem q1310 : (Jvm.Cond.instanceMethod ({ cls := "java/math/MutableBigInteger", name := "mulsubBorrow", desc := "([I[IIII)I" } : Jvm.MethodName)) ∈ lw_all := lw_g (lw_at lw_m6 41 rfl) rfl
theorem q1311 : (Jvm.Cond.code ({ cls := "java/math/MutableBigInteger", name := "mulsubBorrow", desc := "([I[IIII)I" } : Jvm.MethodName) prog_33_method_40_code (15 : Nat) (Option.some Jvm.ClassFile.FieldType.int)) ∈ lw_all := lw_g (lw_at lw_m6 42 rfl) rfl
theorem q1312 : (Jvm.Cond.methodLink "java/math/MutableBigInteger" (166 : Nat) ({ cls := "java/math/MutableBigInteger", name := "divideAndRemainderBurnikelZiegler", desc := "(Ljava/math/MutableBigInteger;Ljava/math/MutableBigInteger;)Ljava/math/MutableBigInteger;" } : Jvm.MethodName)) ∈ lw_all := lw_g (lw_at lw_m6 43 rfl) rfl
theorem q1313 : (Jvm.Cond.instanceMethod ({ cls := "java/math/MutableBigInteger", name := "divideAndRemainderBurnikelZiegler", desc := "(Ljava/math/MutableBigInteger;Ljava/math/MutableBigInteger;)Ljava/math/MutableBigInteger;" } : Jvm.MethodName)) ∈ lw_all := lw_g (lw_at lw_m6 44 rfl) rfl
theorem q1314 : (Jvm.Cond.selects "java/math/MutableBigInteger" ({ cls := "java/math/MutableBigInteger", name := "divideAndRemainderBurnikelZiegler", desc := "(Ljava/math/MutableBigInteger;Ljava/math/MutableBigInteger;)Ljava/math/MutableBigInteger;" } : Jvm.MethodName) ({ cls := "java/math/MutableBigInteger", name := "divideAndRemainderBurnikelZiegler", desc := "(Ljava/math/MutableBigInteger;Ljava/math/MutableBigInteger;)Ljava/math/MutableBigInteger;" } : Jvm.MethodName)) ∈ lw_all := lw_g (lw_at lw_m6 45 rfl) rfl
theorem q1315 : (Jvm.Cond.code ({ cls := "java/math/MutableBigInteger", name := "divideAndRemainderBurnikelZiegler", desc := "(Ljava/math/MutableBigInteger;Ljava/math/MutableBigInteger;)Ljava/math/MutableBigInteger;" } : Jvm.MethodName) prog_33_method_58_code (19 : Nat) (Option.some (Jvm.ClassFile.FieldType.object "java/math/MutableBigInteger"))) ∈ lw_all := lw_g (lw_at lw_m6 46 rfl) rfl
theorem q1316 : (Jvm.Cond.constantLong "java/math/MutableBigInteger" (193 : Nat) (32 : Int64)) ∈ lw_all := lw_g (lw_at lw_m6 47 rfl) rfl
theorem q1317 : (Jvm.Cond.methodLink "java/math/MutableBigInteger" (195 : Nat) ({ cls := "java/math/MutableBigInteger", name := "bitLength", desc := "()J" } : Jvm.MethodName)) ∈ lw_all := lw_g (lw_at lw_m6 48 rfl) rfl
theorem q1318 : (Jvm.Cond.instanceMethod ({ cls := "java/math/MutableBigInteger", name := "bitLength", desc := "()J" } : Jvm.MethodName)) ∈ lw_all := lw_g (lw_at lw_m6 49 rfl) rfl
theorem q1319 : (Jvm.Cond.selects "java/math/MutableBigInteger" ({ cls := "java/math/MutableBigInteger", name := "bitLength", desc := "()J" } : Jvm.MethodName) ({ cls := "java/math/MutableBigInteger", name := "bitLength", desc := "()J" } : Jvm.MethodName)) ∈ lw_all := lw_g (lw_at lw_m6 50 rfl) rfl
theorem q1320 : (Jvm.Cond.code ({ cls := "java/math/MutableBigInteger", name := "bitLength", desc := "()J" } : Jvm.MethodName) prog_33_method_62_code (1 : Nat) (Option.some Jvm.ClassFile.FieldType.long)) ∈ lw_all := lw_g (lw_at lw_m6 51 rfl) rfl
theorem q1321 : (Jvm.Cond.methodLink "java/math/MutableBigInteger" (199 : Nat) ({ cls := "java/lang/Math", name := "max", desc := "(JJ)J" } : Jvm.MethodName)) ∈ lw_all := lw_g (lw_at lw_m6 52 rfl) rfl
theorem q1324 : (Jvm.Cond.methodLink "java/math/MutableBigInteger" (203 : Nat) ({ cls := "java/math/MutableBigInteger", name := "safeLeftShift", desc := "(I)V" } : Jvm.MethodName)) ∈ lw_all := lw_g (lw_at lw_m6 55 rfl) rfl
theorem q1325 : (Jvm.Cond.instanceMethod ({ cls := "java/math/MutableBigInteger", name := "safeLeftShift", desc := "(I)V" } : Jvm.MethodName)) ∈ lw_all := lw_g (lw_at lw_m6 56 rfl) rfl
theorem q1326 : (Jvm.Cond.selects "java/math/MutableBigInteger" ({ cls := "java/math/MutableBigInteger", name := "safeLeftShift", desc := "(I)V" } : Jvm.MethodName) ({ cls := "java/math/MutableBigInteger", name := "safeLeftShift", desc := "(I)V" } : Jvm.MethodName)) ∈ lw_all := lw_g (lw_at lw_m6 57 rfl) rfl
theorem q1327 : (Jvm.Cond.code ({ cls := "java/math/MutableBigInteger", name := "safeLeftShift", desc := "(I)V" } : Jvm.MethodName) prog_33_method_36_code (2 : Nat) (Option.none : Option Jvm.ClassFile.FieldType)) ∈ lw_all := lw_g (lw_at lw_m6 58 rfl) rfl
theorem q1328 : (Jvm.Cond.methodLink "java/math/MutableBigInteger" (206 : Nat) ({ cls := "java/math/MutableBigInteger", name := "getBlock", desc := "(III)Ljava/math/MutableBigInteger;" } : Jvm.MethodName)) ∈ lw_all := lw_g (lw_at lw_m6 59 rfl) rfl
theorem q1329 : (Jvm.Cond.privateMethod ({ cls := "java/math/MutableBigInteger", name := "getBlock", desc := "(III)Ljava/math/MutableBigInteger;" } : Jvm.MethodName)) ∈ lw_tbl := lw_at lw_m6 60 rfl
theorem q1330 : (Jvm.Cond.instanceMethod ({ cls := "java/math/MutableBigInteger", name := "getBlock", desc := "(III)Ljava/math/MutableBigInteger;" } : Jvm.MethodName)) ∈ lw_all := lw_g (lw_at lw_m6 61 rfl) rfl
theorem q1331 : (Jvm.Cond.code ({ cls := "java/math/MutableBigInteger", name := "getBlock", desc := "(III)Ljava/math/MutableBigInteger;" } : Jvm.MethodName) prog_33_method_61_code (7 : Nat) (Option.some (Jvm.ClassFile.FieldType.object "java/math/MutableBigInteger"))) ∈ lw_all := lw_g (lw_at lw_m6 62 rfl) rfl
theorem q1332 : (Jvm.Cond.methodLink "java/math/MutableBigInteger" (210 : Nat) ({ cls := "java/math/MutableBigInteger", name := "addDisjoint", desc := "(Ljava/math/MutableBigInteger;I)V" } : Jvm.MethodName)) ∈ lw_all := lw_g (lw_at lw_m6 63 rfl) rfl
theorem q1333 : (Jvm.Cond.instanceMethod ({ cls := "java/math/MutableBigInteger", name := "addDisjoint", desc := "(Ljava/math/MutableBigInteger;I)V" } : Jvm.MethodName)) ∈ lw_all := lw_g (lw_at lw_m6 64 rfl) rfl
theorem q1334 : (Jvm.Cond.selects "java/math/MutableBigInteger" ({ cls := "java/math/MutableBigInteger", name := "addDisjoint", desc := "(Ljava/math/MutableBigInteger;I)V" } : Jvm.MethodName) ({ cls := "java/math/MutableBigInteger", name := "addDisjoint", desc := "(Ljava/math/MutableBigInteger;I)V" } : Jvm.MethodName)) ∈ lw_all := lw_g (lw_at lw_m6 65 rfl) rfl
theorem q1335 : (Jvm.Cond.code ({ cls := "java/math/MutableBigInteger", name := "addDisjoint", desc := "(Ljava/math/MutableBigInteger;I)V" } : Jvm.MethodName) prog_33_method_47_code (10 : Nat) (Option.none : Option Jvm.ClassFile.FieldType)) ∈ lw_all := lw_g (lw_at lw_m6 66 rfl) rfl
theorem q1336 : (Jvm.Cond.methodLink "java/math/MutableBigInteger" (67 : Nat) ({ cls := "java/math/MutableBigInteger", name := "isZero", desc := "()Z" } : Jvm.MethodName)) ∈ lw_all := lw_g (lw_at lw_m6 67 rfl) rfl
theorem q1337 : (Jvm.Cond.instanceMethod ({ cls := "java/math/MutableBigInteger", name := "isZero", desc := "()Z" } : Jvm.MethodName)) ∈ lw_all := lw_g (lw_at lw_m6 68 rfl) rfl
theorem q1338 : (Jvm.Cond.selects "java/math/MutableBigInteger" ({ cls := "java/math/MutableBigInteger", name := "isZero", desc := "()Z" } : Jvm.MethodName) ({ cls := "java/math/MutableBigInteger", name := "isZero", desc := "()Z" } : Jvm.MethodName)) ∈ lw_all := lw_g (lw_at lw_m6 69 rfl) rfl
theorem q1339 : (Jvm.Cond.code ({ cls := "java/math/MutableBigInteger", name := "isZero", desc := "()Z" } : Jvm.MethodName) prog_33_method_29_code (1 : Nat) (Option.some Jvm.ClassFile.FieldType.boolean)) ∈ lw_all := lw_g (lw_at lw_m6 70 rfl) rfl
theorem q1340 : (Jvm.Cond.methodLink "java/math/MutableBigInteger" (127 : Nat) ({ cls := "java/util/Arrays", name := "fill", desc := "([IIII)V" } : Jvm.MethodName)) ∈ lw_all := lw_g (lw_at lw_m6 71 rfl) rfl
theorem q1351 : (Jvm.Cond.methodLink "java/math/MutableBigInteger" (214 : Nat) ({ cls := "java/math/MutableBigInteger", name := "divide2n1n", desc := "(Ljava/math/MutableBigInteger;Ljava/math/MutableBigInteger;)Ljava/math/MutableBigInteger;" } : Jvm.MethodName)) ∈ lw_all := lw_g (lw_at lw_m6 82 rfl) rfl
theorem q1352 : (Jvm.Cond.privateMethod ({ cls := "java/math/MutableBigInteger", name := "divide2n1n", desc := "(Ljava/math/MutableBigInteger;Ljava/math/MutableBigInteger;)Ljava/math/MutableBigInteger;" } : Jvm.MethodName)) ∈ lw_tbl := lw_at lw_m6 83 rfl
theorem q1353 : (Jvm.Cond.instanceMethod ({ cls := "java/math/MutableBigInteger", name := "divide2n1n", desc := "(Ljava/math/MutableBigInteger;Ljava/math/MutableBigInteger;)Ljava/math/MutableBigInteger;" } : Jvm.MethodName)) ∈ lw_all := lw_g (lw_at lw_m6 84 rfl) rfl
theorem q1354 : (Jvm.Cond.code ({ cls := "java/math/MutableBigInteger", name := "divide2n1n", desc := "(Ljava/math/MutableBigInteger;Ljava/math/MutableBigInteger;)Ljava/math/MutableBigInteger;" } : Jvm.MethodName) prog_33_method_59_code (8 : Nat) (Option.some (Jvm.ClassFile.FieldType.object "java/math/MutableBigInteger"))) ∈ lw_all := lw_g (lw_at lw_m6 85 rfl) rfl
theorem q1355 : (Jvm.Cond.methodLink "java/math/MutableBigInteger" (220 : Nat) ({ cls := "java/math/MutableBigInteger", name := "safeRightShift", desc := "(I)V" } : Jvm.MethodName)) ∈ lw_all := lw_g (lw_at lw_m6 86 rfl) rfl
theorem q1356 : (Jvm.Cond.instanceMethod ({ cls := "java/math/MutableBigInteger", name := "safeRightShift", desc := "(I)V" } : Jvm.MethodName)) ∈ lw_all := lw_g (lw_at lw_m6 87 rfl) rfl
theorem q1357 : (Jvm.Cond.selects "java/math/MutableBigInteger" ({ cls := "java/math/MutableBigInteger", name := "safeRightShift", desc := "(I)V" } : Jvm.MethodName) ({ cls := "java/math/MutableBigInteger", name := "safeRightShift", desc := "(I)V" } : Jvm.MethodName)) ∈ lw_all := lw_g (lw_at lw_m6 88 rfl) rfl
theorem q1358 : (Jvm.Cond.code ({ cls := "java/math/MutableBigInteger", name := "safeRightShift", desc := "(I)V" } : Jvm.MethodName) prog_33_method_34_code (2 : Nat) (Option.none : Option Jvm.ClassFile.FieldType)) ∈ lw_all := lw_g (lw_at lw_m6 89 rfl) rfl
theorem q1359 : (Jvm.Cond.methodLink "java/math/MutableBigInteger" (105 : Nat) ({ cls := "java/math/MutableBigInteger", name := "reset", desc := "()V" } : Jvm.MethodName)) ∈ lw_all := lw_g (lw_at lw_m6 90 rfl) rfl
theorem q1360 : (Jvm.Cond.instanceMethod ({ cls := "java/math/MutableBigInteger", name := "reset", desc := "()V" } : Jvm.MethodName)) ∈ lw_all := lw_g (lw_at lw_m6 91 rfl) rfl
theorem q1361 : (Jvm.Cond.selects "java/math/MutableBigInteger" ({ cls := "java/math/MutableBigInteger", name := "reset", desc := "()V" } : Jvm.MethodName) ({ cls := "java/math/MutableBigInteger", name := "reset", desc := "()V" } : Jvm.MethodName)) ∈ lw_all := lw_g (lw_at lw_m6 92 rfl) rfl
theorem q1362 : (Jvm.Cond.code ({ cls := "java/math/MutableBigInteger", name := "reset", desc := "()V" } : Jvm.MethodName) prog_33_method_14_code (1 : Nat) (Option.none : Option Jvm.ClassFile.FieldType)) ∈ lw_all := lw_g (lw_at lw_m6 93 rfl) rfl
theorem q1363 : (Jvm.Cond.methodLink "java/math/MutableBigInteger" (223 : Nat) ({ cls := "java/math/MutableBigInteger", name := "keepLower", desc := "(I)V" } : Jvm.MethodName)) ∈ lw_all := lw_g (lw_at lw_m6 94 rfl) rfl
theorem q1364 : (Jvm.Cond.privateMethod ({ cls := "java/math/MutableBigInteger", name := "keepLower", desc := "(I)V" } : Jvm.MethodName)) ∈ lw_tbl := lw_at lw_m6 95 rfl
theorem q1365 : (Jvm.Cond.instanceMethod ({ cls := "java/math/MutableBigInteger", name := "keepLower", desc := "(I)V" } : Jvm.MethodName)) ∈ lw_all := lw_g (lw_at lw_m6 96 rfl) rfl
theorem q1366 : (Jvm.Cond.code ({ cls := "java/math/MutableBigInteger", name := "keepLower", desc := "(I)V" } : Jvm.MethodName) prog_33_method_44_code (2 : Nat) (Option.none : Option Jvm.ClassFile.FieldType)) ∈ lw_all := lw_g (lw_at lw_m6 97 rfl) rfl
theorem q1367 : (Jvm.Cond.methodLink "java/math/MutableBigInteger" (226 : Nat) ({ cls := "java/math/MutableBigInteger", name := "divide3n2n", desc := "(Ljava/math/MutableBigInteger;Ljava/math/MutableBigInteger;)Ljava/math/MutableBigInteger;" } : Jvm.MethodName)) ∈ lw_all := lw_g (lw_at lw_m6 98 rfl) rfl
theorem q1368 : (Jvm.Cond.privateMethod ({ cls := "java/math/MutableBigInteger", name := "divide3n2n", desc := "(Ljava/math/MutableBigInteger;Ljava/math/MutableBigInteger;)Ljava/math/MutableBigInteger;" } : Jvm.MethodName)) ∈ lw_tbl := lw_at lw_m6 99 rfl
theorem q1369 : (Jvm.Cond.instanceMethod ({ cls := "java/math/MutableBigInteger", name := "divide3n2n", desc := "(Ljava/math/MutableBigInteger;Ljava/math/MutableBigInteger;)Ljava/math/MutableBigInteger;" } : Jvm.MethodName)) ∈ lw_all := lw_g (lw_at lw_m6 100 rfl) rfl
theorem q1370 : (Jvm.Cond.code ({ cls := "java/math/MutableBigInteger", name := "divide3n2n", desc := "(Ljava/math/MutableBigInteger;Ljava/math/MutableBigInteger;)Ljava/math/MutableBigInteger;" } : Jvm.MethodName) prog_33_method_60_code (9 : Nat) (Option.some (Jvm.ClassFile.FieldType.object "java/math/MutableBigInteger"))) ∈ lw_all := lw_g (lw_at lw_m6 101 rfl) rfl
theorem q1371 : (Jvm.Cond.methodLink "java/math/MutableBigInteger" (229 : Nat) ({ cls := "java/math/MutableBigInteger", name := "getLower", desc := "(I)Ljava/math/BigInteger;" } : Jvm.MethodName)) ∈ lw_all := lw_g (lw_at lw_m6 102 rfl) rfl
theorem q1372 : (Jvm.Cond.privateMethod ({ cls := "java/math/MutableBigInteger", name := "getLower", desc := "(I)Ljava/math/BigInteger;" } : Jvm.MethodName)) ∈ lw_tbl := lw_at lw_m6 103 rfl
theorem q1373 : (Jvm.Cond.instanceMethod ({ cls := "java/math/MutableBigInteger", name := "getLower", desc := "(I)Ljava/math/BigInteger;" } : Jvm.MethodName)) ∈ lw_all := lw_g (lw_at lw_m6 104 rfl) rfl
theorem q1374 : (Jvm.Cond.code ({ cls := "java/math/MutableBigInteger", name := "getLower", desc := "(I)Ljava/math/BigInteger;" } : Jvm.MethodName) prog_33_method_43_code (4 : Nat) (Option.some (Jvm.ClassFile.FieldType.object "java/math/BigInteger"))) ∈ lw_all := lw_g (lw_at lw_m6 105 rfl) rfl
theorem q1375 : (Jvm.Cond.fieldLink "java/math/MutableBigInteger" (54 : Nat) "java/math/BigInteger" "ZERO" "Ljava/math/BigInteger;") ∈ lw_all := lw_g (lw_at lw_m6 106 rfl) rfl
theorem q1376 : (Jvm.Cond.methodLink "java/math/MutableBigInteger" (71 : Nat) ({ cls := "java/math/MutableBigInteger", name := "toBigInteger", desc := "(I)Ljava/math/BigInteger;" } : Jvm.MethodName)) ∈ lw_all := lw_g (lw_at lw_m6 107 rfl) rfl
theorem q1377 : (Jvm.Cond.instanceMethod ({ cls := "java/math/MutableBigInteger", name := "toBigInteger", desc := "(I)Ljava/math/BigInteger;" } : Jvm.MethodName)) ∈ lw_all := lw_g (lw_at lw_m6 108 rfl) rfl
theorem q1378 : (Jvm.Cond.selects "java/math/MutableBigInteger" ({ cls := "java/math/MutableBigInteger", name := "toBigInteger", desc := "(I)Ljava/math/BigInteger;" } : Jvm.MethodName) ({ cls := "java/math/MutableBigInteger", name := "toBigInteger", desc := "(I)Ljava/math/BigInteger;" } : Jvm.MethodName)) ∈ lw_all := lw_g (lw_at lw_m6 109 rfl) rfl
theorem q1379 : (Jvm.Cond.code ({ cls := "java/math/MutableBigInteger", name := "toBigInteger", desc := "(I)Ljava/math/BigInteger;" } : Jvm.MethodName) prog_33_method_9_code (2 : Nat) (Option.some (Jvm.ClassFile.FieldType.object "java/math/BigInteger"))) ∈ lw_all := lw_g (lw_at lw_m6 110 rfl) rfl
theorem q1380 : (Jvm.Cond.classLink "java/math/MutableBigInteger" (1 : Nat) "java/math/BigInteger") ∈ lw_all := lw_g (lw_at lw_m6 111 rfl) rfl
theorem q1381 : (Jvm.Cond.methodLink "java/math/MutableBigInteger" (58 : Nat) ({ cls := "java/math/MutableBigInteger", name := "getMagnitudeArray", desc := "()[I" } : Jvm.MethodName)) ∈ lw_all := lw_g (lw_at lw_m6 112 rfl) rfl
theorem q1382 : (Jvm.Cond.privateMethod ({ cls := "java/math/MutableBigInteger", name := "getMagnitudeArray", desc := "()[I" } : Jvm.MethodName)) ∈ lw_tbl := lw_at lw_m6 113 rfl
theorem q1383 : (Jvm.Cond.instanceMethod ({ cls := "java/math/MutableBigInteger", name := "getMagnitudeArray", desc := "()[I" } : Jvm.MethodName)) ∈ lw_all := lw_g (lw_at lw_m6 114 rfl) rfl
theorem q1384 : (Jvm.Cond.code ({ cls := "java/math/MutableBigInteger", name := "getMagnitudeArray", desc := "()[I" } : Jvm.MethodName) prog_33_method_7_code (2 : Nat) (Option.some (Jvm.ClassFile.FieldType.array Jvm.ClassFile.FieldType.int))) ∈ lw_all := lw_g (lw_at lw_m6 115 rfl) rfl
theorem q1385 : (Jvm.Cond.methodLink "java/math/MutableBigInteger" (37 : Nat) ({ cls := "java/util/Arrays", name := "fill", desc := "([II)V" } : Jvm.MethodName)) ∈ lw_all := lw_g (lw_at lw_m6 116 rfl) rfl
theorem q1388 : (Jvm.Cond.methodLink "java/math/MutableBigInteger" (62 : Nat) ({ cls := "java/math/BigInteger", name := "<init>", desc := "([II)V" } : Jvm.MethodName)) ∈ lw_all := lw_g (lw_at lw_m6 119 rfl) rfl
theorem q1389 : (Jvm.Cond.methodLink "java/math/MutableBigInteger" (232 : Nat) ({ cls := "java/math/MutableBigInteger", name := "compareShifted", desc := "(Ljava/math/MutableBigInteger;I)I" } : Jvm.MethodName)) ∈ lw_all := lw_g (lw_at lw_m6 120 rfl) rfl
theorem q1390 : (Jvm.Cond.privateMethod ({ cls := "java/math/MutableBigInteger", name := "compareShifted", desc := "(Ljava/math/MutableBigInteger;I)I" } : Jvm.MethodName)) ∈ lw_tbl := lw_at lw_m6 121 rfl
theorem q1391 : (Jvm.Cond.instanceMethod ({ cls := "java/math/MutableBigInteger", name := "compareShifted", desc := "(Ljava/math/MutableBigInteger;I)I" } : Jvm.MethodName)) ∈ lw_all := lw_g (lw_at lw_m6 122 rfl) rfl
theorem q1392 : (Jvm.Cond.code ({ cls := "java/math/MutableBigInteger", name := "compareShifted", desc := "(Ljava/math/MutableBigInteger;I)I" } : Jvm.MethodName) prog_33_method_16_code (10 : Nat) (Option.some Jvm.ClassFile.FieldType.int)) ∈ lw_all := lw_g (lw_at lw_m6 123 rfl) rfl
theorem q1393 : (Jvm.Cond.methodLink "java/math/MutableBigInteger" (236 : Nat) ({ cls := "java/math/MutableBigInteger", name := "toBigInteger", desc := "()Ljava/math/BigInteger;" } : Jvm.MethodName)) ∈ lw_all := lw_g (lw_at lw_m6 124 rfl) rfl
theorem q1394 : (Jvm.Cond.instanceMethod ({ cls := "java/math/MutableBigInteger", name := "toBigInteger", desc := "()Ljava/math/BigInteger;" } : Jvm.MethodName)) ∈ lw_all := lw_g (lw_at lw_m6 125 rfl) rfl
theorem q1395 : (Jvm.Cond.selects "java/math/MutableBigInteger" ({ cls := "java/math/MutableBigInteger", name := "toBigInteger", desc := "()Ljava/math/BigInteger;" } : Jvm.MethodName) ({ cls := "java/math/MutableBigInteger", name := "toBigInteger", desc := "()Ljava/math/BigInteger;" } : Jvm.MethodName)) ∈ lw_all := lw_g (lw_at lw_m6 126 rfl) rfl
theorem q1396 : (Jvm.Cond.code ({ cls := "java/math/MutableBigInteger", name := "toBigInteger", desc := "()Ljava/math/BigInteger;" } : Jvm.MethodName) prog_33_method_10_code (1 : Nat) (Option.some (Jvm.ClassFile.FieldType.object "java/math/BigInteger"))) ∈ lw_all := lw_g (lw_at lw_m6 127 rfl) rfl
theorem q1397 : (Jvm.Cond.methodLink "java/math/MutableBigInteger" (239 : Nat) ({ cls := "java/math/BigInteger", name := "multiply", desc := "(Ljava/math/BigInteger;)Ljava/math/BigInteger;" } : Jvm.MethodName)) ∈ lw_all := lw_g (lw_at lw_m6 128 rfl) rfl
theorem q1398 : (Jvm.Cond.methodLink "java/math/MutableBigInteger" (243 : Nat) ({ cls := "java/math/MutableBigInteger", name := "<init>", desc := "(Ljava/math/BigInteger;)V" } : Jvm.MethodName)) ∈ lw_all := lw_g (lw_at lw_m6 129 rfl) rfl
theorem q1399 : (Jvm.Cond.methodLink "java/math/MutableBigInteger" (246 : Nat) ({ cls := "java/math/MutableBigInteger", name := "ones", desc := "(I)V" } : Jvm.MethodName)) ∈ lw_all := lw_g (lw_at lw_m6 130 rfl) rfl
theorem q1400 : (Jvm.Cond.privateMethod ({ cls := "java/math/MutableBigInteger", name := "ones", desc := "(I)V" } : Jvm.MethodName)) ∈ lw_tbl := lw_at lw_m6 131 rfl
theorem q1401 : (Jvm.Cond.instanceMethod ({ cls := "java/math/MutableBigInteger", name := "ones", desc := "(I)V" } : Jvm.MethodName)) ∈ lw_all := lw_g (lw_at lw_m6 132 rfl) rfl
theorem q1402 : (Jvm.Cond.code ({ cls := "java/math/MutableBigInteger", name := "ones", desc := "(I)V" } : Jvm.MethodName) prog_33_method_6_code (2 : Nat) (Option.none : Option Jvm.ClassFile.FieldType)) ∈ lw_all := lw_g (lw_at lw_m6 133 rfl) rfl
theorem q1403 : (Jvm.Cond.methodLink "java/math/MutableBigInteger" (139 : Nat) ({ cls := "java/math/MutableBigInteger", name := "add", desc := "(Ljava/math/MutableBigInteger;)V" } : Jvm.MethodName)) ∈ lw_all := lw_g (lw_at lw_m6 134 rfl) rfl
theorem q1404 : (Jvm.Cond.instanceMethod ({ cls := "java/math/MutableBigInteger", name := "add", desc := "(Ljava/math/MutableBigInteger;)V" } : Jvm.MethodName)) ∈ lw_all := lw_g (lw_at lw_m6 135 rfl) rfl
theorem q1405 : (Jvm.Cond.selects "java/math/MutableBigInteger" ({ cls := "java/math/MutableBigInteger", name := "add", desc := "(Ljava/math/MutableBigInteger;)V" } : Jvm.MethodName) ({ cls := "java/math/MutableBigInteger", name := "add", desc := "(Ljava/math/MutableBigInteger;)V" } : Jvm.MethodName)) ∈ lw_all := lw_g (lw_at lw_m6 136 rfl) rfl
theorem q1406 : (Jvm.Cond.code ({ cls := "java/math/MutableBigInteger", name := "add", desc := "(Ljava/math/MutableBigInteger;)V" } : Jvm.MethodName) prog_33_method_45_code (12 : Nat) (Option.none : Option Jvm.ClassFile.FieldType)) ∈ lw_all := lw_g (lw_at lw_m6 137 rfl) rfl
theorem q1407 : (Jvm.Cond.methodLink "java/math/MutableBigInteger" (249 : Nat) ({ cls := "java/math/MutableBigInteger", name := "subtract", desc := "(Ljava/math/MutableBigInteger;)I" } : Jvm.MethodName)) ∈ lw_all := lw_g (lw_at lw_m6 138 rfl) rfl
theorem q1408 : (Jvm.Cond.instanceMethod ({ cls := "java/math/MutableBigInteger", name := "subtract", desc := "(Ljava/math/MutableBigInteger;)I" } : Jvm.MethodName)) ∈ lw_all := lw_g (lw_at lw_m6 139 rfl) rfl
theorem q1409 : (Jvm.Cond.selects "java/math/MutableBigInteger" ({ cls := "java/math/MutableBigInteger", name := "subtract", desc := "(Ljava/math/MutableBigInteger;)I" } : Jvm.MethodName) ({ cls := "java/math/MutableBigInteger", name := "subtract", desc := "(Ljava/math/MutableBigInteger;)I" } : Jvm.MethodName)) ∈ lw_all := lw_g (lw_at lw_m6 140 rfl) rfl
theorem q1410 : (Jvm.Cond.code ({ cls := "java/math/MutableBigInteger", name := "subtract", desc := "(Ljava/math/MutableBigInteger;)I" } : Jvm.MethodName) prog_33_method_49_code (11 : Nat) (Option.some Jvm.ClassFile.FieldType.int)) ∈ lw_all := lw_g (lw_at lw_m6 141 rfl) rfl
theorem q1411 : (Jvm.Cond.methodLink "java/math/MutableBigInteger" (252 : Nat) ({ cls := "java/math/MutableBigInteger", name := "addLower", desc := "(Ljava/math/MutableBigInteger;I)V" } : Jvm.MethodName)) ∈ lw_all := lw_g (lw_at lw_m6 142 rfl) rfl
theorem q1412 : (Jvm.Cond.instanceMethod ({ cls := "java/math/MutableBigInteger", name := "addLower", desc := "(Ljava/math/MutableBigInteger;I)V" } : Jvm.MethodName)) ∈ lw_all := lw_g (lw_at lw_m6 143 rfl) rfl
theorem q1413 : (Jvm.Cond.selects "java/math/MutableBigInteger" ({ cls := "java/math/MutableBigInteger", name := "addLower", desc := "(Ljava/math/MutableBigInteger;I)V" } : Jvm.MethodName) ({ cls := "java/math/MutableBigInteger", name := "addLower", desc := "(Ljava/math/MutableBigInteger;I)V" } : Jvm.MethodName)) ∈ lw_all := lw_g (lw_at lw_m6 144 rfl) rfl
theorem q1414 : (Jvm.Cond.code ({ cls := "java/math/MutableBigInteger", name := "addLower", desc := "(Ljava/math/MutableBigInteger;I)V" } : Jvm.MethodName) prog_33_method_48_code (4 : Nat) (Option.none : Option Jvm.ClassFile.FieldType)) ∈ lw_all := lw_g (lw_at lw_m6 145 rfl) rfl
theorem q1415 : (Jvm.Cond.fieldLink "java/math/MutableBigInteger" (255 : Nat) "java/math/MutableBigInteger" "ONE" "Ljava/math/MutableBigInteger;") ∈ lw_all := lw_g (lw_at lw_m6 146 rfl) rfl
theorem q1416 : (Jvm.Cond.laysStatic "java/math/MutableBigInteger" "ONE" "Ljava/math/MutableBigInteger;") ∈ lw_tbl := lw_at lw_m6 147 rfl
theorem q1417 : (Jvm.Cond.methodLink "java/math/MutableBigInteger" (217 : Nat) ({ cls := "java/math/MutableBigInteger", name := "addShifted", desc := "(Ljava/math/MutableBigInteger;I)V" } : Jvm.MethodName)) ∈ lw_all := lw_g (lw_at lw_m6 148 rfl) rfl
theorem q1418 : (Jvm.Cond.instanceMethod ({ cls := "java/math/MutableBigInteger", name := "addShifted", desc := "(Ljava/math/MutableBigInteger;I)V" } : Jvm.MethodName)) ∈ lw_all := lw_g (lw_at lw_m6 149 rfl) rfl
theorem q1419 : (Jvm.Cond.selects "java/math/MutableBigInteger" ({ cls := "java/math/MutableBigInteger", name := "addShifted", desc := "(Ljava/math/MutableBigInteger;I)V" } : Jvm.MethodName) ({ cls := "java/math/MutableBigInteger", name := "addShifted", desc := "(Ljava/math/MutableBigInteger;I)V" } : Jvm.MethodName)) ∈ lw_all := lw_g (lw_at lw_m6 150 rfl) rfl
theorem q1420 : (Jvm.Cond.code ({ cls := "java/math/MutableBigInteger", name := "addShifted", desc := "(Ljava/math/MutableBigInteger;I)V" } : Jvm.MethodName) prog_33_method_46_code (13 : Nat) (Option.none : Option Jvm.ClassFile.FieldType)) ∈ lw_all := lw_g (lw_at lw_m6 151 rfl) rfl
theorem q2185 : (Jvm.Cond.castable "java/math/MutableBigInteger" "java/lang/Object") ∈ lw_tbl := lw_at lw_m9 196 rfl
theorem in_J26 : ∀ w ∈ wsJ260, w ∈ lw_all := lw_in wsJ260 [1175, 1177, 1179] (by decide +kernel) (by decide +kernel)
/-! java/lang/Integer -/
set_option maxRecDepth 100000
def RJ24 : String := "java/lang/Integer"
abbrev cJ24_bitCount : ByteArray := prog_19_method_49_code
def yJ24_bitCount : MethodName := ⟨RJ24, "bitCount", "(I)I"⟩
def dkwJ24_bitCount_2 : List UInt8 := [26, 16, 63, 126, 172]
abbrev dktJ24_bitCount_2 : List UInt8 := dkwJ24_bitCount_2 ++ []
def dkwJ24_bitCount_1 : List UInt8 := [26, 26, 7, 124, 96, 19, 1, 11, 126, 59, 26, 26, 16, 8, 124, 96, 59, 26, 26, 16, 16, 124, 96, 59]
abbrev dktJ24_bitCount_1 : List UInt8 := dkwJ24_bitCount_1 ++ dktJ24_bitCount_2
def dkwJ24_bitCount_0 : List UInt8 := [26, 26, 4, 124, 19, 1, 9, 126, 100, 59, 26, 19, 1, 10, 126, 26, 5, 124, 19, 1, 10, 126, 96, 59]
abbrev dktJ24_bitCount_0 : List UInt8 := dkwJ24_bitCount_0 ++ dktJ24_bitCount_1
theorem dksJ24_bitCount_0 : cJ24_bitCount.data.toList.drop 0 = dktJ24_bitCount_0 := by decide +kernel
theorem dksJ24_bitCount_1 : cJ24_bitCount.data.toList.drop 24 = dktJ24_bitCount_1 := dk_seg dksJ24_bitCount_0 24 rfl rfl
theorem dksJ24_bitCount_2 : cJ24_bitCount.data.toList.drop 48 = dktJ24_bitCount_2 := dk_seg dksJ24_bitCount_1 24 rfl rfl
theorem dJ24_bitCount_0 : decode cJ24_bitCount 0 = .ok (.iload_n 0, 1) := dk_26 (dk_at dksJ24_bitCount_0 0 rfl rfl)
theorem dJ24_bitCount_1 : decode cJ24_bitCount 1 = .ok (.iload_n 0, 1) := dk_26 (dk_at dksJ24_bitCount_0 1 rfl rfl)
theorem dJ24_bitCount_2 : decode cJ24_bitCount 2 = .ok (.iconst 1, 1) := dk_4 (dk_at dksJ24_bitCount_0 2 rfl rfl)
theorem dJ24_bitCount_3 : decode cJ24_bitCount 3 = .ok (.iushr, 1) := dk_124 (dk_at dksJ24_bitCount_0 3 rfl rfl)
theorem dJ24_bitCount_4 : decode cJ24_bitCount 4 = .ok (.ldc_w 265, 3) := dk_19 1 9 (dk_at dksJ24_bitCount_0 4 rfl rfl)
theorem dJ24_bitCount_7 : decode cJ24_bitCount 7 = .ok (.iand, 1) := dk_126 (dk_at dksJ24_bitCount_0 7 rfl rfl)
theorem dJ24_bitCount_8 : decode cJ24_bitCount 8 = .ok (.isub, 1) := dk_100 (dk_at dksJ24_bitCount_0 8 rfl rfl)
theorem dJ24_bitCount_9 : decode cJ24_bitCount 9 = .ok (.istore_n 0, 1) := dk_59 (dk_at dksJ24_bitCount_0 9 rfl rfl)
theorem dJ24_bitCount_10 : decode cJ24_bitCount 10 = .ok (.iload_n 0, 1) := dk_26 (dk_at dksJ24_bitCount_0 10 rfl rfl)
theorem dJ24_bitCount_11 : decode cJ24_bitCount 11 = .ok (.ldc_w 266, 3) := dk_19 1 10 (dk_at dksJ24_bitCount_0 11 rfl rfl)
theorem dJ24_bitCount_14 : decode cJ24_bitCount 14 = .ok (.iand, 1) := dk_126 (dk_at dksJ24_bitCount_0 14 rfl rfl)
theorem dJ24_bitCount_15 : decode cJ24_bitCount 15 = .ok (.iload_n 0, 1) := dk_26 (dk_at dksJ24_bitCount_0 15 rfl rfl)
theorem dJ24_bitCount_16 : decode cJ24_bitCount 16 = .ok (.iconst 2, 1) := dk_5 (dk_at dksJ24_bitCount_0 16 rfl rfl)
theorem dJ24_bitCount_17 : decode cJ24_bitCount 17 = .ok (.iushr, 1) := dk_124 (dk_at dksJ24_bitCount_0 17 rfl rfl)
theorem dJ24_bitCount_18 : decode cJ24_bitCount 18 = .ok (.ldc_w 266, 3) := dk_19 1 10 (dk_at dksJ24_bitCount_0 18 rfl rfl)
theorem dJ24_bitCount_21 : decode cJ24_bitCount 21 = .ok (.iand, 1) := dk_126 (dk_at dksJ24_bitCount_0 21 rfl rfl)
theorem dJ24_bitCount_22 : decode cJ24_bitCount 22 = .ok (.iadd, 1) := dk_96 (dk_at dksJ24_bitCount_0 22 rfl rfl)
theorem dJ24_bitCount_23 : decode cJ24_bitCount 23 = .ok (.istore_n 0, 1) := dk_59 (dk_at dksJ24_bitCount_0 23 rfl rfl)
theorem dJ24_bitCount_24 : decode cJ24_bitCount 24 = .ok (.iload_n 0, 1) := dk_26 (dk_at dksJ24_bitCount_1 0 rfl rfl)
theorem dJ24_bitCount_25 : decode cJ24_bitCount 25 = .ok (.iload_n 0, 1) := dk_26 (dk_at dksJ24_bitCount_1 1 rfl rfl)
theorem dJ24_bitCount_26 : decode cJ24_bitCount 26 = .ok (.iconst 4, 1) := dk_7 (dk_at dksJ24_bitCount_1 2 rfl rfl)
theorem dJ24_bitCount_27 : decode cJ24_bitCount 27 = .ok (.iushr, 1) := dk_124 (dk_at dksJ24_bitCount_1 3 rfl rfl)
theorem dJ24_bitCount_28 : decode cJ24_bitCount 28 = .ok (.iadd, 1) := dk_96 (dk_at dksJ24_bitCount_1 4 rfl rfl)
theorem dJ24_bitCount_29 : decode cJ24_bitCount 29 = .ok (.ldc_w 267, 3) := dk_19 1 11 (dk_at dksJ24_bitCount_1 5 rfl rfl)
theorem dJ24_bitCount_32 : decode cJ24_bitCount 32 = .ok (.iand, 1) := dk_126 (dk_at dksJ24_bitCount_1 8 rfl rfl)
theorem dJ24_bitCount_33 : decode cJ24_bitCount 33 = .ok (.istore_n 0, 1) := dk_59 (dk_at dksJ24_bitCount_1 9 rfl rfl)
theorem dJ24_bitCount_34 : decode cJ24_bitCount 34 = .ok (.iload_n 0, 1) := dk_26 (dk_at dksJ24_bitCount_1 10 rfl rfl)
theorem dJ24_bitCount_35 : decode cJ24_bitCount 35 = .ok (.iload_n 0, 1) := dk_26 (dk_at dksJ24_bitCount_1 11 rfl rfl)
theorem dJ24_bitCount_36 : decode cJ24_bitCount 36 = .ok (.bipush 8, 2) := dk_16 8 (dk_at dksJ24_bitCount_1 12 rfl rfl)
theorem dJ24_bitCount_38 : decode cJ24_bitCount 38 = .ok (.iushr, 1) := dk_124 (dk_at dksJ24_bitCount_1 14 rfl rfl)
theorem dJ24_bitCount_39 : decode cJ24_bitCount 39 = .ok (.iadd, 1) := dk_96 (dk_at dksJ24_bitCount_1 15 rfl rfl)
theorem dJ24_bitCount_40 : decode cJ24_bitCount 40 = .ok (.istore_n 0, 1) := dk_59 (dk_at dksJ24_bitCount_1 16 rfl rfl)
theorem dJ24_bitCount_41 : decode cJ24_bitCount 41 = .ok (.iload_n 0, 1) := dk_26 (dk_at dksJ24_bitCount_1 17 rfl rfl)
theorem dJ24_bitCount_42 : decode cJ24_bitCount 42 = .ok (.iload_n 0, 1) := dk_26 (dk_at dksJ24_bitCount_1 18 rfl rfl)
theorem dJ24_bitCount_43 : decode cJ24_bitCount 43 = .ok (.bipush 16, 2) := dk_16 16 (dk_at dksJ24_bitCount_1 19 rfl rfl)
theorem dJ24_bitCount_45 : decode cJ24_bitCount 45 = .ok (.iushr, 1) := dk_124 (dk_at dksJ24_bitCount_1 21 rfl rfl)
theorem dJ24_bitCount_46 : decode cJ24_bitCount 46 = .ok (.iadd, 1) := dk_96 (dk_at dksJ24_bitCount_1 22 rfl rfl)
theorem dJ24_bitCount_47 : decode cJ24_bitCount 47 = .ok (.istore_n 0, 1) := dk_59 (dk_at dksJ24_bitCount_1 23 rfl rfl)
theorem dJ24_bitCount_48 : decode cJ24_bitCount 48 = .ok (.iload_n 0, 1) := dk_26 (dk_at dksJ24_bitCount_2 0 rfl rfl)
theorem dJ24_bitCount_49 : decode cJ24_bitCount 49 = .ok (.bipush 63, 2) := dk_16 63 (dk_at dksJ24_bitCount_2 1 rfl rfl)
theorem dJ24_bitCount_51 : decode cJ24_bitCount 51 = .ok (.iand, 1) := dk_126 (dk_at dksJ24_bitCount_2 3 rfl rfl)
theorem dJ24_bitCount_52 : decode cJ24_bitCount 52 = .ok (.ireturn, 1) := dk_172 (dk_at dksJ24_bitCount_2 4 rfl rfl)
abbrev cJ24_numberOfTrailingZeros : ByteArray := prog_19_method_48_code
def yJ24_numberOfTrailingZeros : MethodName := ⟨RJ24, "numberOfTrailingZeros", "(I)I"⟩
def dkwJ24_numberOfTrailingZeros_3 : List UInt8 := [5, 124, 59, 27, 26, 4, 124, 96, 172]
abbrev dktJ24_numberOfTrailingZeros_3 : List UInt8 := dkwJ24_numberOfTrailingZeros_3 ++ []
def dkwJ24_numberOfTrailingZeros_2 : List UInt8 := [124, 59, 26, 16, 16, 164, 0, 10, 132, 1, 4, 26, 7, 124, 59, 26, 7, 164, 0, 10, 132, 1, 2, 26]
abbrev dktJ24_numberOfTrailingZeros_2 : List UInt8 := dkwJ24_numberOfTrailingZeros_2 ++ dktJ24_numberOfTrailingZeros_3
def dkwJ24_numberOfTrailingZeros_1 : List UInt8 := [164, 0, 11, 132, 1, 16, 26, 16, 16, 124, 59, 26, 17, 1, 0, 164, 0, 11, 132, 1, 8, 26, 16, 8]
abbrev dktJ24_numberOfTrailingZeros_1 : List UInt8 := dkwJ24_numberOfTrailingZeros_1 ++ dktJ24_numberOfTrailingZeros_2
def dkwJ24_numberOfTrailingZeros_0 : List UInt8 := [26, 2, 130, 26, 4, 100, 126, 59, 26, 157, 0, 8, 26, 16, 32, 126, 172, 4, 60, 26, 19, 1, 8]
abbrev dktJ24_numberOfTrailingZeros_0 : List UInt8 := dkwJ24_numberOfTrailingZeros_0 ++ dktJ24_numberOfTrailingZeros_1
theorem dksJ24_numberOfTrailingZeros_0 : cJ24_numberOfTrailingZeros.data.toList.drop 0 = dktJ24_numberOfTrailingZeros_0 := by decide +kernel
theorem dksJ24_numberOfTrailingZeros_1 : cJ24_numberOfTrailingZeros.data.toList.drop 23 = dktJ24_numberOfTrailingZeros_1 := dk_seg dksJ24_numberOfTrailingZeros_0 23 rfl rfl
theorem dksJ24_numberOfTrailingZeros_2 : cJ24_numberOfTrailingZeros.data.toList.drop 47 = dktJ24_numberOfTrailingZeros_2 := dk_seg dksJ24_numberOfTrailingZeros_1 24 rfl rfl
theorem dksJ24_numberOfTrailingZeros_3 : cJ24_numberOfTrailingZeros.data.toList.drop 71 = dktJ24_numberOfTrailingZeros_3 := dk_seg dksJ24_numberOfTrailingZeros_2 24 rfl rfl
theorem dJ24_numberOfTrailingZeros_0 : decode cJ24_numberOfTrailingZeros 0 = .ok (.iload_n 0, 1) := dk_26 (dk_at dksJ24_numberOfTrailingZeros_0 0 rfl rfl)
theorem dJ24_numberOfTrailingZeros_1 : decode cJ24_numberOfTrailingZeros 1 = .ok (.iconst (-1), 1) := dk_2 (dk_at dksJ24_numberOfTrailingZeros_0 1 rfl rfl)
theorem dJ24_numberOfTrailingZeros_2 : decode cJ24_numberOfTrailingZeros 2 = .ok (.ixor, 1) := dk_130 (dk_at dksJ24_numberOfTrailingZeros_0 2 rfl rfl)
theorem dJ24_numberOfTrailingZeros_3 : decode cJ24_numberOfTrailingZeros 3 = .ok (.iload_n 0, 1) := dk_26 (dk_at dksJ24_numberOfTrailingZeros_0 3 rfl rfl)
theorem dJ24_numberOfTrailingZeros_4 : decode cJ24_numberOfTrailingZeros 4 = .ok (.iconst 1, 1) := dk_4 (dk_at dksJ24_numberOfTrailingZeros_0 4 rfl rfl)
theorem dJ24_numberOfTrailingZeros_5 : decode cJ24_numberOfTrailingZeros 5 = .ok (.isub, 1) := dk_100 (dk_at dksJ24_numberOfTrailingZeros_0 5 rfl rfl)
theorem dJ24_numberOfTrailingZeros_6 : decode cJ24_numberOfTrailingZeros 6 = .ok (.iand, 1) := dk_126 (dk_at dksJ24_numberOfTrailingZeros_0 6 rfl rfl)
theorem dJ24_numberOfTrailingZeros_7 : decode cJ24_numberOfTrailingZeros 7 = .ok (.istore_n 0, 1) := dk_59 (dk_at dksJ24_numberOfTrailingZeros_0 7 rfl rfl)
theorem dJ24_numberOfTrailingZeros_8 : decode cJ24_numberOfTrailingZeros 8 = .ok (.iload_n 0, 1) := dk_26 (dk_at dksJ24_numberOfTrailingZeros_0 8 rfl rfl)
theorem dJ24_numberOfTrailingZeros_9 : decode cJ24_numberOfTrailingZeros 9 = .ok (.ifCond .gt 8, 3) := dk_157 0 8 (dk_at dksJ24_numberOfTrailingZeros_0 9 rfl rfl)
theorem dJ24_numberOfTrailingZeros_12 : decode cJ24_numberOfTrailingZeros 12 = .ok (.iload_n 0, 1) := dk_26 (dk_at dksJ24_numberOfTrailingZeros_0 12 rfl rfl)
theorem dJ24_numberOfTrailingZeros_13 : decode cJ24_numberOfTrailingZeros 13 = .ok (.bipush 32, 2) := dk_16 32 (dk_at dksJ24_numberOfTrailingZeros_0 13 rfl rfl)
theorem dJ24_numberOfTrailingZeros_15 : decode cJ24_numberOfTrailingZeros 15 = .ok (.iand, 1) := dk_126 (dk_at dksJ24_numberOfTrailingZeros_0 15 rfl rfl)
theorem dJ24_numberOfTrailingZeros_16 : decode cJ24_numberOfTrailingZeros 16 = .ok (.ireturn, 1) := dk_172 (dk_at dksJ24_numberOfTrailingZeros_0 16 rfl rfl)
theorem dJ24_numberOfTrailingZeros_17 : decode cJ24_numberOfTrailingZeros 17 = .ok (.iconst 1, 1) := dk_4 (dk_at dksJ24_numberOfTrailingZeros_0 17 rfl rfl)
theorem dJ24_numberOfTrailingZeros_18 : decode cJ24_numberOfTrailingZeros 18 = .ok (.istore_n 1, 1) := dk_60 (dk_at dksJ24_numberOfTrailingZeros_0 18 rfl rfl)
theorem dJ24_numberOfTrailingZeros_19 : decode cJ24_numberOfTrailingZeros 19 = .ok (.iload_n 0, 1) := dk_26 (dk_at dksJ24_numberOfTrailingZeros_0 19 rfl rfl)
theorem dJ24_numberOfTrailingZeros_20 : decode cJ24_numberOfTrailingZeros 20 = .ok (.ldc_w 264, 3) := dk_19 1 8 (dk_at dksJ24_numberOfTrailingZeros_0 20 rfl rfl)
theorem dJ24_numberOfTrailingZeros_23 : decode cJ24_numberOfTrailingZeros 23 = .ok (.if_icmp .le 11, 3) := dk_164 0 11 (dk_at dksJ24_numberOfTrailingZeros_1 0 rfl rfl)
theorem dJ24_numberOfTrailingZeros_26 : decode cJ24_numberOfTrailingZeros 26 = .ok (.iinc 1 16, 3) := dk_132 1 16 (dk_at dksJ24_numberOfTrailingZeros_1 3 rfl rfl)
theorem dJ24_numberOfTrailingZeros_29 : decode cJ24_numberOfTrailingZeros 29 = .ok (.iload_n 0, 1) := dk_26 (dk_at dksJ24_numberOfTrailingZeros_1 6 rfl rfl)
theorem dJ24_numberOfTrailingZeros_30 : decode cJ24_numberOfTrailingZeros 30 = .ok (.bipush 16, 2) := dk_16 16 (dk_at dksJ24_numberOfTrailingZeros_1 7 rfl rfl)
theorem dJ24_numberOfTrailingZeros_32 : decode cJ24_numberOfTrailingZeros 32 = .ok (.iushr, 1) := dk_124 (dk_at dksJ24_numberOfTrailingZeros_1 9 rfl rfl)
theorem dJ24_numberOfTrailingZeros_33 : decode cJ24_numberOfTrailingZeros 33 = .ok (.istore_n 0, 1) := dk_59 (dk_at dksJ24_numberOfTrailingZeros_1 10 rfl rfl)
theorem dJ24_numberOfTrailingZeros_34 : decode cJ24_numberOfTrailingZeros 34 = .ok (.iload_n 0, 1) := dk_26 (dk_at dksJ24_numberOfTrailingZeros_1 11 rfl rfl)
theorem dJ24_numberOfTrailingZeros_35 : decode cJ24_numberOfTrailingZeros 35 = .ok (.sipush 256, 3) := dk_17 1 0 (dk_at dksJ24_numberOfTrailingZeros_1 12 rfl rfl)
theorem dJ24_numberOfTrailingZeros_38 : decode cJ24_numberOfTrailingZeros 38 = .ok (.if_icmp .le 11, 3) := dk_164 0 11 (dk_at dksJ24_numberOfTrailingZeros_1 15 rfl rfl)
theorem dJ24_numberOfTrailingZeros_41 : decode cJ24_numberOfTrailingZeros 41 = .ok (.iinc 1 8, 3) := dk_132 1 8 (dk_at dksJ24_numberOfTrailingZeros_1 18 rfl rfl)
theorem dJ24_numberOfTrailingZeros_44 : decode cJ24_numberOfTrailingZeros 44 = .ok (.iload_n 0, 1) := dk_26 (dk_at dksJ24_numberOfTrailingZeros_1 21 rfl rfl)
theorem dJ24_numberOfTrailingZeros_45 : decode cJ24_numberOfTrailingZeros 45 = .ok (.bipush 8, 2) := dk_16 8 (dk_at dksJ24_numberOfTrailingZeros_1 22 rfl rfl)
theorem dJ24_numberOfTrailingZeros_47 : decode cJ24_numberOfTrailingZeros 47 = .ok (.iushr, 1) := dk_124 (dk_at dksJ24_numberOfTrailingZeros_2 0 rfl rfl)
theorem dJ24_numberOfTrailingZeros_48 : decode cJ24_numberOfTrailingZeros 48 = .ok (.istore_n 0, 1) := dk_59 (dk_at dksJ24_numberOfTrailingZeros_2 1 rfl rfl)
theorem dJ24_numberOfTrailingZeros_49 : decode cJ24_numberOfTrailingZeros 49 = .ok (.iload_n 0, 1) := dk_26 (dk_at dksJ24_numberOfTrailingZeros_2 2 rfl rfl)
theorem dJ24_numberOfTrailingZeros_50 : decode cJ24_numberOfTrailingZeros 50 = .ok (.bipush 16, 2) := dk_16 16 (dk_at dksJ24_numberOfTrailingZeros_2 3 rfl rfl)
theorem dJ24_numberOfTrailingZeros_52 : decode cJ24_numberOfTrailingZeros 52 = .ok (.if_icmp .le 10, 3) := dk_164 0 10 (dk_at dksJ24_numberOfTrailingZeros_2 5 rfl rfl)
theorem dJ24_numberOfTrailingZeros_55 : decode cJ24_numberOfTrailingZeros 55 = .ok (.iinc 1 4, 3) := dk_132 1 4 (dk_at dksJ24_numberOfTrailingZeros_2 8 rfl rfl)
theorem dJ24_numberOfTrailingZeros_58 : decode cJ24_numberOfTrailingZeros 58 = .ok (.iload_n 0, 1) := dk_26 (dk_at dksJ24_numberOfTrailingZeros_2 11 rfl rfl)
theorem dJ24_numberOfTrailingZeros_59 : decode cJ24_numberOfTrailingZeros 59 = .ok (.iconst 4, 1) := dk_7 (dk_at dksJ24_numberOfTrailingZeros_2 12 rfl rfl)
theorem dJ24_numberOfTrailingZeros_60 : decode cJ24_numberOfTrailingZeros 60 = .ok (.iushr, 1) := dk_124 (dk_at dksJ24_numberOfTrailingZeros_2 13 rfl rfl)
theorem dJ24_numberOfTrailingZeros_61 : decode cJ24_numberOfTrailingZeros 61 = .ok (.istore_n 0, 1) := dk_59 (dk_at dksJ24_numberOfTrailingZeros_2 14 rfl rfl)
theorem dJ24_numberOfTrailingZeros_62 : decode cJ24_numberOfTrailingZeros 62 = .ok (.iload_n 0, 1) := dk_26 (dk_at dksJ24_numberOfTrailingZeros_2 15 rfl rfl)
theorem dJ24_numberOfTrailingZeros_63 : decode cJ24_numberOfTrailingZeros 63 = .ok (.iconst 4, 1) := dk_7 (dk_at dksJ24_numberOfTrailingZeros_2 16 rfl rfl)
theorem dJ24_numberOfTrailingZeros_64 : decode cJ24_numberOfTrailingZeros 64 = .ok (.if_icmp .le 10, 3) := dk_164 0 10 (dk_at dksJ24_numberOfTrailingZeros_2 17 rfl rfl)
theorem dJ24_numberOfTrailingZeros_67 : decode cJ24_numberOfTrailingZeros 67 = .ok (.iinc 1 2, 3) := dk_132 1 2 (dk_at dksJ24_numberOfTrailingZeros_2 20 rfl rfl)
theorem dJ24_numberOfTrailingZeros_70 : decode cJ24_numberOfTrailingZeros 70 = .ok (.iload_n 0, 1) := dk_26 (dk_at dksJ24_numberOfTrailingZeros_2 23 rfl rfl)
theorem dJ24_numberOfTrailingZeros_71 : decode cJ24_numberOfTrailingZeros 71 = .ok (.iconst 2, 1) := dk_5 (dk_at dksJ24_numberOfTrailingZeros_3 0 rfl rfl)
theorem dJ24_numberOfTrailingZeros_72 : decode cJ24_numberOfTrailingZeros 72 = .ok (.iushr, 1) := dk_124 (dk_at dksJ24_numberOfTrailingZeros_3 1 rfl rfl)
theorem dJ24_numberOfTrailingZeros_73 : decode cJ24_numberOfTrailingZeros 73 = .ok (.istore_n 0, 1) := dk_59 (dk_at dksJ24_numberOfTrailingZeros_3 2 rfl rfl)
theorem dJ24_numberOfTrailingZeros_74 : decode cJ24_numberOfTrailingZeros 74 = .ok (.iload_n 1, 1) := dk_27 (dk_at dksJ24_numberOfTrailingZeros_3 3 rfl rfl)
theorem dJ24_numberOfTrailingZeros_75 : decode cJ24_numberOfTrailingZeros 75 = .ok (.iload_n 0, 1) := dk_26 (dk_at dksJ24_numberOfTrailingZeros_3 4 rfl rfl)
theorem dJ24_numberOfTrailingZeros_76 : decode cJ24_numberOfTrailingZeros 76 = .ok (.iconst 1, 1) := dk_4 (dk_at dksJ24_numberOfTrailingZeros_3 5 rfl rfl)
theorem dJ24_numberOfTrailingZeros_77 : decode cJ24_numberOfTrailingZeros 77 = .ok (.iushr, 1) := dk_124 (dk_at dksJ24_numberOfTrailingZeros_3 6 rfl rfl)
theorem dJ24_numberOfTrailingZeros_78 : decode cJ24_numberOfTrailingZeros 78 = .ok (.iadd, 1) := dk_96 (dk_at dksJ24_numberOfTrailingZeros_3 7 rfl rfl)
theorem dJ24_numberOfTrailingZeros_79 : decode cJ24_numberOfTrailingZeros 79 = .ok (.ireturn, 1) := dk_172 (dk_at dksJ24_numberOfTrailingZeros_3 8 rfl rfl)
abbrev cJ24_numberOfLeadingZeros : ByteArray := prog_19_method_47_code
def yJ24_numberOfLeadingZeros : MethodName := ⟨RJ24, "numberOfLeadingZeros", "(I)I"⟩
def dkwJ24_numberOfLeadingZeros_3 : List UInt8 := [5, 124, 59, 27, 26, 4, 124, 100, 172]
abbrev dktJ24_numberOfLeadingZeros_3 : List UInt8 := dkwJ24_numberOfLeadingZeros_3 ++ []
def dkwJ24_numberOfLeadingZeros_2 : List UInt8 := [124, 59, 26, 16, 16, 161, 0, 10, 132, 1, 252, 26, 7, 124, 59, 26, 7, 161, 0, 10, 132, 1, 254, 26]
abbrev dktJ24_numberOfLeadingZeros_2 : List UInt8 := dkwJ24_numberOfLeadingZeros_2 ++ dktJ24_numberOfLeadingZeros_3
def dkwJ24_numberOfLeadingZeros_1 : List UInt8 := [161, 0, 11, 132, 1, 240, 26, 16, 16, 124, 59, 26, 17, 1, 0, 161, 0, 11, 132, 1, 248, 26, 16, 8]
abbrev dktJ24_numberOfLeadingZeros_1 : List UInt8 := dkwJ24_numberOfLeadingZeros_1 ++ dktJ24_numberOfLeadingZeros_2
def dkwJ24_numberOfLeadingZeros_0 : List UInt8 := [26, 157, 0, 14, 26, 154, 0, 8, 16, 32, 167, 0, 4, 3, 172, 16, 31, 60, 26, 19, 1, 8]
abbrev dktJ24_numberOfLeadingZeros_0 : List UInt8 := dkwJ24_numberOfLeadingZeros_0 ++ dktJ24_numberOfLeadingZeros_1
theorem dksJ24_numberOfLeadingZeros_0 : cJ24_numberOfLeadingZeros.data.toList.drop 0 = dktJ24_numberOfLeadingZeros_0 := by decide +kernel
theorem dksJ24_numberOfLeadingZeros_1 : cJ24_numberOfLeadingZeros.data.toList.drop 22 = dktJ24_numberOfLeadingZeros_1 := dk_seg dksJ24_numberOfLeadingZeros_0 22 rfl rfl
theorem dksJ24_numberOfLeadingZeros_2 : cJ24_numberOfLeadingZeros.data.toList.drop 46 = dktJ24_numberOfLeadingZeros_2 := dk_seg dksJ24_numberOfLeadingZeros_1 24 rfl rfl
theorem dksJ24_numberOfLeadingZeros_3 : cJ24_numberOfLeadingZeros.data.toList.drop 70 = dktJ24_numberOfLeadingZeros_3 := dk_seg dksJ24_numberOfLeadingZeros_2 24 rfl rfl
theorem dJ24_numberOfLeadingZeros_0 : decode cJ24_numberOfLeadingZeros 0 = .ok (.iload_n 0, 1) := dk_26 (dk_at dksJ24_numberOfLeadingZeros_0 0 rfl rfl)
theorem dJ24_numberOfLeadingZeros_1 : decode cJ24_numberOfLeadingZeros 1 = .ok (.ifCond .gt 14, 3) := dk_157 0 14 (dk_at dksJ24_numberOfLeadingZeros_0 1 rfl rfl)
theorem dJ24_numberOfLeadingZeros_4 : decode cJ24_numberOfLeadingZeros 4 = .ok (.iload_n 0, 1) := dk_26 (dk_at dksJ24_numberOfLeadingZeros_0 4 rfl rfl)
theorem dJ24_numberOfLeadingZeros_5 : decode cJ24_numberOfLeadingZeros 5 = .ok (.ifCond .ne 8, 3) := dk_154 0 8 (dk_at dksJ24_numberOfLeadingZeros_0 5 rfl rfl)
theorem dJ24_numberOfLeadingZeros_8 : decode cJ24_numberOfLeadingZeros 8 = .ok (.bipush 32, 2) := dk_16 32 (dk_at dksJ24_numberOfLeadingZeros_0 8 rfl rfl)
theorem dJ24_numberOfLeadingZeros_10 : decode cJ24_numberOfLeadingZeros 10 = .ok (.goto 4, 3) := dk_167 0 4 (dk_at dksJ24_numberOfLeadingZeros_0 10 rfl rfl)
theorem dJ24_numberOfLeadingZeros_13 : decode cJ24_numberOfLeadingZeros 13 = .ok (.iconst 0, 1) := dk_3 (dk_at dksJ24_numberOfLeadingZeros_0 13 rfl rfl)
theorem dJ24_numberOfLeadingZeros_14 : decode cJ24_numberOfLeadingZeros 14 = .ok (.ireturn, 1) := dk_172 (dk_at dksJ24_numberOfLeadingZeros_0 14 rfl rfl)
theorem dJ24_numberOfLeadingZeros_15 : decode cJ24_numberOfLeadingZeros 15 = .ok (.bipush 31, 2) := dk_16 31 (dk_at dksJ24_numberOfLeadingZeros_0 15 rfl rfl)
theorem dJ24_numberOfLeadingZeros_17 : decode cJ24_numberOfLeadingZeros 17 = .ok (.istore_n 1, 1) := dk_60 (dk_at dksJ24_numberOfLeadingZeros_0 17 rfl rfl)
theorem dJ24_numberOfLeadingZeros_18 : decode cJ24_numberOfLeadingZeros 18 = .ok (.iload_n 0, 1) := dk_26 (dk_at dksJ24_numberOfLeadingZeros_0 18 rfl rfl)
theorem dJ24_numberOfLeadingZeros_19 : decode cJ24_numberOfLeadingZeros 19 = .ok (.ldc_w 264, 3) := dk_19 1 8 (dk_at dksJ24_numberOfLeadingZeros_0 19 rfl rfl)
theorem dJ24_numberOfLeadingZeros_22 : decode cJ24_numberOfLeadingZeros 22 = .ok (.if_icmp .lt 11, 3) := dk_161 0 11 (dk_at dksJ24_numberOfLeadingZeros_1 0 rfl rfl)
theorem dJ24_numberOfLeadingZeros_25 : decode cJ24_numberOfLeadingZeros 25 = .ok (.iinc 1 (-16), 3) := dk_132 1 240 (dk_at dksJ24_numberOfLeadingZeros_1 3 rfl rfl)
theorem dJ24_numberOfLeadingZeros_28 : decode cJ24_numberOfLeadingZeros 28 = .ok (.iload_n 0, 1) := dk_26 (dk_at dksJ24_numberOfLeadingZeros_1 6 rfl rfl)
theorem dJ24_numberOfLeadingZeros_29 : decode cJ24_numberOfLeadingZeros 29 = .ok (.bipush 16, 2) := dk_16 16 (dk_at dksJ24_numberOfLeadingZeros_1 7 rfl rfl)
theorem dJ24_numberOfLeadingZeros_31 : decode cJ24_numberOfLeadingZeros 31 = .ok (.iushr, 1) := dk_124 (dk_at dksJ24_numberOfLeadingZeros_1 9 rfl rfl)
theorem dJ24_numberOfLeadingZeros_32 : decode cJ24_numberOfLeadingZeros 32 = .ok (.istore_n 0, 1) := dk_59 (dk_at dksJ24_numberOfLeadingZeros_1 10 rfl rfl)
theorem dJ24_numberOfLeadingZeros_33 : decode cJ24_numberOfLeadingZeros 33 = .ok (.iload_n 0, 1) := dk_26 (dk_at dksJ24_numberOfLeadingZeros_1 11 rfl rfl)
theorem dJ24_numberOfLeadingZeros_34 : decode cJ24_numberOfLeadingZeros 34 = .ok (.sipush 256, 3) := dk_17 1 0 (dk_at dksJ24_numberOfLeadingZeros_1 12 rfl rfl)
theorem dJ24_numberOfLeadingZeros_37 : decode cJ24_numberOfLeadingZeros 37 = .ok (.if_icmp .lt 11, 3) := dk_161 0 11 (dk_at dksJ24_numberOfLeadingZeros_1 15 rfl rfl)
theorem dJ24_numberOfLeadingZeros_40 : decode cJ24_numberOfLeadingZeros 40 = .ok (.iinc 1 (-8), 3) := dk_132 1 248 (dk_at dksJ24_numberOfLeadingZeros_1 18 rfl rfl)
theorem dJ24_numberOfLeadingZeros_43 : decode cJ24_numberOfLeadingZeros 43 = .ok (.iload_n 0, 1) := dk_26 (dk_at dksJ24_numberOfLeadingZeros_1 21 rfl rfl)
theorem dJ24_numberOfLeadingZeros_44 : decode cJ24_numberOfLeadingZeros 44 = .ok (.bipush 8, 2) := dk_16 8 (dk_at dksJ24_numberOfLeadingZeros_1 22 rfl rfl)
theorem dJ24_numberOfLeadingZeros_46 : decode cJ24_numberOfLeadingZeros 46 = .ok (.iushr, 1) := dk_124 (dk_at dksJ24_numberOfLeadingZeros_2 0 rfl rfl)
theorem dJ24_numberOfLeadingZeros_47 : decode cJ24_numberOfLeadingZeros 47 = .ok (.istore_n 0, 1) := dk_59 (dk_at dksJ24_numberOfLeadingZeros_2 1 rfl rfl)
theorem dJ24_numberOfLeadingZeros_48 : decode cJ24_numberOfLeadingZeros 48 = .ok (.iload_n 0, 1) := dk_26 (dk_at dksJ24_numberOfLeadingZeros_2 2 rfl rfl)
theorem dJ24_numberOfLeadingZeros_49 : decode cJ24_numberOfLeadingZeros 49 = .ok (.bipush 16, 2) := dk_16 16 (dk_at dksJ24_numberOfLeadingZeros_2 3 rfl rfl)
theorem dJ24_numberOfLeadingZeros_51 : decode cJ24_numberOfLeadingZeros 51 = .ok (.if_icmp .lt 10, 3) := dk_161 0 10 (dk_at dksJ24_numberOfLeadingZeros_2 5 rfl rfl)
theorem dJ24_numberOfLeadingZeros_54 : decode cJ24_numberOfLeadingZeros 54 = .ok (.iinc 1 (-4), 3) := dk_132 1 252 (dk_at dksJ24_numberOfLeadingZeros_2 8 rfl rfl)
theorem dJ24_numberOfLeadingZeros_57 : decode cJ24_numberOfLeadingZeros 57 = .ok (.iload_n 0, 1) := dk_26 (dk_at dksJ24_numberOfLeadingZeros_2 11 rfl rfl)
theorem dJ24_numberOfLeadingZeros_58 : decode cJ24_numberOfLeadingZeros 58 = .ok (.iconst 4, 1) := dk_7 (dk_at dksJ24_numberOfLeadingZeros_2 12 rfl rfl)
theorem dJ24_numberOfLeadingZeros_59 : decode cJ24_numberOfLeadingZeros 59 = .ok (.iushr, 1) := dk_124 (dk_at dksJ24_numberOfLeadingZeros_2 13 rfl rfl)
theorem dJ24_numberOfLeadingZeros_60 : decode cJ24_numberOfLeadingZeros 60 = .ok (.istore_n 0, 1) := dk_59 (dk_at dksJ24_numberOfLeadingZeros_2 14 rfl rfl)
theorem dJ24_numberOfLeadingZeros_61 : decode cJ24_numberOfLeadingZeros 61 = .ok (.iload_n 0, 1) := dk_26 (dk_at dksJ24_numberOfLeadingZeros_2 15 rfl rfl)
theorem dJ24_numberOfLeadingZeros_62 : decode cJ24_numberOfLeadingZeros 62 = .ok (.iconst 4, 1) := dk_7 (dk_at dksJ24_numberOfLeadingZeros_2 16 rfl rfl)
theorem dJ24_numberOfLeadingZeros_63 : decode cJ24_numberOfLeadingZeros 63 = .ok (.if_icmp .lt 10, 3) := dk_161 0 10 (dk_at dksJ24_numberOfLeadingZeros_2 17 rfl rfl)
theorem dJ24_numberOfLeadingZeros_66 : decode cJ24_numberOfLeadingZeros 66 = .ok (.iinc 1 (-2), 3) := dk_132 1 254 (dk_at dksJ24_numberOfLeadingZeros_2 20 rfl rfl)
theorem dJ24_numberOfLeadingZeros_69 : decode cJ24_numberOfLeadingZeros 69 = .ok (.iload_n 0, 1) := dk_26 (dk_at dksJ24_numberOfLeadingZeros_2 23 rfl rfl)
theorem dJ24_numberOfLeadingZeros_70 : decode cJ24_numberOfLeadingZeros 70 = .ok (.iconst 2, 1) := dk_5 (dk_at dksJ24_numberOfLeadingZeros_3 0 rfl rfl)
theorem dJ24_numberOfLeadingZeros_71 : decode cJ24_numberOfLeadingZeros 71 = .ok (.iushr, 1) := dk_124 (dk_at dksJ24_numberOfLeadingZeros_3 1 rfl rfl)
theorem dJ24_numberOfLeadingZeros_72 : decode cJ24_numberOfLeadingZeros 72 = .ok (.istore_n 0, 1) := dk_59 (dk_at dksJ24_numberOfLeadingZeros_3 2 rfl rfl)
theorem dJ24_numberOfLeadingZeros_73 : decode cJ24_numberOfLeadingZeros 73 = .ok (.iload_n 1, 1) := dk_27 (dk_at dksJ24_numberOfLeadingZeros_3 3 rfl rfl)
theorem dJ24_numberOfLeadingZeros_74 : decode cJ24_numberOfLeadingZeros 74 = .ok (.iload_n 0, 1) := dk_26 (dk_at dksJ24_numberOfLeadingZeros_3 4 rfl rfl)
theorem dJ24_numberOfLeadingZeros_75 : decode cJ24_numberOfLeadingZeros 75 = .ok (.iconst 1, 1) := dk_4 (dk_at dksJ24_numberOfLeadingZeros_3 5 rfl rfl)
theorem dJ24_numberOfLeadingZeros_76 : decode cJ24_numberOfLeadingZeros 76 = .ok (.iushr, 1) := dk_124 (dk_at dksJ24_numberOfLeadingZeros_3 6 rfl rfl)
theorem dJ24_numberOfLeadingZeros_77 : decode cJ24_numberOfLeadingZeros 77 = .ok (.isub, 1) := dk_100 (dk_at dksJ24_numberOfLeadingZeros_3 7 rfl rfl)
theorem dJ24_numberOfLeadingZeros_78 : decode cJ24_numberOfLeadingZeros 78 = .ok (.ireturn, 1) := dk_172 (dk_at dksJ24_numberOfLeadingZeros_3 8 rfl rfl)
theorem q99 : (Jvm.Cond.initialized "java/lang/Integer") ∈ lw_all := lw_g (lw_at lw_m1 30 rfl) rfl
theorem q767 : (Jvm.Cond.static ({ cls := "java/lang/Integer", name := "stringSize", desc := "(I)I" } : Jvm.MethodName)) ∈ lw_all := lw_g (lw_at lw_m3 218 rfl) rfl
theorem q768 : (Jvm.Cond.code ({ cls := "java/lang/Integer", name := "stringSize", desc := "(I)I" } : Jvm.MethodName) prog_19_method_13_code (4 : Nat) (Option.some Jvm.ClassFile.FieldType.int)) ∈ lw_all := lw_g (lw_at lw_m3 219 rfl) rfl
theorem q795 : (Jvm.Cond.static ({ cls := "java/lang/Integer", name := "getChars", desc := "(II[B)I" } : Jvm.MethodName)) ∈ lw_all := lw_g (lw_at lw_m4 6 rfl) rfl
theorem q796 : (Jvm.Cond.code ({ cls := "java/lang/Integer", name := "getChars", desc := "(II[B)I" } : Jvm.MethodName) prog_19_method_12_code (7 : Nat) (Option.some Jvm.ClassFile.FieldType.int)) ∈ lw_all := lw_g (lw_at lw_m4 7 rfl) rfl
theorem q797 : (Jvm.Cond.fieldLink "java/lang/Integer" (83 : Nat) "java/lang/Integer" "DigitOnes" "[B") ∈ lw_all := lw_g (lw_at lw_m4 8 rfl) rfl
theorem q798 : (Jvm.Cond.laysStatic "java/lang/Integer" "DigitOnes" "[B") ∈ lw_tbl := lw_at lw_m4 9 rfl
theorem q799 : (Jvm.Cond.fieldLink "java/lang/Integer" (87 : Nat) "java/lang/Integer" "DigitTens" "[B") ∈ lw_all := lw_g (lw_at lw_m4 10 rfl) rfl
theorem q800 : (Jvm.Cond.laysStatic "java/lang/Integer" "DigitTens" "[B") ∈ lw_tbl := lw_at lw_m4 11 rfl
theorem q1063 : (Jvm.Cond.static ({ cls := "java/lang/Integer", name := "bitCount", desc := "(I)I" } : Jvm.MethodName)) ∈ lw_all := lw_g (lw_at lw_m5 34 rfl) rfl
theorem q1064 : (Jvm.Cond.code ({ cls := "java/lang/Integer", name := "bitCount", desc := "(I)I" } : Jvm.MethodName) prog_19_method_49_code (1 : Nat) (Option.some Jvm.ClassFile.FieldType.int)) ∈ lw_all := lw_g (lw_at lw_m5 35 rfl) rfl
theorem q1065 : (Jvm.Cond.constant "java/lang/Integer" (265 : Nat) (1431655765 : Int32)) ∈ lw_all := lw_g (lw_at lw_m5 36 rfl) rfl
theorem q1066 : (Jvm.Cond.constant "java/lang/Integer" (266 : Nat) (858993459 : Int32)) ∈ lw_all := lw_g (lw_at lw_m5 37 rfl) rfl
theorem q1067 : (Jvm.Cond.constant "java/lang/Integer" (267 : Nat) (252645135 : Int32)) ∈ lw_all := lw_g (lw_at lw_m5 38 rfl) rfl
theorem q1069 : (Jvm.Cond.static ({ cls := "java/lang/Integer", name := "numberOfTrailingZeros", desc := "(I)I" } : Jvm.MethodName)) ∈ lw_all := lw_g (lw_at lw_m5 40 rfl) rfl
theorem q1070 : (Jvm.Cond.code ({ cls := "java/lang/Integer", name := "numberOfTrailingZeros", desc := "(I)I" } : Jvm.MethodName) prog_19_method_48_code (2 : Nat) (Option.some Jvm.ClassFile.FieldType.int)) ∈ lw_all := lw_g (lw_at lw_m5 41 rfl) rfl
theorem q1071 : (Jvm.Cond.constant "java/lang/Integer" (264 : Nat) (65536 : Int32)) ∈ lw_all := lw_g (lw_at lw_m5 42 rfl) rfl
theorem q1210 : (Jvm.Cond.static ({ cls := "java/lang/Integer", name := "numberOfLeadingZeros", desc := "(I)I" } : Jvm.MethodName)) ∈ lw_all := lw_g (lw_at lw_m5 181 rfl) rfl
theorem q1211 : (Jvm.Cond.code ({ cls := "java/lang/Integer", name := "numberOfLeadingZeros", desc := "(I)I" } : Jvm.MethodName) prog_19_method_47_code (2 : Nat) (Option.some Jvm.ClassFile.FieldType.int)) ∈ lw_all := lw_g (lw_at lw_m5 182 rfl) rfl
/-! java/util/AbstractList -/
set_option maxRecDepth 100000
def RJ1 : String := "java/util/AbstractList"
abbrev cJ1_init : ByteArray := prog_35_method_1_code
def yJ1_init : MethodName := ⟨RJ1, "<init>", "()V"⟩
def dkwJ1_init_0 : List UInt8 := [42, 183, 0, 1, 42, 3, 181, 0, 7, 177]
abbrev dktJ1_init_0 : List UInt8 := dkwJ1_init_0 ++ []
theorem dksJ1_init_0 : cJ1_init.data.toList.drop 0 = dktJ1_init_0 := by decide +kernel
theorem dJ1_init_0 : decode cJ1_init 0 = .ok (.aload_n 0, 1) := dk_42 (dk_at dksJ1_init_0 0 rfl rfl)
theorem dJ1_init_1 : decode cJ1_init 1 = .ok (.invokespecial 1, 3) := dk_183 0 1 (dk_at dksJ1_init_0 1 rfl rfl)
theorem dJ1_init_4 : decode cJ1_init 4 = .ok (.aload_n 0, 1) := dk_42 (dk_at dksJ1_init_0 4 rfl rfl)
theorem dJ1_init_5 : decode cJ1_init 5 = .ok (.iconst 0, 1) := dk_3 (dk_at dksJ1_init_0 5 rfl rfl)
theorem dJ1_init_6 : decode cJ1_init 6 = .ok (.putfield 7, 3) := dk_181 0 7 (dk_at dksJ1_init_0 6 rfl rfl)
theorem dJ1_init_9 : decode cJ1_init 9 = .ok (.return_, 1) := dk_177 (dk_at dksJ1_init_0 9 rfl rfl)
theorem q72 : (Jvm.Cond.initialized "java/util/AbstractList") ∈ lw_all := lw_g (lw_at lw_m1 3 rfl) rfl
theorem q119 : (Jvm.Cond.instanceMethod ({ cls := "java/util/AbstractList", name := "<init>", desc := "()V" } : Jvm.MethodName)) ∈ lw_all := lw_g (lw_at lw_m1 50 rfl) rfl
theorem q120 : (Jvm.Cond.code ({ cls := "java/util/AbstractList", name := "<init>", desc := "()V" } : Jvm.MethodName) prog_35_method_1_code (1 : Nat) (Option.none : Option Jvm.ClassFile.FieldType)) ∈ lw_all := lw_g (lw_at lw_m1 51 rfl) rfl
theorem q121 : (Jvm.Cond.methodLink "java/util/AbstractList" (1 : Nat) ({ cls := "java/util/AbstractCollection", name := "<init>", desc := "()V" } : Jvm.MethodName)) ∈ lw_all := lw_g (lw_at lw_m1 52 rfl) rfl
theorem q131 : (Jvm.Cond.fieldLink "java/util/AbstractList" (7 : Nat) "java/util/AbstractList" "modCount" "I") ∈ lw_all := lw_g (lw_at lw_m1 62 rfl) rfl
theorem q141 : (Jvm.Cond.soleField "java/util/AbstractList" "modCount") ∈ lw_all := lw_g (lw_at lw_m1 72 rfl) rfl
/-! java/util/AbstractCollection -/
set_option maxRecDepth 100000
def RJ0 : String := "java/util/AbstractCollection"
abbrev cJ0_init : ByteArray := prog_34_method_1_code
def yJ0_init : MethodName := ⟨RJ0, "<init>", "()V"⟩
theorem dJ0_init_0 : decode cJ0_init 0 = .ok (.aload_n 0, 1) := by decide +kernel
theorem dJ0_init_1 : decode cJ0_init 1 = .ok (.invokespecial 1, 3) := by decide +kernel
theorem dJ0_init_4 : decode cJ0_init 4 = .ok (.return_, 1) := by decide +kernel
theorem q71 : (Jvm.Cond.initialized "java/util/AbstractCollection") ∈ lw_all := lw_g (lw_at lw_m1 2 rfl) rfl
theorem q122 : (Jvm.Cond.instanceMethod ({ cls := "java/util/AbstractCollection", name := "<init>", desc := "()V" } : Jvm.MethodName)) ∈ lw_all := lw_g (lw_at lw_m1 53 rfl) rfl
theorem q123 : (Jvm.Cond.code ({ cls := "java/util/AbstractCollection", name := "<init>", desc := "()V" } : Jvm.MethodName) prog_34_method_1_code (1 : Nat) (Option.none : Option Jvm.ClassFile.FieldType)) ∈ lw_all := lw_g (lw_at lw_m1 54 rfl) rfl
theorem q124 : (Jvm.Cond.methodLink "java/util/AbstractCollection" (1 : Nat) ({ cls := "java/lang/Object", name := "<init>", desc := "()V" } : Jvm.MethodName)) ∈ lw_all := lw_g (lw_at lw_m1 55 rfl) rfl
theorem q264 : (Jvm.Cond.arrayOver (Jvm.ClassFile.FieldType.object "java/lang/Object")) ∈ lw_tbl := lw_at lw_m1 195 rfl
set_option maxRecDepth 100000
theorem q511 : (Jvm.Cond.arrayClass Jvm.ClassFile.FieldType.int) ∈ lw_all := lw_g (lw_at lw_m2 202 rfl) rfl
theorem q560 : (Jvm.Cond.arrayClass Jvm.ClassFile.FieldType.byte) ∈ lw_all := lw_g (lw_at lw_m3 11 rfl) rfl
theorem q1443 : (Jvm.Cond.arrayOver (Jvm.ClassFile.FieldType.object "java/math/BigInteger")) ∈ lw_tbl := lw_at lw_m6 174 rfl
theorem q1757 : (Jvm.Cond.arrayOver (Jvm.ClassFile.FieldType.array Jvm.ClassFile.FieldType.int)) ∈ lw_tbl := lw_at lw_m8 8 rfl
theorem q1759 : (Jvm.Cond.arrayOver (Jvm.ClassFile.FieldType.array (Jvm.ClassFile.FieldType.array Jvm.ClassFile.FieldType.int))) ∈ lw_tbl := lw_at lw_m8 10 rfl
theorem q1842 : (Jvm.Cond.arrayClass Jvm.ClassFile.FieldType.long) ∈ lw_all := lw_g (lw_at lw_m8 93 rfl) rfl
theorem q78 : (Jvm.Cond.initialized "java/lang/System") ∈ lw_all := lw_g (lw_at lw_m1 9 rfl) rfl
set_option maxRecDepth 100000
theorem q183 : (Jvm.Cond.static ({ cls := "java/lang/System", name := "arraycopy", desc := "(Ljava/lang/Object;ILjava/lang/Object;II)V" } : Jvm.MethodName)) ∈ lw_all := lw_g (lw_at lw_m1 114 rfl) rfl
theorem q184 : (Jvm.Cond.native ({ cls := "java/lang/System", name := "arraycopy", desc := "(Ljava/lang/Object;ILjava/lang/Object;II)V" } : Jvm.MethodName)) ∈ lw_all := lw_g (lw_at lw_m1 115 rfl) rfl
theorem q322 : (Jvm.Cond.interfaceMethod "java/util/Iterator" "java/util/Iterator" "hasNext" "()Z") ∈ lw_tbl := lw_at lw_m2 13 rfl
set_option maxRecDepth 100000
theorem q323 : (Jvm.Cond.declares ({ cls := "java/util/Iterator", name := "hasNext", desc := "()Z" } : Jvm.MethodName)) ∈ lw_tbl := lw_at lw_m2 14 rfl
theorem q335 : (Jvm.Cond.interfaceMethod "java/util/Iterator" "java/util/Iterator" "next" "()Ljava/lang/Object;") ∈ lw_tbl := lw_at lw_m2 26 rfl
theorem q336 : (Jvm.Cond.declares ({ cls := "java/util/Iterator", name := "next", desc := "()Ljava/lang/Object;" } : Jvm.MethodName)) ∈ lw_tbl := lw_at lw_m2 27 rfl
theorem q421 : (Jvm.Cond.interfaceMethod "java/util/Iterator" "java/util/Iterator" "remove" "()V") ∈ lw_tbl := lw_at lw_m2 112 rfl
theorem q422 : (Jvm.Cond.declares ({ cls := "java/util/Iterator", name := "remove", desc := "()V" } : Jvm.MethodName)) ∈ lw_tbl := lw_at lw_m2 113 rfl
theorem q947 : (Jvm.Cond.sameMethod "[I" "java/lang/Object" "clone" "()Ljava/lang/Object;") ∈ lw_all := lw_g (lw_at lw_m4 158 rfl) rfl
set_option maxRecDepth 100000
theorem q948 : (Jvm.Cond.selects "[I" ({ cls := "[I", name := "clone", desc := "()Ljava/lang/Object;" } : Jvm.MethodName) ({ cls := "java/lang/Object", name := "clone", desc := "()Ljava/lang/Object;" } : Jvm.MethodName)) ∈ lw_all := lw_g (lw_at lw_m4 159 rfl) rfl
theorem q949 : (Jvm.Cond.castable "[I" "java/lang/Cloneable") ∈ lw_tbl := lw_at lw_m4 160 rfl
theorem q2194 : (Jvm.Cond.castable "[I" "java/lang/Object") ∈ lw_tbl := lw_at lw_m9 205 rfl
theorem q1672 : (Jvm.Cond.interfaceMethod "java/util/ListIterator" "java/util/ListIterator" "next" "()Ljava/lang/Object;") ∈ lw_tbl := lw_at lw_m7 163 rfl
set_option maxRecDepth 100000
theorem q1673 : (Jvm.Cond.declares ({ cls := "java/util/ListIterator", name := "next", desc := "()Ljava/lang/Object;" } : Jvm.MethodName)) ∈ lw_tbl := lw_at lw_m7 164 rfl
theorem q1678 : (Jvm.Cond.interfaceMethod "java/util/ListIterator" "java/util/ListIterator" "set" "(Ljava/lang/Object;)V") ∈ lw_tbl := lw_at lw_m7 169 rfl
theorem q1679 : (Jvm.Cond.declares ({ cls := "java/util/ListIterator", name := "set", desc := "(Ljava/lang/Object;)V" } : Jvm.MethodName)) ∈ lw_tbl := lw_at lw_m7 170 rfl
theorem q1696 : (Jvm.Cond.interfaceMethod "java/util/ListIterator" "java/util/ListIterator" "add" "(Ljava/lang/Object;)V") ∈ lw_tbl := lw_at lw_m7 187 rfl
theorem q1697 : (Jvm.Cond.declares ({ cls := "java/util/ListIterator", name := "add", desc := "(Ljava/lang/Object;)V" } : Jvm.MethodName)) ∈ lw_tbl := lw_at lw_m7 188 rfl
theorem q2190 : (Jvm.Cond.sameMethod "[Ljava/lang/Object;" "java/lang/Object" "getClass" "()Ljava/lang/Class;") ∈ lw_all := lw_g (lw_at lw_m9 201 rfl) rfl
set_option maxRecDepth 100000
theorem q2191 : (Jvm.Cond.selects "[Ljava/lang/Object;" ({ cls := "java/lang/Object", name := "getClass", desc := "()Ljava/lang/Class;" } : Jvm.MethodName) ({ cls := "java/lang/Object", name := "getClass", desc := "()Ljava/lang/Class;" } : Jvm.MethodName)) ∈ lw_all := lw_g (lw_at lw_m9 202 rfl) rfl
theorem q2193 : (Jvm.Cond.castable "[Ljava/lang/Object;" "java/lang/Object") ∈ lw_tbl := lw_at lw_m9 204 rfl
theorem q2196 : (Jvm.Cond.castable "[Ljava/math/BigInteger;" "java/lang/Object") ∈ lw_tbl := lw_at lw_m9 207 rfl
set_option maxRecDepth 100000
theorem q2197 : (Jvm.Cond.castable "[[I" "java/lang/Object") ∈ lw_tbl := lw_at lw_m9 208 rfl
set_option maxRecDepth 100000
theorem q2198 : (Jvm.Cond.castable "[[[I" "java/lang/Object") ∈ lw_tbl := lw_at lw_m9 209 rfl
set_option maxRecDepth 100000
theorem q2199 : (Jvm.Cond.castable "[J" "java/lang/Object") ∈ lw_tbl := lw_at lw_m9 210 rfl
set_option maxRecDepth 100000
