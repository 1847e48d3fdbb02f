/-! SturmRootsLaw -/
set_option maxRecDepth 100000
def RX0 : String := "SturmRootsLaw"
abbrev cX0_set : ByteArray := method_3_code
def yX0_set : MethodName := ⟨RX0, "set", "(LSturmRoots;III[J)I"⟩
def dkwX0_set_1 : List UInt8 := [172]
abbrev dktX0_set_1 : List UInt8 := dkwX0_set_1 ++ []
def dkwX0_set_0 : List UInt8 := [25, 4, 3, 42, 27, 28, 29, 182, 0, 7, 133, 80, 167, 0, 11, 58, 5, 4, 172, 58, 5, 5, 172, 3]
abbrev dktX0_set_0 : List UInt8 := dkwX0_set_0 ++ dktX0_set_1
theorem dksX0_set_0 : cX0_set.data.toList.drop 0 = dktX0_set_0 := by decide +kernel
theorem dksX0_set_1 : cX0_set.data.toList.drop 24 = dktX0_set_1 := dk_seg dksX0_set_0 24 rfl rfl
theorem dX0_set_0 : decode cX0_set 0 = .ok (.aload 4, 2) := dk_25 4 (dk_at dksX0_set_0 0 rfl rfl)
theorem dX0_set_2 : decode cX0_set 2 = .ok (.iconst 0, 1) := dk_3 (dk_at dksX0_set_0 2 rfl rfl)
theorem dX0_set_3 : decode cX0_set 3 = .ok (.aload_n 0, 1) := dk_42 (dk_at dksX0_set_0 3 rfl rfl)
theorem dX0_set_4 : decode cX0_set 4 = .ok (.iload_n 1, 1) := dk_27 (dk_at dksX0_set_0 4 rfl rfl)
theorem dX0_set_5 : decode cX0_set 5 = .ok (.iload_n 2, 1) := dk_28 (dk_at dksX0_set_0 5 rfl rfl)
theorem dX0_set_6 : decode cX0_set 6 = .ok (.iload_n 3, 1) := dk_29 (dk_at dksX0_set_0 6 rfl rfl)
theorem dX0_set_7 : decode cX0_set 7 = .ok (.invokevirtual 7, 3) := dk_182 0 7 (dk_at dksX0_set_0 7 rfl rfl)
theorem dX0_set_10 : decode cX0_set 10 = .ok (.i2l, 1) := dk_133 (dk_at dksX0_set_0 10 rfl rfl)
theorem dX0_set_11 : decode cX0_set 11 = .ok (.lastore, 1) := dk_80 (dk_at dksX0_set_0 11 rfl rfl)
theorem dX0_set_12 : decode cX0_set 12 = .ok (.goto 11, 3) := dk_167 0 11 (dk_at dksX0_set_0 12 rfl rfl)
theorem dX0_set_15 : decode cX0_set 15 = .ok (.astore 5, 2) := dk_58 5 (dk_at dksX0_set_0 15 rfl rfl)
theorem dX0_set_17 : decode cX0_set 17 = .ok (.iconst 1, 1) := dk_4 (dk_at dksX0_set_0 17 rfl rfl)
theorem dX0_set_18 : decode cX0_set 18 = .ok (.ireturn, 1) := dk_172 (dk_at dksX0_set_0 18 rfl rfl)
theorem dX0_set_19 : decode cX0_set 19 = .ok (.astore 5, 2) := dk_58 5 (dk_at dksX0_set_0 19 rfl rfl)
theorem dX0_set_21 : decode cX0_set 21 = .ok (.iconst 2, 1) := dk_5 (dk_at dksX0_set_0 21 rfl rfl)
theorem dX0_set_22 : decode cX0_set 22 = .ok (.ireturn, 1) := dk_172 (dk_at dksX0_set_0 22 rfl rfl)
theorem dX0_set_23 : decode cX0_set 23 = .ok (.iconst 0, 1) := dk_3 (dk_at dksX0_set_0 23 rfl rfl)
theorem dX0_set_24 : decode cX0_set 24 = .ok (.ireturn, 1) := dk_172 (dk_at dksX0_set_1 0 rfl rfl)
abbrev cX0_coefficient : ByteArray := method_4_code
def yX0_coefficient : MethodName := ⟨RX0, "coefficient", "(LSturmRoots;II[J)I"⟩
def dkwX0_coefficient_0 : List UInt8 := [45, 3, 42, 27, 28, 182, 0, 17, 133, 80, 167, 0, 7, 58, 4, 4, 172, 3, 172]
abbrev dktX0_coefficient_0 : List UInt8 := dkwX0_coefficient_0 ++ []
theorem dksX0_coefficient_0 : cX0_coefficient.data.toList.drop 0 = dktX0_coefficient_0 := by decide +kernel
theorem dX0_coefficient_0 : decode cX0_coefficient 0 = .ok (.aload_n 3, 1) := dk_45 (dk_at dksX0_coefficient_0 0 rfl rfl)
theorem dX0_coefficient_1 : decode cX0_coefficient 1 = .ok (.iconst 0, 1) := dk_3 (dk_at dksX0_coefficient_0 1 rfl rfl)
theorem dX0_coefficient_2 : decode cX0_coefficient 2 = .ok (.aload_n 0, 1) := dk_42 (dk_at dksX0_coefficient_0 2 rfl rfl)
theorem dX0_coefficient_3 : decode cX0_coefficient 3 = .ok (.iload_n 1, 1) := dk_27 (dk_at dksX0_coefficient_0 3 rfl rfl)
theorem dX0_coefficient_4 : decode cX0_coefficient 4 = .ok (.iload_n 2, 1) := dk_28 (dk_at dksX0_coefficient_0 4 rfl rfl)
theorem dX0_coefficient_5 : decode cX0_coefficient 5 = .ok (.invokevirtual 17, 3) := dk_182 0 17 (dk_at dksX0_coefficient_0 5 rfl rfl)
theorem dX0_coefficient_8 : decode cX0_coefficient 8 = .ok (.i2l, 1) := dk_133 (dk_at dksX0_coefficient_0 8 rfl rfl)
theorem dX0_coefficient_9 : decode cX0_coefficient 9 = .ok (.lastore, 1) := dk_80 (dk_at dksX0_coefficient_0 9 rfl rfl)
theorem dX0_coefficient_10 : decode cX0_coefficient 10 = .ok (.goto 7, 3) := dk_167 0 7 (dk_at dksX0_coefficient_0 10 rfl rfl)
theorem dX0_coefficient_13 : decode cX0_coefficient 13 = .ok (.astore 4, 2) := dk_58 4 (dk_at dksX0_coefficient_0 13 rfl rfl)
theorem dX0_coefficient_15 : decode cX0_coefficient 15 = .ok (.iconst 1, 1) := dk_4 (dk_at dksX0_coefficient_0 15 rfl rfl)
theorem dX0_coefficient_16 : decode cX0_coefficient 16 = .ok (.ireturn, 1) := dk_172 (dk_at dksX0_coefficient_0 16 rfl rfl)
theorem dX0_coefficient_17 : decode cX0_coefficient 17 = .ok (.iconst 0, 1) := dk_3 (dk_at dksX0_coefficient_0 17 rfl rfl)
theorem dX0_coefficient_18 : decode cX0_coefficient 18 = .ok (.ireturn, 1) := dk_172 (dk_at dksX0_coefficient_0 18 rfl rfl)
abbrev cX0_degree : ByteArray := method_5_code
def yX0_degree : MethodName := ⟨RX0, "degree", "(LSturmRoots;I[J)I"⟩
def dkwX0_degree_0 : List UInt8 := [44, 3, 42, 27, 182, 0, 21, 133, 80, 167, 0, 6, 78, 4, 172, 3, 172]
abbrev dktX0_degree_0 : List UInt8 := dkwX0_degree_0 ++ []
theorem dksX0_degree_0 : cX0_degree.data.toList.drop 0 = dktX0_degree_0 := by decide +kernel
theorem dX0_degree_0 : decode cX0_degree 0 = .ok (.aload_n 2, 1) := dk_44 (dk_at dksX0_degree_0 0 rfl rfl)
theorem dX0_degree_1 : decode cX0_degree 1 = .ok (.iconst 0, 1) := dk_3 (dk_at dksX0_degree_0 1 rfl rfl)
theorem dX0_degree_2 : decode cX0_degree 2 = .ok (.aload_n 0, 1) := dk_42 (dk_at dksX0_degree_0 2 rfl rfl)
theorem dX0_degree_3 : decode cX0_degree 3 = .ok (.iload_n 1, 1) := dk_27 (dk_at dksX0_degree_0 3 rfl rfl)
theorem dX0_degree_4 : decode cX0_degree 4 = .ok (.invokevirtual 21, 3) := dk_182 0 21 (dk_at dksX0_degree_0 4 rfl rfl)
theorem dX0_degree_7 : decode cX0_degree 7 = .ok (.i2l, 1) := dk_133 (dk_at dksX0_degree_0 7 rfl rfl)
theorem dX0_degree_8 : decode cX0_degree 8 = .ok (.lastore, 1) := dk_80 (dk_at dksX0_degree_0 8 rfl rfl)
theorem dX0_degree_9 : decode cX0_degree 9 = .ok (.goto 6, 3) := dk_167 0 6 (dk_at dksX0_degree_0 9 rfl rfl)
theorem dX0_degree_12 : decode cX0_degree 12 = .ok (.astore_n 3, 1) := dk_78 (dk_at dksX0_degree_0 12 rfl rfl)
theorem dX0_degree_13 : decode cX0_degree 13 = .ok (.iconst 1, 1) := dk_4 (dk_at dksX0_degree_0 13 rfl rfl)
theorem dX0_degree_14 : decode cX0_degree 14 = .ok (.ireturn, 1) := dk_172 (dk_at dksX0_degree_0 14 rfl rfl)
theorem dX0_degree_15 : decode cX0_degree 15 = .ok (.iconst 0, 1) := dk_3 (dk_at dksX0_degree_0 15 rfl rfl)
theorem dX0_degree_16 : decode cX0_degree 16 = .ok (.ireturn, 1) := dk_172 (dk_at dksX0_degree_0 16 rfl rfl)
abbrev cX0_copy : ByteArray := method_6_code
def yX0_copy : MethodName := ⟨RX0, "copy", "(LSturmRoots;II[J)I"⟩
def dkwX0_copy_0 : List UInt8 := [45, 3, 42, 27, 28, 182, 0, 25, 133, 80, 167, 0, 7, 58, 4, 4, 172, 3, 172]
abbrev dktX0_copy_0 : List UInt8 := dkwX0_copy_0 ++ []
theorem dksX0_copy_0 : cX0_copy.data.toList.drop 0 = dktX0_copy_0 := by decide +kernel
theorem dX0_copy_0 : decode cX0_copy 0 = .ok (.aload_n 3, 1) := dk_45 (dk_at dksX0_copy_0 0 rfl rfl)
theorem dX0_copy_1 : decode cX0_copy 1 = .ok (.iconst 0, 1) := dk_3 (dk_at dksX0_copy_0 1 rfl rfl)
theorem dX0_copy_2 : decode cX0_copy 2 = .ok (.aload_n 0, 1) := dk_42 (dk_at dksX0_copy_0 2 rfl rfl)
theorem dX0_copy_3 : decode cX0_copy 3 = .ok (.iload_n 1, 1) := dk_27 (dk_at dksX0_copy_0 3 rfl rfl)
theorem dX0_copy_4 : decode cX0_copy 4 = .ok (.iload_n 2, 1) := dk_28 (dk_at dksX0_copy_0 4 rfl rfl)
theorem dX0_copy_5 : decode cX0_copy 5 = .ok (.invokevirtual 25, 3) := dk_182 0 25 (dk_at dksX0_copy_0 5 rfl rfl)
theorem dX0_copy_8 : decode cX0_copy 8 = .ok (.i2l, 1) := dk_133 (dk_at dksX0_copy_0 8 rfl rfl)
theorem dX0_copy_9 : decode cX0_copy 9 = .ok (.lastore, 1) := dk_80 (dk_at dksX0_copy_0 9 rfl rfl)
theorem dX0_copy_10 : decode cX0_copy 10 = .ok (.goto 7, 3) := dk_167 0 7 (dk_at dksX0_copy_0 10 rfl rfl)
theorem dX0_copy_13 : decode cX0_copy 13 = .ok (.astore 4, 2) := dk_58 4 (dk_at dksX0_copy_0 13 rfl rfl)
theorem dX0_copy_15 : decode cX0_copy 15 = .ok (.iconst 1, 1) := dk_4 (dk_at dksX0_copy_0 15 rfl rfl)
theorem dX0_copy_16 : decode cX0_copy 16 = .ok (.ireturn, 1) := dk_172 (dk_at dksX0_copy_0 16 rfl rfl)
theorem dX0_copy_17 : decode cX0_copy 17 = .ok (.iconst 0, 1) := dk_3 (dk_at dksX0_copy_0 17 rfl rfl)
theorem dX0_copy_18 : decode cX0_copy 18 = .ok (.ireturn, 1) := dk_172 (dk_at dksX0_copy_0 18 rfl rfl)
abbrev cX0_add : ByteArray := method_7_code
def yX0_add : MethodName := ⟨RX0, "add", "(LSturmRoots;III[J)I"⟩
def dkwX0_add_1 : List UInt8 := [172]
abbrev dktX0_add_1 : List UInt8 := dkwX0_add_1 ++ []
def dkwX0_add_0 : List UInt8 := [25, 4, 3, 42, 27, 28, 29, 182, 0, 28, 133, 80, 167, 0, 11, 58, 5, 4, 172, 58, 5, 5, 172, 3]
abbrev dktX0_add_0 : List UInt8 := dkwX0_add_0 ++ dktX0_add_1
theorem dksX0_add_0 : cX0_add.data.toList.drop 0 = dktX0_add_0 := by decide +kernel
theorem dksX0_add_1 : cX0_add.data.toList.drop 24 = dktX0_add_1 := dk_seg dksX0_add_0 24 rfl rfl
theorem dX0_add_0 : decode cX0_add 0 = .ok (.aload 4, 2) := dk_25 4 (dk_at dksX0_add_0 0 rfl rfl)
theorem dX0_add_2 : decode cX0_add 2 = .ok (.iconst 0, 1) := dk_3 (dk_at dksX0_add_0 2 rfl rfl)
theorem dX0_add_3 : decode cX0_add 3 = .ok (.aload_n 0, 1) := dk_42 (dk_at dksX0_add_0 3 rfl rfl)
theorem dX0_add_4 : decode cX0_add 4 = .ok (.iload_n 1, 1) := dk_27 (dk_at dksX0_add_0 4 rfl rfl)
theorem dX0_add_5 : decode cX0_add 5 = .ok (.iload_n 2, 1) := dk_28 (dk_at dksX0_add_0 5 rfl rfl)
theorem dX0_add_6 : decode cX0_add 6 = .ok (.iload_n 3, 1) := dk_29 (dk_at dksX0_add_0 6 rfl rfl)
theorem dX0_add_7 : decode cX0_add 7 = .ok (.invokevirtual 28, 3) := dk_182 0 28 (dk_at dksX0_add_0 7 rfl rfl)
theorem dX0_add_10 : decode cX0_add 10 = .ok (.i2l, 1) := dk_133 (dk_at dksX0_add_0 10 rfl rfl)
theorem dX0_add_11 : decode cX0_add 11 = .ok (.lastore, 1) := dk_80 (dk_at dksX0_add_0 11 rfl rfl)
theorem dX0_add_12 : decode cX0_add 12 = .ok (.goto 11, 3) := dk_167 0 11 (dk_at dksX0_add_0 12 rfl rfl)
theorem dX0_add_15 : decode cX0_add 15 = .ok (.astore 5, 2) := dk_58 5 (dk_at dksX0_add_0 15 rfl rfl)
theorem dX0_add_17 : decode cX0_add 17 = .ok (.iconst 1, 1) := dk_4 (dk_at dksX0_add_0 17 rfl rfl)
theorem dX0_add_18 : decode cX0_add 18 = .ok (.ireturn, 1) := dk_172 (dk_at dksX0_add_0 18 rfl rfl)
theorem dX0_add_19 : decode cX0_add 19 = .ok (.astore 5, 2) := dk_58 5 (dk_at dksX0_add_0 19 rfl rfl)
theorem dX0_add_21 : decode cX0_add 21 = .ok (.iconst 2, 1) := dk_5 (dk_at dksX0_add_0 21 rfl rfl)
theorem dX0_add_22 : decode cX0_add 22 = .ok (.ireturn, 1) := dk_172 (dk_at dksX0_add_0 22 rfl rfl)
theorem dX0_add_23 : decode cX0_add 23 = .ok (.iconst 0, 1) := dk_3 (dk_at dksX0_add_0 23 rfl rfl)
theorem dX0_add_24 : decode cX0_add 24 = .ok (.ireturn, 1) := dk_172 (dk_at dksX0_add_1 0 rfl rfl)
abbrev cX0_multiply : ByteArray := method_8_code
def yX0_multiply : MethodName := ⟨RX0, "multiply", "(LSturmRoots;III[J)I"⟩
def dkwX0_multiply_1 : List UInt8 := [172]
abbrev dktX0_multiply_1 : List UInt8 := dkwX0_multiply_1 ++ []
def dkwX0_multiply_0 : List UInt8 := [25, 4, 3, 42, 27, 28, 29, 182, 0, 33, 133, 80, 167, 0, 11, 58, 5, 4, 172, 58, 5, 5, 172, 3]
abbrev dktX0_multiply_0 : List UInt8 := dkwX0_multiply_0 ++ dktX0_multiply_1
theorem dksX0_multiply_0 : cX0_multiply.data.toList.drop 0 = dktX0_multiply_0 := by decide +kernel
theorem dksX0_multiply_1 : cX0_multiply.data.toList.drop 24 = dktX0_multiply_1 := dk_seg dksX0_multiply_0 24 rfl rfl
theorem dX0_multiply_0 : decode cX0_multiply 0 = .ok (.aload 4, 2) := dk_25 4 (dk_at dksX0_multiply_0 0 rfl rfl)
theorem dX0_multiply_2 : decode cX0_multiply 2 = .ok (.iconst 0, 1) := dk_3 (dk_at dksX0_multiply_0 2 rfl rfl)
theorem dX0_multiply_3 : decode cX0_multiply 3 = .ok (.aload_n 0, 1) := dk_42 (dk_at dksX0_multiply_0 3 rfl rfl)
theorem dX0_multiply_4 : decode cX0_multiply 4 = .ok (.iload_n 1, 1) := dk_27 (dk_at dksX0_multiply_0 4 rfl rfl)
theorem dX0_multiply_5 : decode cX0_multiply 5 = .ok (.iload_n 2, 1) := dk_28 (dk_at dksX0_multiply_0 5 rfl rfl)
theorem dX0_multiply_6 : decode cX0_multiply 6 = .ok (.iload_n 3, 1) := dk_29 (dk_at dksX0_multiply_0 6 rfl rfl)
theorem dX0_multiply_7 : decode cX0_multiply 7 = .ok (.invokevirtual 33, 3) := dk_182 0 33 (dk_at dksX0_multiply_0 7 rfl rfl)
theorem dX0_multiply_10 : decode cX0_multiply 10 = .ok (.i2l, 1) := dk_133 (dk_at dksX0_multiply_0 10 rfl rfl)
theorem dX0_multiply_11 : decode cX0_multiply 11 = .ok (.lastore, 1) := dk_80 (dk_at dksX0_multiply_0 11 rfl rfl)
theorem dX0_multiply_12 : decode cX0_multiply 12 = .ok (.goto 11, 3) := dk_167 0 11 (dk_at dksX0_multiply_0 12 rfl rfl)
theorem dX0_multiply_15 : decode cX0_multiply 15 = .ok (.astore 5, 2) := dk_58 5 (dk_at dksX0_multiply_0 15 rfl rfl)
theorem dX0_multiply_17 : decode cX0_multiply 17 = .ok (.iconst 1, 1) := dk_4 (dk_at dksX0_multiply_0 17 rfl rfl)
theorem dX0_multiply_18 : decode cX0_multiply 18 = .ok (.ireturn, 1) := dk_172 (dk_at dksX0_multiply_0 18 rfl rfl)
theorem dX0_multiply_19 : decode cX0_multiply 19 = .ok (.astore 5, 2) := dk_58 5 (dk_at dksX0_multiply_0 19 rfl rfl)
theorem dX0_multiply_21 : decode cX0_multiply 21 = .ok (.iconst 2, 1) := dk_5 (dk_at dksX0_multiply_0 21 rfl rfl)
theorem dX0_multiply_22 : decode cX0_multiply 22 = .ok (.ireturn, 1) := dk_172 (dk_at dksX0_multiply_0 22 rfl rfl)
theorem dX0_multiply_23 : decode cX0_multiply 23 = .ok (.iconst 0, 1) := dk_3 (dk_at dksX0_multiply_0 23 rfl rfl)
theorem dX0_multiply_24 : decode cX0_multiply 24 = .ok (.ireturn, 1) := dk_172 (dk_at dksX0_multiply_1 0 rfl rfl)
abbrev cX0_derivative : ByteArray := method_9_code
def yX0_derivative : MethodName := ⟨RX0, "derivative", "(LSturmRoots;II[J)I"⟩
def dkwX0_derivative_0 : List UInt8 := [45, 3, 42, 27, 28, 182, 0, 36, 133, 80, 167, 0, 11, 58, 4, 4, 172, 58, 4, 5, 172, 3, 172]
abbrev dktX0_derivative_0 : List UInt8 := dkwX0_derivative_0 ++ []
theorem dksX0_derivative_0 : cX0_derivative.data.toList.drop 0 = dktX0_derivative_0 := by decide +kernel
theorem dX0_derivative_0 : decode cX0_derivative 0 = .ok (.aload_n 3, 1) := dk_45 (dk_at dksX0_derivative_0 0 rfl rfl)
theorem dX0_derivative_1 : decode cX0_derivative 1 = .ok (.iconst 0, 1) := dk_3 (dk_at dksX0_derivative_0 1 rfl rfl)
theorem dX0_derivative_2 : decode cX0_derivative 2 = .ok (.aload_n 0, 1) := dk_42 (dk_at dksX0_derivative_0 2 rfl rfl)
theorem dX0_derivative_3 : decode cX0_derivative 3 = .ok (.iload_n 1, 1) := dk_27 (dk_at dksX0_derivative_0 3 rfl rfl)
theorem dX0_derivative_4 : decode cX0_derivative 4 = .ok (.iload_n 2, 1) := dk_28 (dk_at dksX0_derivative_0 4 rfl rfl)
theorem dX0_derivative_5 : decode cX0_derivative 5 = .ok (.invokevirtual 36, 3) := dk_182 0 36 (dk_at dksX0_derivative_0 5 rfl rfl)
theorem dX0_derivative_8 : decode cX0_derivative 8 = .ok (.i2l, 1) := dk_133 (dk_at dksX0_derivative_0 8 rfl rfl)
theorem dX0_derivative_9 : decode cX0_derivative 9 = .ok (.lastore, 1) := dk_80 (dk_at dksX0_derivative_0 9 rfl rfl)
theorem dX0_derivative_10 : decode cX0_derivative 10 = .ok (.goto 11, 3) := dk_167 0 11 (dk_at dksX0_derivative_0 10 rfl rfl)
theorem dX0_derivative_13 : decode cX0_derivative 13 = .ok (.astore 4, 2) := dk_58 4 (dk_at dksX0_derivative_0 13 rfl rfl)
theorem dX0_derivative_15 : decode cX0_derivative 15 = .ok (.iconst 1, 1) := dk_4 (dk_at dksX0_derivative_0 15 rfl rfl)
theorem dX0_derivative_16 : decode cX0_derivative 16 = .ok (.ireturn, 1) := dk_172 (dk_at dksX0_derivative_0 16 rfl rfl)
theorem dX0_derivative_17 : decode cX0_derivative 17 = .ok (.astore 4, 2) := dk_58 4 (dk_at dksX0_derivative_0 17 rfl rfl)
theorem dX0_derivative_19 : decode cX0_derivative 19 = .ok (.iconst 2, 1) := dk_5 (dk_at dksX0_derivative_0 19 rfl rfl)
theorem dX0_derivative_20 : decode cX0_derivative 20 = .ok (.ireturn, 1) := dk_172 (dk_at dksX0_derivative_0 20 rfl rfl)
theorem dX0_derivative_21 : decode cX0_derivative 21 = .ok (.iconst 0, 1) := dk_3 (dk_at dksX0_derivative_0 21 rfl rfl)
theorem dX0_derivative_22 : decode cX0_derivative 22 = .ok (.ireturn, 1) := dk_172 (dk_at dksX0_derivative_0 22 rfl rfl)
abbrev cX0_shift : ByteArray := method_10_code
def yX0_shift : MethodName := ⟨RX0, "shift", "(LSturmRoots;III[J)I"⟩
def dkwX0_shift_1 : List UInt8 := [58, 5, 6, 172, 3, 172]
abbrev dktX0_shift_1 : List UInt8 := dkwX0_shift_1 ++ []
def dkwX0_shift_0 : List UInt8 := [25, 4, 3, 42, 27, 28, 29, 182, 0, 39, 133, 80, 167, 0, 15, 58, 5, 4, 172, 58, 5, 5, 172]
abbrev dktX0_shift_0 : List UInt8 := dkwX0_shift_0 ++ dktX0_shift_1
theorem dksX0_shift_0 : cX0_shift.data.toList.drop 0 = dktX0_shift_0 := by decide +kernel
theorem dksX0_shift_1 : cX0_shift.data.toList.drop 23 = dktX0_shift_1 := dk_seg dksX0_shift_0 23 rfl rfl
theorem dX0_shift_0 : decode cX0_shift 0 = .ok (.aload 4, 2) := dk_25 4 (dk_at dksX0_shift_0 0 rfl rfl)
theorem dX0_shift_2 : decode cX0_shift 2 = .ok (.iconst 0, 1) := dk_3 (dk_at dksX0_shift_0 2 rfl rfl)
theorem dX0_shift_3 : decode cX0_shift 3 = .ok (.aload_n 0, 1) := dk_42 (dk_at dksX0_shift_0 3 rfl rfl)
theorem dX0_shift_4 : decode cX0_shift 4 = .ok (.iload_n 1, 1) := dk_27 (dk_at dksX0_shift_0 4 rfl rfl)
theorem dX0_shift_5 : decode cX0_shift 5 = .ok (.iload_n 2, 1) := dk_28 (dk_at dksX0_shift_0 5 rfl rfl)
theorem dX0_shift_6 : decode cX0_shift 6 = .ok (.iload_n 3, 1) := dk_29 (dk_at dksX0_shift_0 6 rfl rfl)
theorem dX0_shift_7 : decode cX0_shift 7 = .ok (.invokevirtual 39, 3) := dk_182 0 39 (dk_at dksX0_shift_0 7 rfl rfl)
theorem dX0_shift_10 : decode cX0_shift 10 = .ok (.i2l, 1) := dk_133 (dk_at dksX0_shift_0 10 rfl rfl)
theorem dX0_shift_11 : decode cX0_shift 11 = .ok (.lastore, 1) := dk_80 (dk_at dksX0_shift_0 11 rfl rfl)
theorem dX0_shift_12 : decode cX0_shift 12 = .ok (.goto 15, 3) := dk_167 0 15 (dk_at dksX0_shift_0 12 rfl rfl)
theorem dX0_shift_15 : decode cX0_shift 15 = .ok (.astore 5, 2) := dk_58 5 (dk_at dksX0_shift_0 15 rfl rfl)
theorem dX0_shift_17 : decode cX0_shift 17 = .ok (.iconst 1, 1) := dk_4 (dk_at dksX0_shift_0 17 rfl rfl)
theorem dX0_shift_18 : decode cX0_shift 18 = .ok (.ireturn, 1) := dk_172 (dk_at dksX0_shift_0 18 rfl rfl)
theorem dX0_shift_19 : decode cX0_shift 19 = .ok (.astore 5, 2) := dk_58 5 (dk_at dksX0_shift_0 19 rfl rfl)
theorem dX0_shift_21 : decode cX0_shift 21 = .ok (.iconst 2, 1) := dk_5 (dk_at dksX0_shift_0 21 rfl rfl)
theorem dX0_shift_22 : decode cX0_shift 22 = .ok (.ireturn, 1) := dk_172 (dk_at dksX0_shift_0 22 rfl rfl)
theorem dX0_shift_23 : decode cX0_shift 23 = .ok (.astore 5, 2) := dk_58 5 (dk_at dksX0_shift_1 0 rfl rfl)
theorem dX0_shift_25 : decode cX0_shift 25 = .ok (.iconst 3, 1) := dk_6 (dk_at dksX0_shift_1 2 rfl rfl)
theorem dX0_shift_26 : decode cX0_shift 26 = .ok (.ireturn, 1) := dk_172 (dk_at dksX0_shift_1 3 rfl rfl)
theorem dX0_shift_27 : decode cX0_shift 27 = .ok (.iconst 0, 1) := dk_3 (dk_at dksX0_shift_1 4 rfl rfl)
theorem dX0_shift_28 : decode cX0_shift 28 = .ok (.ireturn, 1) := dk_172 (dk_at dksX0_shift_1 5 rfl rfl)
abbrev cX0_reflect : ByteArray := method_11_code
def yX0_reflect : MethodName := ⟨RX0, "reflect", "(LSturmRoots;II[J)I"⟩
def dkwX0_reflect_0 : List UInt8 := [45, 3, 42, 27, 28, 182, 0, 42, 133, 80, 167, 0, 7, 58, 4, 4, 172, 3, 172]
abbrev dktX0_reflect_0 : List UInt8 := dkwX0_reflect_0 ++ []
theorem dksX0_reflect_0 : cX0_reflect.data.toList.drop 0 = dktX0_reflect_0 := by decide +kernel
theorem dX0_reflect_0 : decode cX0_reflect 0 = .ok (.aload_n 3, 1) := dk_45 (dk_at dksX0_reflect_0 0 rfl rfl)
theorem dX0_reflect_1 : decode cX0_reflect 1 = .ok (.iconst 0, 1) := dk_3 (dk_at dksX0_reflect_0 1 rfl rfl)
theorem dX0_reflect_2 : decode cX0_reflect 2 = .ok (.aload_n 0, 1) := dk_42 (dk_at dksX0_reflect_0 2 rfl rfl)
theorem dX0_reflect_3 : decode cX0_reflect 3 = .ok (.iload_n 1, 1) := dk_27 (dk_at dksX0_reflect_0 3 rfl rfl)
theorem dX0_reflect_4 : decode cX0_reflect 4 = .ok (.iload_n 2, 1) := dk_28 (dk_at dksX0_reflect_0 4 rfl rfl)
theorem dX0_reflect_5 : decode cX0_reflect 5 = .ok (.invokevirtual 42, 3) := dk_182 0 42 (dk_at dksX0_reflect_0 5 rfl rfl)
theorem dX0_reflect_8 : decode cX0_reflect 8 = .ok (.i2l, 1) := dk_133 (dk_at dksX0_reflect_0 8 rfl rfl)
theorem dX0_reflect_9 : decode cX0_reflect 9 = .ok (.lastore, 1) := dk_80 (dk_at dksX0_reflect_0 9 rfl rfl)
theorem dX0_reflect_10 : decode cX0_reflect 10 = .ok (.goto 7, 3) := dk_167 0 7 (dk_at dksX0_reflect_0 10 rfl rfl)
theorem dX0_reflect_13 : decode cX0_reflect 13 = .ok (.astore 4, 2) := dk_58 4 (dk_at dksX0_reflect_0 13 rfl rfl)
theorem dX0_reflect_15 : decode cX0_reflect 15 = .ok (.iconst 1, 1) := dk_4 (dk_at dksX0_reflect_0 15 rfl rfl)
theorem dX0_reflect_16 : decode cX0_reflect 16 = .ok (.ireturn, 1) := dk_172 (dk_at dksX0_reflect_0 16 rfl rfl)
theorem dX0_reflect_17 : decode cX0_reflect 17 = .ok (.iconst 0, 1) := dk_3 (dk_at dksX0_reflect_0 17 rfl rfl)
theorem dX0_reflect_18 : decode cX0_reflect 18 = .ok (.ireturn, 1) := dk_172 (dk_at dksX0_reflect_0 18 rfl rfl)
abbrev cX0_scale : ByteArray := method_12_code
def yX0_scale : MethodName := ⟨RX0, "scale", "(LSturmRoots;III[J)I"⟩
def dkwX0_scale_1 : List UInt8 := [58, 5, 6, 172, 3, 172]
abbrev dktX0_scale_1 : List UInt8 := dkwX0_scale_1 ++ []
def dkwX0_scale_0 : List UInt8 := [25, 4, 3, 42, 27, 28, 29, 182, 0, 45, 133, 80, 167, 0, 15, 58, 5, 4, 172, 58, 5, 5, 172]
abbrev dktX0_scale_0 : List UInt8 := dkwX0_scale_0 ++ dktX0_scale_1
theorem dksX0_scale_0 : cX0_scale.data.toList.drop 0 = dktX0_scale_0 := by decide +kernel
theorem dksX0_scale_1 : cX0_scale.data.toList.drop 23 = dktX0_scale_1 := dk_seg dksX0_scale_0 23 rfl rfl
theorem dX0_scale_0 : decode cX0_scale 0 = .ok (.aload 4, 2) := dk_25 4 (dk_at dksX0_scale_0 0 rfl rfl)
theorem dX0_scale_2 : decode cX0_scale 2 = .ok (.iconst 0, 1) := dk_3 (dk_at dksX0_scale_0 2 rfl rfl)
theorem dX0_scale_3 : decode cX0_scale 3 = .ok (.aload_n 0, 1) := dk_42 (dk_at dksX0_scale_0 3 rfl rfl)
theorem dX0_scale_4 : decode cX0_scale 4 = .ok (.iload_n 1, 1) := dk_27 (dk_at dksX0_scale_0 4 rfl rfl)
theorem dX0_scale_5 : decode cX0_scale 5 = .ok (.iload_n 2, 1) := dk_28 (dk_at dksX0_scale_0 5 rfl rfl)
theorem dX0_scale_6 : decode cX0_scale 6 = .ok (.iload_n 3, 1) := dk_29 (dk_at dksX0_scale_0 6 rfl rfl)
theorem dX0_scale_7 : decode cX0_scale 7 = .ok (.invokevirtual 45, 3) := dk_182 0 45 (dk_at dksX0_scale_0 7 rfl rfl)
theorem dX0_scale_10 : decode cX0_scale 10 = .ok (.i2l, 1) := dk_133 (dk_at dksX0_scale_0 10 rfl rfl)
theorem dX0_scale_11 : decode cX0_scale 11 = .ok (.lastore, 1) := dk_80 (dk_at dksX0_scale_0 11 rfl rfl)
theorem dX0_scale_12 : decode cX0_scale 12 = .ok (.goto 15, 3) := dk_167 0 15 (dk_at dksX0_scale_0 12 rfl rfl)
theorem dX0_scale_15 : decode cX0_scale 15 = .ok (.astore 5, 2) := dk_58 5 (dk_at dksX0_scale_0 15 rfl rfl)
theorem dX0_scale_17 : decode cX0_scale 17 = .ok (.iconst 1, 1) := dk_4 (dk_at dksX0_scale_0 17 rfl rfl)
theorem dX0_scale_18 : decode cX0_scale 18 = .ok (.ireturn, 1) := dk_172 (dk_at dksX0_scale_0 18 rfl rfl)
theorem dX0_scale_19 : decode cX0_scale 19 = .ok (.astore 5, 2) := dk_58 5 (dk_at dksX0_scale_0 19 rfl rfl)
theorem dX0_scale_21 : decode cX0_scale 21 = .ok (.iconst 2, 1) := dk_5 (dk_at dksX0_scale_0 21 rfl rfl)
theorem dX0_scale_22 : decode cX0_scale 22 = .ok (.ireturn, 1) := dk_172 (dk_at dksX0_scale_0 22 rfl rfl)
theorem dX0_scale_23 : decode cX0_scale 23 = .ok (.astore 5, 2) := dk_58 5 (dk_at dksX0_scale_1 0 rfl rfl)
theorem dX0_scale_25 : decode cX0_scale 25 = .ok (.iconst 3, 1) := dk_6 (dk_at dksX0_scale_1 2 rfl rfl)
theorem dX0_scale_26 : decode cX0_scale 26 = .ok (.ireturn, 1) := dk_172 (dk_at dksX0_scale_1 3 rfl rfl)
theorem dX0_scale_27 : decode cX0_scale 27 = .ok (.iconst 0, 1) := dk_3 (dk_at dksX0_scale_1 4 rfl rfl)
theorem dX0_scale_28 : decode cX0_scale 28 = .ok (.ireturn, 1) := dk_172 (dk_at dksX0_scale_1 5 rfl rfl)
abbrev cX0_gcd : ByteArray := method_13_code
def yX0_gcd : MethodName := ⟨RX0, "gcd", "(LSturmRoots;III[J)I"⟩
def dkwX0_gcd_1 : List UInt8 := [172]
abbrev dktX0_gcd_1 : List UInt8 := dkwX0_gcd_1 ++ []
def dkwX0_gcd_0 : List UInt8 := [25, 4, 3, 42, 27, 28, 29, 182, 0, 48, 133, 80, 167, 0, 11, 58, 5, 4, 172, 58, 5, 5, 172, 3]
abbrev dktX0_gcd_0 : List UInt8 := dkwX0_gcd_0 ++ dktX0_gcd_1
theorem dksX0_gcd_0 : cX0_gcd.data.toList.drop 0 = dktX0_gcd_0 := by decide +kernel
theorem dksX0_gcd_1 : cX0_gcd.data.toList.drop 24 = dktX0_gcd_1 := dk_seg dksX0_gcd_0 24 rfl rfl
theorem dX0_gcd_0 : decode cX0_gcd 0 = .ok (.aload 4, 2) := dk_25 4 (dk_at dksX0_gcd_0 0 rfl rfl)
theorem dX0_gcd_2 : decode cX0_gcd 2 = .ok (.iconst 0, 1) := dk_3 (dk_at dksX0_gcd_0 2 rfl rfl)
theorem dX0_gcd_3 : decode cX0_gcd 3 = .ok (.aload_n 0, 1) := dk_42 (dk_at dksX0_gcd_0 3 rfl rfl)
theorem dX0_gcd_4 : decode cX0_gcd 4 = .ok (.iload_n 1, 1) := dk_27 (dk_at dksX0_gcd_0 4 rfl rfl)
theorem dX0_gcd_5 : decode cX0_gcd 5 = .ok (.iload_n 2, 1) := dk_28 (dk_at dksX0_gcd_0 5 rfl rfl)
theorem dX0_gcd_6 : decode cX0_gcd 6 = .ok (.iload_n 3, 1) := dk_29 (dk_at dksX0_gcd_0 6 rfl rfl)
theorem dX0_gcd_7 : decode cX0_gcd 7 = .ok (.invokevirtual 48, 3) := dk_182 0 48 (dk_at dksX0_gcd_0 7 rfl rfl)
theorem dX0_gcd_10 : decode cX0_gcd 10 = .ok (.i2l, 1) := dk_133 (dk_at dksX0_gcd_0 10 rfl rfl)
theorem dX0_gcd_11 : decode cX0_gcd 11 = .ok (.lastore, 1) := dk_80 (dk_at dksX0_gcd_0 11 rfl rfl)
theorem dX0_gcd_12 : decode cX0_gcd 12 = .ok (.goto 11, 3) := dk_167 0 11 (dk_at dksX0_gcd_0 12 rfl rfl)
theorem dX0_gcd_15 : decode cX0_gcd 15 = .ok (.astore 5, 2) := dk_58 5 (dk_at dksX0_gcd_0 15 rfl rfl)
theorem dX0_gcd_17 : decode cX0_gcd 17 = .ok (.iconst 1, 1) := dk_4 (dk_at dksX0_gcd_0 17 rfl rfl)
theorem dX0_gcd_18 : decode cX0_gcd 18 = .ok (.ireturn, 1) := dk_172 (dk_at dksX0_gcd_0 18 rfl rfl)
theorem dX0_gcd_19 : decode cX0_gcd 19 = .ok (.astore 5, 2) := dk_58 5 (dk_at dksX0_gcd_0 19 rfl rfl)
theorem dX0_gcd_21 : decode cX0_gcd 21 = .ok (.iconst 2, 1) := dk_5 (dk_at dksX0_gcd_0 21 rfl rfl)
theorem dX0_gcd_22 : decode cX0_gcd 22 = .ok (.ireturn, 1) := dk_172 (dk_at dksX0_gcd_0 22 rfl rfl)
theorem dX0_gcd_23 : decode cX0_gcd 23 = .ok (.iconst 0, 1) := dk_3 (dk_at dksX0_gcd_0 23 rfl rfl)
theorem dX0_gcd_24 : decode cX0_gcd 24 = .ok (.ireturn, 1) := dk_172 (dk_at dksX0_gcd_1 0 rfl rfl)
abbrev cX0_squareFreePart : ByteArray := method_14_code
def yX0_squareFreePart : MethodName := ⟨RX0, "squareFreePart", "(LSturmRoots;II[J)I"⟩
def dkwX0_squareFreePart_1 : List UInt8 := [172, 3, 172]
abbrev dktX0_squareFreePart_1 : List UInt8 := dkwX0_squareFreePart_1 ++ []
def dkwX0_squareFreePart_0 : List UInt8 := [45, 3, 42, 27, 28, 182, 0, 51, 133, 80, 167, 0, 15, 58, 4, 4, 172, 58, 4, 5, 172, 58, 4, 6]
abbrev dktX0_squareFreePart_0 : List UInt8 := dkwX0_squareFreePart_0 ++ dktX0_squareFreePart_1
theorem dksX0_squareFreePart_0 : cX0_squareFreePart.data.toList.drop 0 = dktX0_squareFreePart_0 := by decide +kernel
theorem dksX0_squareFreePart_1 : cX0_squareFreePart.data.toList.drop 24 = dktX0_squareFreePart_1 := dk_seg dksX0_squareFreePart_0 24 rfl rfl
theorem dX0_squareFreePart_0 : decode cX0_squareFreePart 0 = .ok (.aload_n 3, 1) := dk_45 (dk_at dksX0_squareFreePart_0 0 rfl rfl)
theorem dX0_squareFreePart_1 : decode cX0_squareFreePart 1 = .ok (.iconst 0, 1) := dk_3 (dk_at dksX0_squareFreePart_0 1 rfl rfl)
theorem dX0_squareFreePart_2 : decode cX0_squareFreePart 2 = .ok (.aload_n 0, 1) := dk_42 (dk_at dksX0_squareFreePart_0 2 rfl rfl)
theorem dX0_squareFreePart_3 : decode cX0_squareFreePart 3 = .ok (.iload_n 1, 1) := dk_27 (dk_at dksX0_squareFreePart_0 3 rfl rfl)
theorem dX0_squareFreePart_4 : decode cX0_squareFreePart 4 = .ok (.iload_n 2, 1) := dk_28 (dk_at dksX0_squareFreePart_0 4 rfl rfl)
theorem dX0_squareFreePart_5 : decode cX0_squareFreePart 5 = .ok (.invokevirtual 51, 3) := dk_182 0 51 (dk_at dksX0_squareFreePart_0 5 rfl rfl)
theorem dX0_squareFreePart_8 : decode cX0_squareFreePart 8 = .ok (.i2l, 1) := dk_133 (dk_at dksX0_squareFreePart_0 8 rfl rfl)
theorem dX0_squareFreePart_9 : decode cX0_squareFreePart 9 = .ok (.lastore, 1) := dk_80 (dk_at dksX0_squareFreePart_0 9 rfl rfl)
theorem dX0_squareFreePart_10 : decode cX0_squareFreePart 10 = .ok (.goto 15, 3) := dk_167 0 15 (dk_at dksX0_squareFreePart_0 10 rfl rfl)
theorem dX0_squareFreePart_13 : decode cX0_squareFreePart 13 = .ok (.astore 4, 2) := dk_58 4 (dk_at dksX0_squareFreePart_0 13 rfl rfl)
theorem dX0_squareFreePart_15 : decode cX0_squareFreePart 15 = .ok (.iconst 1, 1) := dk_4 (dk_at dksX0_squareFreePart_0 15 rfl rfl)
theorem dX0_squareFreePart_16 : decode cX0_squareFreePart 16 = .ok (.ireturn, 1) := dk_172 (dk_at dksX0_squareFreePart_0 16 rfl rfl)
theorem dX0_squareFreePart_17 : decode cX0_squareFreePart 17 = .ok (.astore 4, 2) := dk_58 4 (dk_at dksX0_squareFreePart_0 17 rfl rfl)
theorem dX0_squareFreePart_19 : decode cX0_squareFreePart 19 = .ok (.iconst 2, 1) := dk_5 (dk_at dksX0_squareFreePart_0 19 rfl rfl)
theorem dX0_squareFreePart_20 : decode cX0_squareFreePart 20 = .ok (.ireturn, 1) := dk_172 (dk_at dksX0_squareFreePart_0 20 rfl rfl)
theorem dX0_squareFreePart_21 : decode cX0_squareFreePart 21 = .ok (.astore 4, 2) := dk_58 4 (dk_at dksX0_squareFreePart_0 21 rfl rfl)
theorem dX0_squareFreePart_23 : decode cX0_squareFreePart 23 = .ok (.iconst 3, 1) := dk_6 (dk_at dksX0_squareFreePart_0 23 rfl rfl)
theorem dX0_squareFreePart_24 : decode cX0_squareFreePart 24 = .ok (.ireturn, 1) := dk_172 (dk_at dksX0_squareFreePart_1 0 rfl rfl)
theorem dX0_squareFreePart_25 : decode cX0_squareFreePart 25 = .ok (.iconst 0, 1) := dk_3 (dk_at dksX0_squareFreePart_1 1 rfl rfl)
theorem dX0_squareFreePart_26 : decode cX0_squareFreePart 26 = .ok (.ireturn, 1) := dk_172 (dk_at dksX0_squareFreePart_1 2 rfl rfl)
abbrev cX0_sturmLength : ByteArray := method_15_code
def yX0_sturmLength : MethodName := ⟨RX0, "sturmLength", "(LSturmRoots;I[J)I"⟩
def dkwX0_sturmLength_0 : List UInt8 := [44, 3, 42, 27, 182, 0, 56, 133, 80, 167, 0, 9, 78, 4, 172, 78, 5, 172, 3, 172]
abbrev dktX0_sturmLength_0 : List UInt8 := dkwX0_sturmLength_0 ++ []
theorem dksX0_sturmLength_0 : cX0_sturmLength.data.toList.drop 0 = dktX0_sturmLength_0 := by decide +kernel
theorem dX0_sturmLength_0 : decode cX0_sturmLength 0 = .ok (.aload_n 2, 1) := dk_44 (dk_at dksX0_sturmLength_0 0 rfl rfl)
theorem dX0_sturmLength_1 : decode cX0_sturmLength 1 = .ok (.iconst 0, 1) := dk_3 (dk_at dksX0_sturmLength_0 1 rfl rfl)
theorem dX0_sturmLength_2 : decode cX0_sturmLength 2 = .ok (.aload_n 0, 1) := dk_42 (dk_at dksX0_sturmLength_0 2 rfl rfl)
theorem dX0_sturmLength_3 : decode cX0_sturmLength 3 = .ok (.iload_n 1, 1) := dk_27 (dk_at dksX0_sturmLength_0 3 rfl rfl)
theorem dX0_sturmLength_4 : decode cX0_sturmLength 4 = .ok (.invokevirtual 56, 3) := dk_182 0 56 (dk_at dksX0_sturmLength_0 4 rfl rfl)
theorem dX0_sturmLength_7 : decode cX0_sturmLength 7 = .ok (.i2l, 1) := dk_133 (dk_at dksX0_sturmLength_0 7 rfl rfl)
theorem dX0_sturmLength_8 : decode cX0_sturmLength 8 = .ok (.lastore, 1) := dk_80 (dk_at dksX0_sturmLength_0 8 rfl rfl)
theorem dX0_sturmLength_9 : decode cX0_sturmLength 9 = .ok (.goto 9, 3) := dk_167 0 9 (dk_at dksX0_sturmLength_0 9 rfl rfl)
theorem dX0_sturmLength_12 : decode cX0_sturmLength 12 = .ok (.astore_n 3, 1) := dk_78 (dk_at dksX0_sturmLength_0 12 rfl rfl)
theorem dX0_sturmLength_13 : decode cX0_sturmLength 13 = .ok (.iconst 1, 1) := dk_4 (dk_at dksX0_sturmLength_0 13 rfl rfl)
theorem dX0_sturmLength_14 : decode cX0_sturmLength 14 = .ok (.ireturn, 1) := dk_172 (dk_at dksX0_sturmLength_0 14 rfl rfl)
theorem dX0_sturmLength_15 : decode cX0_sturmLength 15 = .ok (.astore_n 3, 1) := dk_78 (dk_at dksX0_sturmLength_0 15 rfl rfl)
theorem dX0_sturmLength_16 : decode cX0_sturmLength 16 = .ok (.iconst 2, 1) := dk_5 (dk_at dksX0_sturmLength_0 16 rfl rfl)
theorem dX0_sturmLength_17 : decode cX0_sturmLength 17 = .ok (.ireturn, 1) := dk_172 (dk_at dksX0_sturmLength_0 17 rfl rfl)
theorem dX0_sturmLength_18 : decode cX0_sturmLength 18 = .ok (.iconst 0, 1) := dk_3 (dk_at dksX0_sturmLength_0 18 rfl rfl)
theorem dX0_sturmLength_19 : decode cX0_sturmLength 19 = .ok (.ireturn, 1) := dk_172 (dk_at dksX0_sturmLength_0 19 rfl rfl)
abbrev cX0_sturmCoefficient : ByteArray := method_16_code
def yX0_sturmCoefficient : MethodName := ⟨RX0, "sturmCoefficient", "(LSturmRoots;III[J)I"⟩
def dkwX0_sturmCoefficient_1 : List UInt8 := [6, 172, 3, 172]
abbrev dktX0_sturmCoefficient_1 : List UInt8 := dkwX0_sturmCoefficient_1 ++ []
def dkwX0_sturmCoefficient_0 : List UInt8 := [25, 4, 3, 42, 27, 28, 29, 182, 0, 59, 80, 167, 0, 15, 58, 5, 4, 172, 58, 5, 5, 172, 58, 5]
abbrev dktX0_sturmCoefficient_0 : List UInt8 := dkwX0_sturmCoefficient_0 ++ dktX0_sturmCoefficient_1
theorem dksX0_sturmCoefficient_0 : cX0_sturmCoefficient.data.toList.drop 0 = dktX0_sturmCoefficient_0 := by decide +kernel
theorem dksX0_sturmCoefficient_1 : cX0_sturmCoefficient.data.toList.drop 24 = dktX0_sturmCoefficient_1 := dk_seg dksX0_sturmCoefficient_0 24 rfl rfl
theorem dX0_sturmCoefficient_0 : decode cX0_sturmCoefficient 0 = .ok (.aload 4, 2) := dk_25 4 (dk_at dksX0_sturmCoefficient_0 0 rfl rfl)
theorem dX0_sturmCoefficient_2 : decode cX0_sturmCoefficient 2 = .ok (.iconst 0, 1) := dk_3 (dk_at dksX0_sturmCoefficient_0 2 rfl rfl)
theorem dX0_sturmCoefficient_3 : decode cX0_sturmCoefficient 3 = .ok (.aload_n 0, 1) := dk_42 (dk_at dksX0_sturmCoefficient_0 3 rfl rfl)
theorem dX0_sturmCoefficient_4 : decode cX0_sturmCoefficient 4 = .ok (.iload_n 1, 1) := dk_27 (dk_at dksX0_sturmCoefficient_0 4 rfl rfl)
theorem dX0_sturmCoefficient_5 : decode cX0_sturmCoefficient 5 = .ok (.iload_n 2, 1) := dk_28 (dk_at dksX0_sturmCoefficient_0 5 rfl rfl)
theorem dX0_sturmCoefficient_6 : decode cX0_sturmCoefficient 6 = .ok (.iload_n 3, 1) := dk_29 (dk_at dksX0_sturmCoefficient_0 6 rfl rfl)
theorem dX0_sturmCoefficient_7 : decode cX0_sturmCoefficient 7 = .ok (.invokevirtual 59, 3) := dk_182 0 59 (dk_at dksX0_sturmCoefficient_0 7 rfl rfl)
theorem dX0_sturmCoefficient_10 : decode cX0_sturmCoefficient 10 = .ok (.lastore, 1) := dk_80 (dk_at dksX0_sturmCoefficient_0 10 rfl rfl)
theorem dX0_sturmCoefficient_11 : decode cX0_sturmCoefficient 11 = .ok (.goto 15, 3) := dk_167 0 15 (dk_at dksX0_sturmCoefficient_0 11 rfl rfl)
theorem dX0_sturmCoefficient_14 : decode cX0_sturmCoefficient 14 = .ok (.astore 5, 2) := dk_58 5 (dk_at dksX0_sturmCoefficient_0 14 rfl rfl)
theorem dX0_sturmCoefficient_16 : decode cX0_sturmCoefficient 16 = .ok (.iconst 1, 1) := dk_4 (dk_at dksX0_sturmCoefficient_0 16 rfl rfl)
theorem dX0_sturmCoefficient_17 : decode cX0_sturmCoefficient 17 = .ok (.ireturn, 1) := dk_172 (dk_at dksX0_sturmCoefficient_0 17 rfl rfl)
theorem dX0_sturmCoefficient_18 : decode cX0_sturmCoefficient 18 = .ok (.astore 5, 2) := dk_58 5 (dk_at dksX0_sturmCoefficient_0 18 rfl rfl)
theorem dX0_sturmCoefficient_20 : decode cX0_sturmCoefficient 20 = .ok (.iconst 2, 1) := dk_5 (dk_at dksX0_sturmCoefficient_0 20 rfl rfl)
theorem dX0_sturmCoefficient_21 : decode cX0_sturmCoefficient 21 = .ok (.ireturn, 1) := dk_172 (dk_at dksX0_sturmCoefficient_0 21 rfl rfl)
theorem dX0_sturmCoefficient_22 : decode cX0_sturmCoefficient 22 = .ok (.astore 5, 2) := dk_58 5 (dk_at dksX0_sturmCoefficient_0 22 rfl rfl)
theorem dX0_sturmCoefficient_24 : decode cX0_sturmCoefficient 24 = .ok (.iconst 3, 1) := dk_6 (dk_at dksX0_sturmCoefficient_1 0 rfl rfl)
theorem dX0_sturmCoefficient_25 : decode cX0_sturmCoefficient 25 = .ok (.ireturn, 1) := dk_172 (dk_at dksX0_sturmCoefficient_1 1 rfl rfl)
theorem dX0_sturmCoefficient_26 : decode cX0_sturmCoefficient 26 = .ok (.iconst 0, 1) := dk_3 (dk_at dksX0_sturmCoefficient_1 2 rfl rfl)
theorem dX0_sturmCoefficient_27 : decode cX0_sturmCoefficient 27 = .ok (.ireturn, 1) := dk_172 (dk_at dksX0_sturmCoefficient_1 3 rfl rfl)
abbrev cX0_sturmDegree : ByteArray := method_17_code
def yX0_sturmDegree : MethodName := ⟨RX0, "sturmDegree", "(LSturmRoots;II[J)I"⟩
def dkwX0_sturmDegree_1 : List UInt8 := [172, 3, 172]
abbrev dktX0_sturmDegree_1 : List UInt8 := dkwX0_sturmDegree_1 ++ []
def dkwX0_sturmDegree_0 : List UInt8 := [45, 3, 42, 27, 28, 182, 0, 65, 133, 80, 167, 0, 15, 58, 4, 4, 172, 58, 4, 5, 172, 58, 4, 6]
abbrev dktX0_sturmDegree_0 : List UInt8 := dkwX0_sturmDegree_0 ++ dktX0_sturmDegree_1
theorem dksX0_sturmDegree_0 : cX0_sturmDegree.data.toList.drop 0 = dktX0_sturmDegree_0 := by decide +kernel
theorem dksX0_sturmDegree_1 : cX0_sturmDegree.data.toList.drop 24 = dktX0_sturmDegree_1 := dk_seg dksX0_sturmDegree_0 24 rfl rfl
theorem dX0_sturmDegree_0 : decode cX0_sturmDegree 0 = .ok (.aload_n 3, 1) := dk_45 (dk_at dksX0_sturmDegree_0 0 rfl rfl)
theorem dX0_sturmDegree_1 : decode cX0_sturmDegree 1 = .ok (.iconst 0, 1) := dk_3 (dk_at dksX0_sturmDegree_0 1 rfl rfl)
theorem dX0_sturmDegree_2 : decode cX0_sturmDegree 2 = .ok (.aload_n 0, 1) := dk_42 (dk_at dksX0_sturmDegree_0 2 rfl rfl)
theorem dX0_sturmDegree_3 : decode cX0_sturmDegree 3 = .ok (.iload_n 1, 1) := dk_27 (dk_at dksX0_sturmDegree_0 3 rfl rfl)
theorem dX0_sturmDegree_4 : decode cX0_sturmDegree 4 = .ok (.iload_n 2, 1) := dk_28 (dk_at dksX0_sturmDegree_0 4 rfl rfl)
theorem dX0_sturmDegree_5 : decode cX0_sturmDegree 5 = .ok (.invokevirtual 65, 3) := dk_182 0 65 (dk_at dksX0_sturmDegree_0 5 rfl rfl)
theorem dX0_sturmDegree_8 : decode cX0_sturmDegree 8 = .ok (.i2l, 1) := dk_133 (dk_at dksX0_sturmDegree_0 8 rfl rfl)
theorem dX0_sturmDegree_9 : decode cX0_sturmDegree 9 = .ok (.lastore, 1) := dk_80 (dk_at dksX0_sturmDegree_0 9 rfl rfl)
theorem dX0_sturmDegree_10 : decode cX0_sturmDegree 10 = .ok (.goto 15, 3) := dk_167 0 15 (dk_at dksX0_sturmDegree_0 10 rfl rfl)
theorem dX0_sturmDegree_13 : decode cX0_sturmDegree 13 = .ok (.astore 4, 2) := dk_58 4 (dk_at dksX0_sturmDegree_0 13 rfl rfl)
theorem dX0_sturmDegree_15 : decode cX0_sturmDegree 15 = .ok (.iconst 1, 1) := dk_4 (dk_at dksX0_sturmDegree_0 15 rfl rfl)
theorem dX0_sturmDegree_16 : decode cX0_sturmDegree 16 = .ok (.ireturn, 1) := dk_172 (dk_at dksX0_sturmDegree_0 16 rfl rfl)
theorem dX0_sturmDegree_17 : decode cX0_sturmDegree 17 = .ok (.astore 4, 2) := dk_58 4 (dk_at dksX0_sturmDegree_0 17 rfl rfl)
theorem dX0_sturmDegree_19 : decode cX0_sturmDegree 19 = .ok (.iconst 2, 1) := dk_5 (dk_at dksX0_sturmDegree_0 19 rfl rfl)
theorem dX0_sturmDegree_20 : decode cX0_sturmDegree 20 = .ok (.ireturn, 1) := dk_172 (dk_at dksX0_sturmDegree_0 20 rfl rfl)
theorem dX0_sturmDegree_21 : decode cX0_sturmDegree 21 = .ok (.astore 4, 2) := dk_58 4 (dk_at dksX0_sturmDegree_0 21 rfl rfl)
theorem dX0_sturmDegree_23 : decode cX0_sturmDegree 23 = .ok (.iconst 3, 1) := dk_6 (dk_at dksX0_sturmDegree_0 23 rfl rfl)
theorem dX0_sturmDegree_24 : decode cX0_sturmDegree 24 = .ok (.ireturn, 1) := dk_172 (dk_at dksX0_sturmDegree_1 0 rfl rfl)
theorem dX0_sturmDegree_25 : decode cX0_sturmDegree 25 = .ok (.iconst 0, 1) := dk_3 (dk_at dksX0_sturmDegree_1 1 rfl rfl)
theorem dX0_sturmDegree_26 : decode cX0_sturmDegree 26 = .ok (.ireturn, 1) := dk_172 (dk_at dksX0_sturmDegree_1 2 rfl rfl)
abbrev cX0_signChanges : ByteArray := method_18_code
def yX0_signChanges : MethodName := ⟨RX0, "signChanges", "(LSturmRoots;III[J)I"⟩
def dkwX0_signChanges_1 : List UInt8 := [58, 5, 6, 172, 3, 172]
abbrev dktX0_signChanges_1 : List UInt8 := dkwX0_signChanges_1 ++ []
def dkwX0_signChanges_0 : List UInt8 := [25, 4, 3, 42, 27, 28, 29, 182, 0, 68, 133, 80, 167, 0, 15, 58, 5, 4, 172, 58, 5, 5, 172]
abbrev dktX0_signChanges_0 : List UInt8 := dkwX0_signChanges_0 ++ dktX0_signChanges_1
theorem dksX0_signChanges_0 : cX0_signChanges.data.toList.drop 0 = dktX0_signChanges_0 := by decide +kernel
theorem dksX0_signChanges_1 : cX0_signChanges.data.toList.drop 23 = dktX0_signChanges_1 := dk_seg dksX0_signChanges_0 23 rfl rfl
theorem dX0_signChanges_0 : decode cX0_signChanges 0 = .ok (.aload 4, 2) := dk_25 4 (dk_at dksX0_signChanges_0 0 rfl rfl)
theorem dX0_signChanges_2 : decode cX0_signChanges 2 = .ok (.iconst 0, 1) := dk_3 (dk_at dksX0_signChanges_0 2 rfl rfl)
theorem dX0_signChanges_3 : decode cX0_signChanges 3 = .ok (.aload_n 0, 1) := dk_42 (dk_at dksX0_signChanges_0 3 rfl rfl)
theorem dX0_signChanges_4 : decode cX0_signChanges 4 = .ok (.iload_n 1, 1) := dk_27 (dk_at dksX0_signChanges_0 4 rfl rfl)
theorem dX0_signChanges_5 : decode cX0_signChanges 5 = .ok (.iload_n 2, 1) := dk_28 (dk_at dksX0_signChanges_0 5 rfl rfl)
theorem dX0_signChanges_6 : decode cX0_signChanges 6 = .ok (.iload_n 3, 1) := dk_29 (dk_at dksX0_signChanges_0 6 rfl rfl)
theorem dX0_signChanges_7 : decode cX0_signChanges 7 = .ok (.invokevirtual 68, 3) := dk_182 0 68 (dk_at dksX0_signChanges_0 7 rfl rfl)
theorem dX0_signChanges_10 : decode cX0_signChanges 10 = .ok (.i2l, 1) := dk_133 (dk_at dksX0_signChanges_0 10 rfl rfl)
theorem dX0_signChanges_11 : decode cX0_signChanges 11 = .ok (.lastore, 1) := dk_80 (dk_at dksX0_signChanges_0 11 rfl rfl)
theorem dX0_signChanges_12 : decode cX0_signChanges 12 = .ok (.goto 15, 3) := dk_167 0 15 (dk_at dksX0_signChanges_0 12 rfl rfl)
theorem dX0_signChanges_15 : decode cX0_signChanges 15 = .ok (.astore 5, 2) := dk_58 5 (dk_at dksX0_signChanges_0 15 rfl rfl)
theorem dX0_signChanges_17 : decode cX0_signChanges 17 = .ok (.iconst 1, 1) := dk_4 (dk_at dksX0_signChanges_0 17 rfl rfl)
theorem dX0_signChanges_18 : decode cX0_signChanges 18 = .ok (.ireturn, 1) := dk_172 (dk_at dksX0_signChanges_0 18 rfl rfl)
theorem dX0_signChanges_19 : decode cX0_signChanges 19 = .ok (.astore 5, 2) := dk_58 5 (dk_at dksX0_signChanges_0 19 rfl rfl)
theorem dX0_signChanges_21 : decode cX0_signChanges 21 = .ok (.iconst 2, 1) := dk_5 (dk_at dksX0_signChanges_0 21 rfl rfl)
theorem dX0_signChanges_22 : decode cX0_signChanges 22 = .ok (.ireturn, 1) := dk_172 (dk_at dksX0_signChanges_0 22 rfl rfl)
theorem dX0_signChanges_23 : decode cX0_signChanges 23 = .ok (.astore 5, 2) := dk_58 5 (dk_at dksX0_signChanges_1 0 rfl rfl)
theorem dX0_signChanges_25 : decode cX0_signChanges 25 = .ok (.iconst 3, 1) := dk_6 (dk_at dksX0_signChanges_1 2 rfl rfl)
theorem dX0_signChanges_26 : decode cX0_signChanges 26 = .ok (.ireturn, 1) := dk_172 (dk_at dksX0_signChanges_1 3 rfl rfl)
theorem dX0_signChanges_27 : decode cX0_signChanges 27 = .ok (.iconst 0, 1) := dk_3 (dk_at dksX0_signChanges_1 4 rfl rfl)
theorem dX0_signChanges_28 : decode cX0_signChanges 28 = .ok (.ireturn, 1) := dk_172 (dk_at dksX0_signChanges_1 5 rfl rfl)
abbrev cX0_sign : ByteArray := method_19_code
def yX0_sign : MethodName := ⟨RX0, "sign", "(LSturmRoots;III[J)I"⟩
def dkwX0_sign_1 : List UInt8 := [172]
abbrev dktX0_sign_1 : List UInt8 := dkwX0_sign_1 ++ []
def dkwX0_sign_0 : List UInt8 := [25, 4, 3, 42, 27, 28, 29, 182, 0, 71, 133, 80, 167, 0, 11, 58, 5, 4, 172, 58, 5, 5, 172, 3]
abbrev dktX0_sign_0 : List UInt8 := dkwX0_sign_0 ++ dktX0_sign_1
theorem dksX0_sign_0 : cX0_sign.data.toList.drop 0 = dktX0_sign_0 := by decide +kernel
theorem dksX0_sign_1 : cX0_sign.data.toList.drop 24 = dktX0_sign_1 := dk_seg dksX0_sign_0 24 rfl rfl
theorem dX0_sign_0 : decode cX0_sign 0 = .ok (.aload 4, 2) := dk_25 4 (dk_at dksX0_sign_0 0 rfl rfl)
theorem dX0_sign_2 : decode cX0_sign 2 = .ok (.iconst 0, 1) := dk_3 (dk_at dksX0_sign_0 2 rfl rfl)
theorem dX0_sign_3 : decode cX0_sign 3 = .ok (.aload_n 0, 1) := dk_42 (dk_at dksX0_sign_0 3 rfl rfl)
theorem dX0_sign_4 : decode cX0_sign 4 = .ok (.iload_n 1, 1) := dk_27 (dk_at dksX0_sign_0 4 rfl rfl)
theorem dX0_sign_5 : decode cX0_sign 5 = .ok (.iload_n 2, 1) := dk_28 (dk_at dksX0_sign_0 5 rfl rfl)
theorem dX0_sign_6 : decode cX0_sign 6 = .ok (.iload_n 3, 1) := dk_29 (dk_at dksX0_sign_0 6 rfl rfl)
theorem dX0_sign_7 : decode cX0_sign 7 = .ok (.invokevirtual 71, 3) := dk_182 0 71 (dk_at dksX0_sign_0 7 rfl rfl)
theorem dX0_sign_10 : decode cX0_sign 10 = .ok (.i2l, 1) := dk_133 (dk_at dksX0_sign_0 10 rfl rfl)
theorem dX0_sign_11 : decode cX0_sign 11 = .ok (.lastore, 1) := dk_80 (dk_at dksX0_sign_0 11 rfl rfl)
theorem dX0_sign_12 : decode cX0_sign 12 = .ok (.goto 11, 3) := dk_167 0 11 (dk_at dksX0_sign_0 12 rfl rfl)
theorem dX0_sign_15 : decode cX0_sign 15 = .ok (.astore 5, 2) := dk_58 5 (dk_at dksX0_sign_0 15 rfl rfl)
theorem dX0_sign_17 : decode cX0_sign 17 = .ok (.iconst 1, 1) := dk_4 (dk_at dksX0_sign_0 17 rfl rfl)
theorem dX0_sign_18 : decode cX0_sign 18 = .ok (.ireturn, 1) := dk_172 (dk_at dksX0_sign_0 18 rfl rfl)
theorem dX0_sign_19 : decode cX0_sign 19 = .ok (.astore 5, 2) := dk_58 5 (dk_at dksX0_sign_0 19 rfl rfl)
theorem dX0_sign_21 : decode cX0_sign 21 = .ok (.iconst 2, 1) := dk_5 (dk_at dksX0_sign_0 21 rfl rfl)
theorem dX0_sign_22 : decode cX0_sign 22 = .ok (.ireturn, 1) := dk_172 (dk_at dksX0_sign_0 22 rfl rfl)
theorem dX0_sign_23 : decode cX0_sign 23 = .ok (.iconst 0, 1) := dk_3 (dk_at dksX0_sign_0 23 rfl rfl)
theorem dX0_sign_24 : decode cX0_sign 24 = .ok (.ireturn, 1) := dk_172 (dk_at dksX0_sign_1 0 rfl rfl)
abbrev cX0_countDistinct : ByteArray := method_20_code
def yX0_countDistinct : MethodName := ⟨RX0, "countDistinct", "(LSturmRoots;IIIII[J)I"⟩
def dkwX0_countDistinct_1 : List UInt8 := [58, 7, 5, 172, 58, 7, 6, 172, 58, 7, 7, 172, 3, 172]
abbrev dktX0_countDistinct_1 : List UInt8 := dkwX0_countDistinct_1 ++ []
def dkwX0_countDistinct_0 : List UInt8 := [25, 6, 3, 42, 27, 28, 29, 21, 4, 21, 5, 182, 0, 74, 133, 80, 167, 0, 19, 58, 7, 4, 172]
abbrev dktX0_countDistinct_0 : List UInt8 := dkwX0_countDistinct_0 ++ dktX0_countDistinct_1
theorem dksX0_countDistinct_0 : cX0_countDistinct.data.toList.drop 0 = dktX0_countDistinct_0 := by decide +kernel
theorem dksX0_countDistinct_1 : cX0_countDistinct.data.toList.drop 23 = dktX0_countDistinct_1 := dk_seg dksX0_countDistinct_0 23 rfl rfl
theorem dX0_countDistinct_0 : decode cX0_countDistinct 0 = .ok (.aload 6, 2) := dk_25 6 (dk_at dksX0_countDistinct_0 0 rfl rfl)
theorem dX0_countDistinct_2 : decode cX0_countDistinct 2 = .ok (.iconst 0, 1) := dk_3 (dk_at dksX0_countDistinct_0 2 rfl rfl)
theorem dX0_countDistinct_3 : decode cX0_countDistinct 3 = .ok (.aload_n 0, 1) := dk_42 (dk_at dksX0_countDistinct_0 3 rfl rfl)
theorem dX0_countDistinct_4 : decode cX0_countDistinct 4 = .ok (.iload_n 1, 1) := dk_27 (dk_at dksX0_countDistinct_0 4 rfl rfl)
theorem dX0_countDistinct_5 : decode cX0_countDistinct 5 = .ok (.iload_n 2, 1) := dk_28 (dk_at dksX0_countDistinct_0 5 rfl rfl)
theorem dX0_countDistinct_6 : decode cX0_countDistinct 6 = .ok (.iload_n 3, 1) := dk_29 (dk_at dksX0_countDistinct_0 6 rfl rfl)
theorem dX0_countDistinct_7 : decode cX0_countDistinct 7 = .ok (.iload 4, 2) := dk_21 4 (dk_at dksX0_countDistinct_0 7 rfl rfl)
theorem dX0_countDistinct_9 : decode cX0_countDistinct 9 = .ok (.iload 5, 2) := dk_21 5 (dk_at dksX0_countDistinct_0 9 rfl rfl)
theorem dX0_countDistinct_11 : decode cX0_countDistinct 11 = .ok (.invokevirtual 74, 3) := dk_182 0 74 (dk_at dksX0_countDistinct_0 11 rfl rfl)
theorem dX0_countDistinct_14 : decode cX0_countDistinct 14 = .ok (.i2l, 1) := dk_133 (dk_at dksX0_countDistinct_0 14 rfl rfl)
theorem dX0_countDistinct_15 : decode cX0_countDistinct 15 = .ok (.lastore, 1) := dk_80 (dk_at dksX0_countDistinct_0 15 rfl rfl)
theorem dX0_countDistinct_16 : decode cX0_countDistinct 16 = .ok (.goto 19, 3) := dk_167 0 19 (dk_at dksX0_countDistinct_0 16 rfl rfl)
theorem dX0_countDistinct_19 : decode cX0_countDistinct 19 = .ok (.astore 7, 2) := dk_58 7 (dk_at dksX0_countDistinct_0 19 rfl rfl)
theorem dX0_countDistinct_21 : decode cX0_countDistinct 21 = .ok (.iconst 1, 1) := dk_4 (dk_at dksX0_countDistinct_0 21 rfl rfl)
theorem dX0_countDistinct_22 : decode cX0_countDistinct 22 = .ok (.ireturn, 1) := dk_172 (dk_at dksX0_countDistinct_0 22 rfl rfl)
theorem dX0_countDistinct_23 : decode cX0_countDistinct 23 = .ok (.astore 7, 2) := dk_58 7 (dk_at dksX0_countDistinct_1 0 rfl rfl)
theorem dX0_countDistinct_25 : decode cX0_countDistinct 25 = .ok (.iconst 2, 1) := dk_5 (dk_at dksX0_countDistinct_1 2 rfl rfl)
theorem dX0_countDistinct_26 : decode cX0_countDistinct 26 = .ok (.ireturn, 1) := dk_172 (dk_at dksX0_countDistinct_1 3 rfl rfl)
theorem dX0_countDistinct_27 : decode cX0_countDistinct 27 = .ok (.astore 7, 2) := dk_58 7 (dk_at dksX0_countDistinct_1 4 rfl rfl)
theorem dX0_countDistinct_29 : decode cX0_countDistinct 29 = .ok (.iconst 3, 1) := dk_6 (dk_at dksX0_countDistinct_1 6 rfl rfl)
theorem dX0_countDistinct_30 : decode cX0_countDistinct 30 = .ok (.ireturn, 1) := dk_172 (dk_at dksX0_countDistinct_1 7 rfl rfl)
theorem dX0_countDistinct_31 : decode cX0_countDistinct 31 = .ok (.astore 7, 2) := dk_58 7 (dk_at dksX0_countDistinct_1 8 rfl rfl)
theorem dX0_countDistinct_33 : decode cX0_countDistinct 33 = .ok (.iconst 4, 1) := dk_7 (dk_at dksX0_countDistinct_1 10 rfl rfl)
theorem dX0_countDistinct_34 : decode cX0_countDistinct 34 = .ok (.ireturn, 1) := dk_172 (dk_at dksX0_countDistinct_1 11 rfl rfl)
theorem dX0_countDistinct_35 : decode cX0_countDistinct 35 = .ok (.iconst 0, 1) := dk_3 (dk_at dksX0_countDistinct_1 12 rfl rfl)
theorem dX0_countDistinct_36 : decode cX0_countDistinct 36 = .ok (.ireturn, 1) := dk_172 (dk_at dksX0_countDistinct_1 13 rfl rfl)
abbrev cX0_countAll : ByteArray := method_21_code
def yX0_countAll : MethodName := ⟨RX0, "countAll", "(LSturmRoots;IIIII[J)I"⟩
def dkwX0_countAll_1 : List UInt8 := [58, 7, 5, 172, 58, 7, 6, 172, 58, 7, 7, 172, 3, 172]
abbrev dktX0_countAll_1 : List UInt8 := dkwX0_countAll_1 ++ []
def dkwX0_countAll_0 : List UInt8 := [25, 6, 3, 42, 27, 28, 29, 21, 4, 21, 5, 182, 0, 78, 133, 80, 167, 0, 19, 58, 7, 4, 172]
abbrev dktX0_countAll_0 : List UInt8 := dkwX0_countAll_0 ++ dktX0_countAll_1
theorem dksX0_countAll_0 : cX0_countAll.data.toList.drop 0 = dktX0_countAll_0 := by decide +kernel
theorem dksX0_countAll_1 : cX0_countAll.data.toList.drop 23 = dktX0_countAll_1 := dk_seg dksX0_countAll_0 23 rfl rfl
theorem dX0_countAll_0 : decode cX0_countAll 0 = .ok (.aload 6, 2) := dk_25 6 (dk_at dksX0_countAll_0 0 rfl rfl)
theorem dX0_countAll_2 : decode cX0_countAll 2 = .ok (.iconst 0, 1) := dk_3 (dk_at dksX0_countAll_0 2 rfl rfl)
theorem dX0_countAll_3 : decode cX0_countAll 3 = .ok (.aload_n 0, 1) := dk_42 (dk_at dksX0_countAll_0 3 rfl rfl)
theorem dX0_countAll_4 : decode cX0_countAll 4 = .ok (.iload_n 1, 1) := dk_27 (dk_at dksX0_countAll_0 4 rfl rfl)
theorem dX0_countAll_5 : decode cX0_countAll 5 = .ok (.iload_n 2, 1) := dk_28 (dk_at dksX0_countAll_0 5 rfl rfl)
theorem dX0_countAll_6 : decode cX0_countAll 6 = .ok (.iload_n 3, 1) := dk_29 (dk_at dksX0_countAll_0 6 rfl rfl)
theorem dX0_countAll_7 : decode cX0_countAll 7 = .ok (.iload 4, 2) := dk_21 4 (dk_at dksX0_countAll_0 7 rfl rfl)
theorem dX0_countAll_9 : decode cX0_countAll 9 = .ok (.iload 5, 2) := dk_21 5 (dk_at dksX0_countAll_0 9 rfl rfl)
theorem dX0_countAll_11 : decode cX0_countAll 11 = .ok (.invokevirtual 78, 3) := dk_182 0 78 (dk_at dksX0_countAll_0 11 rfl rfl)
theorem dX0_countAll_14 : decode cX0_countAll 14 = .ok (.i2l, 1) := dk_133 (dk_at dksX0_countAll_0 14 rfl rfl)
theorem dX0_countAll_15 : decode cX0_countAll 15 = .ok (.lastore, 1) := dk_80 (dk_at dksX0_countAll_0 15 rfl rfl)
theorem dX0_countAll_16 : decode cX0_countAll 16 = .ok (.goto 19, 3) := dk_167 0 19 (dk_at dksX0_countAll_0 16 rfl rfl)
theorem dX0_countAll_19 : decode cX0_countAll 19 = .ok (.astore 7, 2) := dk_58 7 (dk_at dksX0_countAll_0 19 rfl rfl)
theorem dX0_countAll_21 : decode cX0_countAll 21 = .ok (.iconst 1, 1) := dk_4 (dk_at dksX0_countAll_0 21 rfl rfl)
theorem dX0_countAll_22 : decode cX0_countAll 22 = .ok (.ireturn, 1) := dk_172 (dk_at dksX0_countAll_0 22 rfl rfl)
theorem dX0_countAll_23 : decode cX0_countAll 23 = .ok (.astore 7, 2) := dk_58 7 (dk_at dksX0_countAll_1 0 rfl rfl)
theorem dX0_countAll_25 : decode cX0_countAll 25 = .ok (.iconst 2, 1) := dk_5 (dk_at dksX0_countAll_1 2 rfl rfl)
theorem dX0_countAll_26 : decode cX0_countAll 26 = .ok (.ireturn, 1) := dk_172 (dk_at dksX0_countAll_1 3 rfl rfl)
theorem dX0_countAll_27 : decode cX0_countAll 27 = .ok (.astore 7, 2) := dk_58 7 (dk_at dksX0_countAll_1 4 rfl rfl)
theorem dX0_countAll_29 : decode cX0_countAll 29 = .ok (.iconst 3, 1) := dk_6 (dk_at dksX0_countAll_1 6 rfl rfl)
theorem dX0_countAll_30 : decode cX0_countAll 30 = .ok (.ireturn, 1) := dk_172 (dk_at dksX0_countAll_1 7 rfl rfl)
theorem dX0_countAll_31 : decode cX0_countAll 31 = .ok (.astore 7, 2) := dk_58 7 (dk_at dksX0_countAll_1 8 rfl rfl)
theorem dX0_countAll_33 : decode cX0_countAll 33 = .ok (.iconst 4, 1) := dk_7 (dk_at dksX0_countAll_1 10 rfl rfl)
theorem dX0_countAll_34 : decode cX0_countAll 34 = .ok (.ireturn, 1) := dk_172 (dk_at dksX0_countAll_1 11 rfl rfl)
theorem dX0_countAll_35 : decode cX0_countAll 35 = .ok (.iconst 0, 1) := dk_3 (dk_at dksX0_countAll_1 12 rfl rfl)
theorem dX0_countAll_36 : decode cX0_countAll 36 = .ok (.ireturn, 1) := dk_172 (dk_at dksX0_countAll_1 13 rfl rfl)
abbrev cX0_distinctRoots : ByteArray := method_22_code
def yX0_distinctRoots : MethodName := ⟨RX0, "distinctRoots", "(LSturmRoots;I[J)I"⟩
def dkwX0_distinctRoots_0 : List UInt8 := [44, 3, 42, 27, 182, 0, 81, 133, 80, 167, 0, 9, 78, 4, 172, 78, 5, 172, 3, 172]
abbrev dktX0_distinctRoots_0 : List UInt8 := dkwX0_distinctRoots_0 ++ []
theorem dksX0_distinctRoots_0 : cX0_distinctRoots.data.toList.drop 0 = dktX0_distinctRoots_0 := by decide +kernel
theorem dX0_distinctRoots_0 : decode cX0_distinctRoots 0 = .ok (.aload_n 2, 1) := dk_44 (dk_at dksX0_distinctRoots_0 0 rfl rfl)
theorem dX0_distinctRoots_1 : decode cX0_distinctRoots 1 = .ok (.iconst 0, 1) := dk_3 (dk_at dksX0_distinctRoots_0 1 rfl rfl)
theorem dX0_distinctRoots_2 : decode cX0_distinctRoots 2 = .ok (.aload_n 0, 1) := dk_42 (dk_at dksX0_distinctRoots_0 2 rfl rfl)
theorem dX0_distinctRoots_3 : decode cX0_distinctRoots 3 = .ok (.iload_n 1, 1) := dk_27 (dk_at dksX0_distinctRoots_0 3 rfl rfl)
theorem dX0_distinctRoots_4 : decode cX0_distinctRoots 4 = .ok (.invokevirtual 81, 3) := dk_182 0 81 (dk_at dksX0_distinctRoots_0 4 rfl rfl)
theorem dX0_distinctRoots_7 : decode cX0_distinctRoots 7 = .ok (.i2l, 1) := dk_133 (dk_at dksX0_distinctRoots_0 7 rfl rfl)
theorem dX0_distinctRoots_8 : decode cX0_distinctRoots 8 = .ok (.lastore, 1) := dk_80 (dk_at dksX0_distinctRoots_0 8 rfl rfl)
theorem dX0_distinctRoots_9 : decode cX0_distinctRoots 9 = .ok (.goto 9, 3) := dk_167 0 9 (dk_at dksX0_distinctRoots_0 9 rfl rfl)
theorem dX0_distinctRoots_12 : decode cX0_distinctRoots 12 = .ok (.astore_n 3, 1) := dk_78 (dk_at dksX0_distinctRoots_0 12 rfl rfl)
theorem dX0_distinctRoots_13 : decode cX0_distinctRoots 13 = .ok (.iconst 1, 1) := dk_4 (dk_at dksX0_distinctRoots_0 13 rfl rfl)
theorem dX0_distinctRoots_14 : decode cX0_distinctRoots 14 = .ok (.ireturn, 1) := dk_172 (dk_at dksX0_distinctRoots_0 14 rfl rfl)
theorem dX0_distinctRoots_15 : decode cX0_distinctRoots 15 = .ok (.astore_n 3, 1) := dk_78 (dk_at dksX0_distinctRoots_0 15 rfl rfl)
theorem dX0_distinctRoots_16 : decode cX0_distinctRoots 16 = .ok (.iconst 2, 1) := dk_5 (dk_at dksX0_distinctRoots_0 16 rfl rfl)
theorem dX0_distinctRoots_17 : decode cX0_distinctRoots 17 = .ok (.ireturn, 1) := dk_172 (dk_at dksX0_distinctRoots_0 17 rfl rfl)
theorem dX0_distinctRoots_18 : decode cX0_distinctRoots 18 = .ok (.iconst 0, 1) := dk_3 (dk_at dksX0_distinctRoots_0 18 rfl rfl)
theorem dX0_distinctRoots_19 : decode cX0_distinctRoots 19 = .ok (.ireturn, 1) := dk_172 (dk_at dksX0_distinctRoots_0 19 rfl rfl)
abbrev cX0_coefficientSignChanges : ByteArray := method_23_code
def yX0_coefficientSignChanges : MethodName := ⟨RX0, "coefficientSignChanges", "(LSturmRoots;I[J)I"⟩
def dkwX0_coefficientSignChanges_0 : List UInt8 := [44, 3, 42, 27, 182, 0, 84, 133, 80, 167, 0, 6, 78, 4, 172, 3, 172]
abbrev dktX0_coefficientSignChanges_0 : List UInt8 := dkwX0_coefficientSignChanges_0 ++ []
theorem dksX0_coefficientSignChanges_0 : cX0_coefficientSignChanges.data.toList.drop 0 = dktX0_coefficientSignChanges_0 := by decide +kernel
theorem dX0_coefficientSignChanges_0 : decode cX0_coefficientSignChanges 0 = .ok (.aload_n 2, 1) := dk_44 (dk_at dksX0_coefficientSignChanges_0 0 rfl rfl)
theorem dX0_coefficientSignChanges_1 : decode cX0_coefficientSignChanges 1 = .ok (.iconst 0, 1) := dk_3 (dk_at dksX0_coefficientSignChanges_0 1 rfl rfl)
theorem dX0_coefficientSignChanges_2 : decode cX0_coefficientSignChanges 2 = .ok (.aload_n 0, 1) := dk_42 (dk_at dksX0_coefficientSignChanges_0 2 rfl rfl)
theorem dX0_coefficientSignChanges_3 : decode cX0_coefficientSignChanges 3 = .ok (.iload_n 1, 1) := dk_27 (dk_at dksX0_coefficientSignChanges_0 3 rfl rfl)
theorem dX0_coefficientSignChanges_4 : decode cX0_coefficientSignChanges 4 = .ok (.invokevirtual 84, 3) := dk_182 0 84 (dk_at dksX0_coefficientSignChanges_0 4 rfl rfl)
theorem dX0_coefficientSignChanges_7 : decode cX0_coefficientSignChanges 7 = .ok (.i2l, 1) := dk_133 (dk_at dksX0_coefficientSignChanges_0 7 rfl rfl)
theorem dX0_coefficientSignChanges_8 : decode cX0_coefficientSignChanges 8 = .ok (.lastore, 1) := dk_80 (dk_at dksX0_coefficientSignChanges_0 8 rfl rfl)
theorem dX0_coefficientSignChanges_9 : decode cX0_coefficientSignChanges 9 = .ok (.goto 6, 3) := dk_167 0 6 (dk_at dksX0_coefficientSignChanges_0 9 rfl rfl)
theorem dX0_coefficientSignChanges_12 : decode cX0_coefficientSignChanges 12 = .ok (.astore_n 3, 1) := dk_78 (dk_at dksX0_coefficientSignChanges_0 12 rfl rfl)
theorem dX0_coefficientSignChanges_13 : decode cX0_coefficientSignChanges 13 = .ok (.iconst 1, 1) := dk_4 (dk_at dksX0_coefficientSignChanges_0 13 rfl rfl)
theorem dX0_coefficientSignChanges_14 : decode cX0_coefficientSignChanges 14 = .ok (.ireturn, 1) := dk_172 (dk_at dksX0_coefficientSignChanges_0 14 rfl rfl)
theorem dX0_coefficientSignChanges_15 : decode cX0_coefficientSignChanges 15 = .ok (.iconst 0, 1) := dk_3 (dk_at dksX0_coefficientSignChanges_0 15 rfl rfl)
theorem dX0_coefficientSignChanges_16 : decode cX0_coefficientSignChanges 16 = .ok (.ireturn, 1) := dk_172 (dk_at dksX0_coefficientSignChanges_0 16 rfl rfl)
abbrev cX0_isolate : ByteArray := method_24_code
def yX0_isolate : MethodName := ⟨RX0, "isolate", "(LSturmRoots;I[J)I"⟩
def dkwX0_isolate_0 : List UInt8 := [44, 3, 42, 27, 182, 0, 87, 133, 80, 167, 0, 9, 78, 4, 172, 78, 5, 172, 3, 172]
abbrev dktX0_isolate_0 : List UInt8 := dkwX0_isolate_0 ++ []
theorem dksX0_isolate_0 : cX0_isolate.data.toList.drop 0 = dktX0_isolate_0 := by decide +kernel
theorem dX0_isolate_0 : decode cX0_isolate 0 = .ok (.aload_n 2, 1) := dk_44 (dk_at dksX0_isolate_0 0 rfl rfl)
theorem dX0_isolate_1 : decode cX0_isolate 1 = .ok (.iconst 0, 1) := dk_3 (dk_at dksX0_isolate_0 1 rfl rfl)
theorem dX0_isolate_2 : decode cX0_isolate 2 = .ok (.aload_n 0, 1) := dk_42 (dk_at dksX0_isolate_0 2 rfl rfl)
theorem dX0_isolate_3 : decode cX0_isolate 3 = .ok (.iload_n 1, 1) := dk_27 (dk_at dksX0_isolate_0 3 rfl rfl)
theorem dX0_isolate_4 : decode cX0_isolate 4 = .ok (.invokevirtual 87, 3) := dk_182 0 87 (dk_at dksX0_isolate_0 4 rfl rfl)
theorem dX0_isolate_7 : decode cX0_isolate 7 = .ok (.i2l, 1) := dk_133 (dk_at dksX0_isolate_0 7 rfl rfl)
theorem dX0_isolate_8 : decode cX0_isolate 8 = .ok (.lastore, 1) := dk_80 (dk_at dksX0_isolate_0 8 rfl rfl)
theorem dX0_isolate_9 : decode cX0_isolate 9 = .ok (.goto 9, 3) := dk_167 0 9 (dk_at dksX0_isolate_0 9 rfl rfl)
theorem dX0_isolate_12 : decode cX0_isolate 12 = .ok (.astore_n 3, 1) := dk_78 (dk_at dksX0_isolate_0 12 rfl rfl)
theorem dX0_isolate_13 : decode cX0_isolate 13 = .ok (.iconst 1, 1) := dk_4 (dk_at dksX0_isolate_0 13 rfl rfl)
theorem dX0_isolate_14 : decode cX0_isolate 14 = .ok (.ireturn, 1) := dk_172 (dk_at dksX0_isolate_0 14 rfl rfl)
theorem dX0_isolate_15 : decode cX0_isolate 15 = .ok (.astore_n 3, 1) := dk_78 (dk_at dksX0_isolate_0 15 rfl rfl)
theorem dX0_isolate_16 : decode cX0_isolate 16 = .ok (.iconst 2, 1) := dk_5 (dk_at dksX0_isolate_0 16 rfl rfl)
theorem dX0_isolate_17 : decode cX0_isolate 17 = .ok (.ireturn, 1) := dk_172 (dk_at dksX0_isolate_0 17 rfl rfl)
theorem dX0_isolate_18 : decode cX0_isolate 18 = .ok (.iconst 0, 1) := dk_3 (dk_at dksX0_isolate_0 18 rfl rfl)
theorem dX0_isolate_19 : decode cX0_isolate 19 = .ok (.ireturn, 1) := dk_172 (dk_at dksX0_isolate_0 19 rfl rfl)
abbrev cX0_rootsIn : ByteArray := method_25_code
def yX0_rootsIn : MethodName := ⟨RX0, "rootsIn", "(LSturmRoots;I[J)I"⟩
def dkwX0_rootsIn_0 : List UInt8 := [44, 3, 42, 27, 182, 0, 90, 133, 80, 167, 0, 6, 78, 4, 172, 3, 172]
abbrev dktX0_rootsIn_0 : List UInt8 := dkwX0_rootsIn_0 ++ []
theorem dksX0_rootsIn_0 : cX0_rootsIn.data.toList.drop 0 = dktX0_rootsIn_0 := by decide +kernel
theorem dX0_rootsIn_0 : decode cX0_rootsIn 0 = .ok (.aload_n 2, 1) := dk_44 (dk_at dksX0_rootsIn_0 0 rfl rfl)
theorem dX0_rootsIn_1 : decode cX0_rootsIn 1 = .ok (.iconst 0, 1) := dk_3 (dk_at dksX0_rootsIn_0 1 rfl rfl)
theorem dX0_rootsIn_2 : decode cX0_rootsIn 2 = .ok (.aload_n 0, 1) := dk_42 (dk_at dksX0_rootsIn_0 2 rfl rfl)
theorem dX0_rootsIn_3 : decode cX0_rootsIn 3 = .ok (.iload_n 1, 1) := dk_27 (dk_at dksX0_rootsIn_0 3 rfl rfl)
theorem dX0_rootsIn_4 : decode cX0_rootsIn 4 = .ok (.invokevirtual 90, 3) := dk_182 0 90 (dk_at dksX0_rootsIn_0 4 rfl rfl)
theorem dX0_rootsIn_7 : decode cX0_rootsIn 7 = .ok (.i2l, 1) := dk_133 (dk_at dksX0_rootsIn_0 7 rfl rfl)
theorem dX0_rootsIn_8 : decode cX0_rootsIn 8 = .ok (.lastore, 1) := dk_80 (dk_at dksX0_rootsIn_0 8 rfl rfl)
theorem dX0_rootsIn_9 : decode cX0_rootsIn 9 = .ok (.goto 6, 3) := dk_167 0 6 (dk_at dksX0_rootsIn_0 9 rfl rfl)
theorem dX0_rootsIn_12 : decode cX0_rootsIn 12 = .ok (.astore_n 3, 1) := dk_78 (dk_at dksX0_rootsIn_0 12 rfl rfl)
theorem dX0_rootsIn_13 : decode cX0_rootsIn 13 = .ok (.iconst 1, 1) := dk_4 (dk_at dksX0_rootsIn_0 13 rfl rfl)
theorem dX0_rootsIn_14 : decode cX0_rootsIn 14 = .ok (.ireturn, 1) := dk_172 (dk_at dksX0_rootsIn_0 14 rfl rfl)
theorem dX0_rootsIn_15 : decode cX0_rootsIn 15 = .ok (.iconst 0, 1) := dk_3 (dk_at dksX0_rootsIn_0 15 rfl rfl)
theorem dX0_rootsIn_16 : decode cX0_rootsIn 16 = .ok (.ireturn, 1) := dk_172 (dk_at dksX0_rootsIn_0 16 rfl rfl)
abbrev cX0_interval : ByteArray := method_26_code
def yX0_interval : MethodName := ⟨RX0, "interval", "(LSturmRoots;IC[J)I"⟩
def dkwX0_interval_0 : List UInt8 := [45, 3, 42, 27, 28, 182, 0, 93, 133, 80, 167, 0, 11, 58, 4, 4, 172, 58, 4, 5, 172, 3, 172]
abbrev dktX0_interval_0 : List UInt8 := dkwX0_interval_0 ++ []
theorem dksX0_interval_0 : cX0_interval.data.toList.drop 0 = dktX0_interval_0 := by decide +kernel
theorem dX0_interval_0 : decode cX0_interval 0 = .ok (.aload_n 3, 1) := dk_45 (dk_at dksX0_interval_0 0 rfl rfl)
theorem dX0_interval_1 : decode cX0_interval 1 = .ok (.iconst 0, 1) := dk_3 (dk_at dksX0_interval_0 1 rfl rfl)
theorem dX0_interval_2 : decode cX0_interval 2 = .ok (.aload_n 0, 1) := dk_42 (dk_at dksX0_interval_0 2 rfl rfl)
theorem dX0_interval_3 : decode cX0_interval 3 = .ok (.iload_n 1, 1) := dk_27 (dk_at dksX0_interval_0 3 rfl rfl)
theorem dX0_interval_4 : decode cX0_interval 4 = .ok (.iload_n 2, 1) := dk_28 (dk_at dksX0_interval_0 4 rfl rfl)
theorem dX0_interval_5 : decode cX0_interval 5 = .ok (.invokevirtual 93, 3) := dk_182 0 93 (dk_at dksX0_interval_0 5 rfl rfl)
theorem dX0_interval_8 : decode cX0_interval 8 = .ok (.i2l, 1) := dk_133 (dk_at dksX0_interval_0 8 rfl rfl)
theorem dX0_interval_9 : decode cX0_interval 9 = .ok (.lastore, 1) := dk_80 (dk_at dksX0_interval_0 9 rfl rfl)
theorem dX0_interval_10 : decode cX0_interval 10 = .ok (.goto 11, 3) := dk_167 0 11 (dk_at dksX0_interval_0 10 rfl rfl)
theorem dX0_interval_13 : decode cX0_interval 13 = .ok (.astore 4, 2) := dk_58 4 (dk_at dksX0_interval_0 13 rfl rfl)
theorem dX0_interval_15 : decode cX0_interval 15 = .ok (.iconst 1, 1) := dk_4 (dk_at dksX0_interval_0 15 rfl rfl)
theorem dX0_interval_16 : decode cX0_interval 16 = .ok (.ireturn, 1) := dk_172 (dk_at dksX0_interval_0 16 rfl rfl)
theorem dX0_interval_17 : decode cX0_interval 17 = .ok (.astore 4, 2) := dk_58 4 (dk_at dksX0_interval_0 17 rfl rfl)
theorem dX0_interval_19 : decode cX0_interval 19 = .ok (.iconst 2, 1) := dk_5 (dk_at dksX0_interval_0 19 rfl rfl)
theorem dX0_interval_20 : decode cX0_interval 20 = .ok (.ireturn, 1) := dk_172 (dk_at dksX0_interval_0 20 rfl rfl)
theorem dX0_interval_21 : decode cX0_interval 21 = .ok (.iconst 0, 1) := dk_3 (dk_at dksX0_interval_0 21 rfl rfl)
theorem dX0_interval_22 : decode cX0_interval 22 = .ok (.ireturn, 1) := dk_172 (dk_at dksX0_interval_0 22 rfl rfl)
abbrev cX0_bisect : ByteArray := method_27_code
def yX0_bisect : MethodName := ⟨RX0, "bisect", "(LSturmRoots;I[J)I"⟩
def dkwX0_bisect_0 : List UInt8 := [44, 3, 42, 27, 182, 0, 97, 133, 80, 167, 0, 9, 78, 4, 172, 78, 5, 172, 3, 172]
abbrev dktX0_bisect_0 : List UInt8 := dkwX0_bisect_0 ++ []
theorem dksX0_bisect_0 : cX0_bisect.data.toList.drop 0 = dktX0_bisect_0 := by decide +kernel
theorem dX0_bisect_0 : decode cX0_bisect 0 = .ok (.aload_n 2, 1) := dk_44 (dk_at dksX0_bisect_0 0 rfl rfl)
theorem dX0_bisect_1 : decode cX0_bisect 1 = .ok (.iconst 0, 1) := dk_3 (dk_at dksX0_bisect_0 1 rfl rfl)
theorem dX0_bisect_2 : decode cX0_bisect 2 = .ok (.aload_n 0, 1) := dk_42 (dk_at dksX0_bisect_0 2 rfl rfl)
theorem dX0_bisect_3 : decode cX0_bisect 3 = .ok (.iload_n 1, 1) := dk_27 (dk_at dksX0_bisect_0 3 rfl rfl)
theorem dX0_bisect_4 : decode cX0_bisect 4 = .ok (.invokevirtual 97, 3) := dk_182 0 97 (dk_at dksX0_bisect_0 4 rfl rfl)
theorem dX0_bisect_7 : decode cX0_bisect 7 = .ok (.i2l, 1) := dk_133 (dk_at dksX0_bisect_0 7 rfl rfl)
theorem dX0_bisect_8 : decode cX0_bisect 8 = .ok (.lastore, 1) := dk_80 (dk_at dksX0_bisect_0 8 rfl rfl)
theorem dX0_bisect_9 : decode cX0_bisect 9 = .ok (.goto 9, 3) := dk_167 0 9 (dk_at dksX0_bisect_0 9 rfl rfl)
theorem dX0_bisect_12 : decode cX0_bisect 12 = .ok (.astore_n 3, 1) := dk_78 (dk_at dksX0_bisect_0 12 rfl rfl)
theorem dX0_bisect_13 : decode cX0_bisect 13 = .ok (.iconst 1, 1) := dk_4 (dk_at dksX0_bisect_0 13 rfl rfl)
theorem dX0_bisect_14 : decode cX0_bisect 14 = .ok (.ireturn, 1) := dk_172 (dk_at dksX0_bisect_0 14 rfl rfl)
theorem dX0_bisect_15 : decode cX0_bisect 15 = .ok (.astore_n 3, 1) := dk_78 (dk_at dksX0_bisect_0 15 rfl rfl)
theorem dX0_bisect_16 : decode cX0_bisect 16 = .ok (.iconst 2, 1) := dk_5 (dk_at dksX0_bisect_0 16 rfl rfl)
theorem dX0_bisect_17 : decode cX0_bisect 17 = .ok (.ireturn, 1) := dk_172 (dk_at dksX0_bisect_0 17 rfl rfl)
theorem dX0_bisect_18 : decode cX0_bisect 18 = .ok (.iconst 0, 1) := dk_3 (dk_at dksX0_bisect_0 18 rfl rfl)
theorem dX0_bisect_19 : decode cX0_bisect 19 = .ok (.ireturn, 1) := dk_172 (dk_at dksX0_bisect_0 19 rfl rfl)
abbrev cX0_refine : ByteArray := method_28_code
def yX0_refine : MethodName := ⟨RX0, "refine", "(LSturmRoots;II[J)I"⟩
def dkwX0_refine_1 : List UInt8 := [172, 3, 172]
abbrev dktX0_refine_1 : List UInt8 := dkwX0_refine_1 ++ []
def dkwX0_refine_0 : List UInt8 := [45, 3, 42, 27, 28, 182, 0, 100, 133, 80, 167, 0, 15, 58, 4, 4, 172, 58, 4, 5, 172, 58, 4, 6]
abbrev dktX0_refine_0 : List UInt8 := dkwX0_refine_0 ++ dktX0_refine_1
theorem dksX0_refine_0 : cX0_refine.data.toList.drop 0 = dktX0_refine_0 := by decide +kernel
theorem dksX0_refine_1 : cX0_refine.data.toList.drop 24 = dktX0_refine_1 := dk_seg dksX0_refine_0 24 rfl rfl
theorem dX0_refine_0 : decode cX0_refine 0 = .ok (.aload_n 3, 1) := dk_45 (dk_at dksX0_refine_0 0 rfl rfl)
theorem dX0_refine_1 : decode cX0_refine 1 = .ok (.iconst 0, 1) := dk_3 (dk_at dksX0_refine_0 1 rfl rfl)
theorem dX0_refine_2 : decode cX0_refine 2 = .ok (.aload_n 0, 1) := dk_42 (dk_at dksX0_refine_0 2 rfl rfl)
theorem dX0_refine_3 : decode cX0_refine 3 = .ok (.iload_n 1, 1) := dk_27 (dk_at dksX0_refine_0 3 rfl rfl)
theorem dX0_refine_4 : decode cX0_refine 4 = .ok (.iload_n 2, 1) := dk_28 (dk_at dksX0_refine_0 4 rfl rfl)
theorem dX0_refine_5 : decode cX0_refine 5 = .ok (.invokevirtual 100, 3) := dk_182 0 100 (dk_at dksX0_refine_0 5 rfl rfl)
theorem dX0_refine_8 : decode cX0_refine 8 = .ok (.i2l, 1) := dk_133 (dk_at dksX0_refine_0 8 rfl rfl)
theorem dX0_refine_9 : decode cX0_refine 9 = .ok (.lastore, 1) := dk_80 (dk_at dksX0_refine_0 9 rfl rfl)
theorem dX0_refine_10 : decode cX0_refine 10 = .ok (.goto 15, 3) := dk_167 0 15 (dk_at dksX0_refine_0 10 rfl rfl)
theorem dX0_refine_13 : decode cX0_refine 13 = .ok (.astore 4, 2) := dk_58 4 (dk_at dksX0_refine_0 13 rfl rfl)
theorem dX0_refine_15 : decode cX0_refine 15 = .ok (.iconst 1, 1) := dk_4 (dk_at dksX0_refine_0 15 rfl rfl)
theorem dX0_refine_16 : decode cX0_refine 16 = .ok (.ireturn, 1) := dk_172 (dk_at dksX0_refine_0 16 rfl rfl)
theorem dX0_refine_17 : decode cX0_refine 17 = .ok (.astore 4, 2) := dk_58 4 (dk_at dksX0_refine_0 17 rfl rfl)
theorem dX0_refine_19 : decode cX0_refine 19 = .ok (.iconst 2, 1) := dk_5 (dk_at dksX0_refine_0 19 rfl rfl)
theorem dX0_refine_20 : decode cX0_refine 20 = .ok (.ireturn, 1) := dk_172 (dk_at dksX0_refine_0 20 rfl rfl)
theorem dX0_refine_21 : decode cX0_refine 21 = .ok (.astore 4, 2) := dk_58 4 (dk_at dksX0_refine_0 21 rfl rfl)
theorem dX0_refine_23 : decode cX0_refine 23 = .ok (.iconst 3, 1) := dk_6 (dk_at dksX0_refine_0 23 rfl rfl)
theorem dX0_refine_24 : decode cX0_refine 24 = .ok (.ireturn, 1) := dk_172 (dk_at dksX0_refine_1 0 rfl rfl)
theorem dX0_refine_25 : decode cX0_refine 25 = .ok (.iconst 0, 1) := dk_3 (dk_at dksX0_refine_1 1 rfl rfl)
theorem dX0_refine_26 : decode cX0_refine 26 = .ok (.ireturn, 1) := dk_172 (dk_at dksX0_refine_1 2 rfl rfl)
abbrev cX0_multiplicity : ByteArray := method_29_code
def yX0_multiplicity : MethodName := ⟨RX0, "multiplicity", "(LSturmRoots;I[J)I"⟩
def dkwX0_multiplicity_0 : List UInt8 := [44, 3, 42, 27, 182, 0, 103, 133, 80, 167, 0, 9, 78, 4, 172, 78, 5, 172, 3, 172]
abbrev dktX0_multiplicity_0 : List UInt8 := dkwX0_multiplicity_0 ++ []
theorem dksX0_multiplicity_0 : cX0_multiplicity.data.toList.drop 0 = dktX0_multiplicity_0 := by decide +kernel
theorem dX0_multiplicity_0 : decode cX0_multiplicity 0 = .ok (.aload_n 2, 1) := dk_44 (dk_at dksX0_multiplicity_0 0 rfl rfl)
theorem dX0_multiplicity_1 : decode cX0_multiplicity 1 = .ok (.iconst 0, 1) := dk_3 (dk_at dksX0_multiplicity_0 1 rfl rfl)
theorem dX0_multiplicity_2 : decode cX0_multiplicity 2 = .ok (.aload_n 0, 1) := dk_42 (dk_at dksX0_multiplicity_0 2 rfl rfl)
theorem dX0_multiplicity_3 : decode cX0_multiplicity 3 = .ok (.iload_n 1, 1) := dk_27 (dk_at dksX0_multiplicity_0 3 rfl rfl)
theorem dX0_multiplicity_4 : decode cX0_multiplicity 4 = .ok (.invokevirtual 103, 3) := dk_182 0 103 (dk_at dksX0_multiplicity_0 4 rfl rfl)
theorem dX0_multiplicity_7 : decode cX0_multiplicity 7 = .ok (.i2l, 1) := dk_133 (dk_at dksX0_multiplicity_0 7 rfl rfl)
theorem dX0_multiplicity_8 : decode cX0_multiplicity 8 = .ok (.lastore, 1) := dk_80 (dk_at dksX0_multiplicity_0 8 rfl rfl)
theorem dX0_multiplicity_9 : decode cX0_multiplicity 9 = .ok (.goto 9, 3) := dk_167 0 9 (dk_at dksX0_multiplicity_0 9 rfl rfl)
theorem dX0_multiplicity_12 : decode cX0_multiplicity 12 = .ok (.astore_n 3, 1) := dk_78 (dk_at dksX0_multiplicity_0 12 rfl rfl)
theorem dX0_multiplicity_13 : decode cX0_multiplicity 13 = .ok (.iconst 1, 1) := dk_4 (dk_at dksX0_multiplicity_0 13 rfl rfl)
theorem dX0_multiplicity_14 : decode cX0_multiplicity 14 = .ok (.ireturn, 1) := dk_172 (dk_at dksX0_multiplicity_0 14 rfl rfl)
theorem dX0_multiplicity_15 : decode cX0_multiplicity 15 = .ok (.astore_n 3, 1) := dk_78 (dk_at dksX0_multiplicity_0 15 rfl rfl)
theorem dX0_multiplicity_16 : decode cX0_multiplicity 16 = .ok (.iconst 2, 1) := dk_5 (dk_at dksX0_multiplicity_0 16 rfl rfl)
theorem dX0_multiplicity_17 : decode cX0_multiplicity 17 = .ok (.ireturn, 1) := dk_172 (dk_at dksX0_multiplicity_0 17 rfl rfl)
theorem dX0_multiplicity_18 : decode cX0_multiplicity 18 = .ok (.iconst 0, 1) := dk_3 (dk_at dksX0_multiplicity_0 18 rfl rfl)
theorem dX0_multiplicity_19 : decode cX0_multiplicity 19 = .ok (.ireturn, 1) := dk_172 (dk_at dksX0_multiplicity_0 19 rfl rfl)
abbrev cX0_isTrue : ByteArray := method_30_code
def yX0_isTrue : MethodName := ⟨RX0, "isTrue", "(LSturmRoots;I[J)I"⟩
def dkwX0_isTrue_0 : List UInt8 := [44, 3, 42, 27, 182, 0, 106, 153, 0, 7, 10, 167, 0, 4, 9, 80, 167, 0, 6, 78, 4, 172, 3, 172]
abbrev dktX0_isTrue_0 : List UInt8 := dkwX0_isTrue_0 ++ []
theorem dksX0_isTrue_0 : cX0_isTrue.data.toList.drop 0 = dktX0_isTrue_0 := by decide +kernel
theorem dX0_isTrue_0 : decode cX0_isTrue 0 = .ok (.aload_n 2, 1) := dk_44 (dk_at dksX0_isTrue_0 0 rfl rfl)
theorem dX0_isTrue_1 : decode cX0_isTrue 1 = .ok (.iconst 0, 1) := dk_3 (dk_at dksX0_isTrue_0 1 rfl rfl)
theorem dX0_isTrue_2 : decode cX0_isTrue 2 = .ok (.aload_n 0, 1) := dk_42 (dk_at dksX0_isTrue_0 2 rfl rfl)
theorem dX0_isTrue_3 : decode cX0_isTrue 3 = .ok (.iload_n 1, 1) := dk_27 (dk_at dksX0_isTrue_0 3 rfl rfl)
theorem dX0_isTrue_4 : decode cX0_isTrue 4 = .ok (.invokevirtual 106, 3) := dk_182 0 106 (dk_at dksX0_isTrue_0 4 rfl rfl)
theorem dX0_isTrue_7 : decode cX0_isTrue 7 = .ok (.ifCond .eq 7, 3) := dk_153 0 7 (dk_at dksX0_isTrue_0 7 rfl rfl)
theorem dX0_isTrue_10 : decode cX0_isTrue 10 = .ok (.lconst 1, 1) := dk_10 (dk_at dksX0_isTrue_0 10 rfl rfl)
theorem dX0_isTrue_11 : decode cX0_isTrue 11 = .ok (.goto 4, 3) := dk_167 0 4 (dk_at dksX0_isTrue_0 11 rfl rfl)
theorem dX0_isTrue_14 : decode cX0_isTrue 14 = .ok (.lconst 0, 1) := dk_9 (dk_at dksX0_isTrue_0 14 rfl rfl)
theorem dX0_isTrue_15 : decode cX0_isTrue 15 = .ok (.lastore, 1) := dk_80 (dk_at dksX0_isTrue_0 15 rfl rfl)
theorem dX0_isTrue_16 : decode cX0_isTrue 16 = .ok (.goto 6, 3) := dk_167 0 6 (dk_at dksX0_isTrue_0 16 rfl rfl)
theorem dX0_isTrue_19 : decode cX0_isTrue 19 = .ok (.astore_n 3, 1) := dk_78 (dk_at dksX0_isTrue_0 19 rfl rfl)
theorem dX0_isTrue_20 : decode cX0_isTrue 20 = .ok (.iconst 1, 1) := dk_4 (dk_at dksX0_isTrue_0 20 rfl rfl)
theorem dX0_isTrue_21 : decode cX0_isTrue 21 = .ok (.ireturn, 1) := dk_172 (dk_at dksX0_isTrue_0 21 rfl rfl)
theorem dX0_isTrue_22 : decode cX0_isTrue 22 = .ok (.iconst 0, 1) := dk_3 (dk_at dksX0_isTrue_0 22 rfl rfl)
theorem dX0_isTrue_23 : decode cX0_isTrue 23 = .ok (.ireturn, 1) := dk_172 (dk_at dksX0_isTrue_0 23 rfl rfl)
theorem q69 : (Jvm.Cond.initialized "SturmRootsLaw") ∈ lw_all := lw_g (lw_at lw_m1 0 rfl) rfl
theorem q105 : (Jvm.Cond.classLink "SturmRootsLaw" (8 : Nat) "SturmRoots") ∈ lw_all := lw_g (lw_at lw_m1 36 rfl) rfl
theorem q107 : (Jvm.Cond.methodLink "SturmRootsLaw" (110 : Nat) ({ cls := "SturmRoots", name := "<init>", desc := "()V" } : Jvm.MethodName)) ∈ lw_all := lw_g (lw_at lw_m1 38 rfl) rfl
theorem q282 : (Jvm.Cond.methodLink "SturmRootsLaw" (190 : Nat) ({ cls := "SturmRoots", name := "intervals", desc := "()I" } : Jvm.MethodName)) ∈ lw_all := lw_g (lw_at lw_m1 213 rfl) rfl
theorem q287 : (Jvm.Cond.methodLink "SturmRootsLaw" (207 : Nat) ({ cls := "SturmRoots", name := "removeEmpty", desc := "()I" } : Jvm.MethodName)) ∈ lw_all := lw_g (lw_at lw_m1 218 rfl) rfl
theorem q461 : (Jvm.Cond.methodLink "SturmRootsLaw" (217 : Nat) ({ cls := "SturmRoots", name := "checksum", desc := "()J" } : Jvm.MethodName)) ∈ lw_all := lw_g (lw_at lw_m2 152 rfl) rfl
theorem q529 : (Jvm.Cond.methodLink "SturmRootsLaw" (114 : Nat) ({ cls := "SturmRootsLaw", name := "set", desc := "(LSturmRoots;III[J)I" } : Jvm.MethodName)) ∈ lw_all := lw_g (lw_at lw_m2 220 rfl) rfl
theorem q530 : (Jvm.Cond.static ({ cls := "SturmRootsLaw", name := "set", desc := "(LSturmRoots;III[J)I" } : Jvm.MethodName)) ∈ lw_all := lw_g (lw_at lw_m2 221 rfl) rfl
theorem q531 : (Jvm.Cond.codeWith ({ cls := "SturmRootsLaw", name := "set", desc := "(LSturmRoots;III[J)I" } : Jvm.MethodName) method_3_code (6 : Nat) (Option.some Jvm.ClassFile.FieldType.int) [((0 : Nat), (12 : Nat), (15 : Nat), (13 : Nat)), ((0 : Nat), (12 : Nat), (19 : Nat), (15 : Nat))]) ∈ lw_all := lw_g (lw_at lw_m2 222 rfl) rfl
theorem q532 : (Jvm.Cond.classLink "SturmRootsLaw" (13 : Nat) "java/lang/IndexOutOfBoundsException") ∈ lw_all := lw_g (lw_at lw_m2 223 rfl) rfl
theorem q565 : (Jvm.Cond.classLink "SturmRootsLaw" (15 : Nat) "java/lang/IllegalArgumentException") ∈ lw_all := lw_g (lw_at lw_m3 16 rfl) rfl
theorem q566 : (Jvm.Cond.methodLink "SturmRootsLaw" (7 : Nat) ({ cls := "SturmRoots", name := "set", desc := "(III)I" } : Jvm.MethodName)) ∈ lw_all := lw_g (lw_at lw_m3 17 rfl) rfl
theorem q671 : (Jvm.Cond.methodLink "SturmRootsLaw" (124 : Nat) ({ cls := "SturmRootsLaw", name := "coefficient", desc := "(LSturmRoots;II[J)I" } : Jvm.MethodName)) ∈ lw_all := lw_g (lw_at lw_m3 122 rfl) rfl
theorem q672 : (Jvm.Cond.static ({ cls := "SturmRootsLaw", name := "coefficient", desc := "(LSturmRoots;II[J)I" } : Jvm.MethodName)) ∈ lw_all := lw_g (lw_at lw_m3 123 rfl) rfl
theorem q673 : (Jvm.Cond.codeWith ({ cls := "SturmRootsLaw", name := "coefficient", desc := "(LSturmRoots;II[J)I" } : Jvm.MethodName) method_4_code (5 : Nat) (Option.some Jvm.ClassFile.FieldType.int) [((0 : Nat), (10 : Nat), (13 : Nat), (13 : Nat))]) ∈ lw_all := lw_g (lw_at lw_m3 124 rfl) rfl
theorem q674 : (Jvm.Cond.methodLink "SturmRootsLaw" (17 : Nat) ({ cls := "SturmRoots", name := "coefficient", desc := "(II)I" } : Jvm.MethodName)) ∈ lw_all := lw_g (lw_at lw_m3 125 rfl) rfl
theorem q682 : (Jvm.Cond.methodLink "SturmRootsLaw" (128 : Nat) ({ cls := "SturmRootsLaw", name := "degree", desc := "(LSturmRoots;I[J)I" } : Jvm.MethodName)) ∈ lw_all := lw_g (lw_at lw_m3 133 rfl) rfl
theorem q683 : (Jvm.Cond.static ({ cls := "SturmRootsLaw", name := "degree", desc := "(LSturmRoots;I[J)I" } : Jvm.MethodName)) ∈ lw_all := lw_g (lw_at lw_m3 134 rfl) rfl
theorem q684 : (Jvm.Cond.codeWith ({ cls := "SturmRootsLaw", name := "degree", desc := "(LSturmRoots;I[J)I" } : Jvm.MethodName) method_5_code (4 : Nat) (Option.some Jvm.ClassFile.FieldType.int) [((0 : Nat), (9 : Nat), (12 : Nat), (13 : Nat))]) ∈ lw_all := lw_g (lw_at lw_m3 135 rfl) rfl
theorem q685 : (Jvm.Cond.methodLink "SturmRootsLaw" (21 : Nat) ({ cls := "SturmRoots", name := "degree", desc := "(I)I" } : Jvm.MethodName)) ∈ lw_all := lw_g (lw_at lw_m3 136 rfl) rfl
theorem q689 : (Jvm.Cond.methodLink "SturmRootsLaw" (132 : Nat) ({ cls := "SturmRootsLaw", name := "copy", desc := "(LSturmRoots;II[J)I" } : Jvm.MethodName)) ∈ lw_all := lw_g (lw_at lw_m3 140 rfl) rfl
theorem q690 : (Jvm.Cond.static ({ cls := "SturmRootsLaw", name := "copy", desc := "(LSturmRoots;II[J)I" } : Jvm.MethodName)) ∈ lw_all := lw_g (lw_at lw_m3 141 rfl) rfl
theorem q691 : (Jvm.Cond.codeWith ({ cls := "SturmRootsLaw", name := "copy", desc := "(LSturmRoots;II[J)I" } : Jvm.MethodName) method_6_code (5 : Nat) (Option.some Jvm.ClassFile.FieldType.int) [((0 : Nat), (10 : Nat), (13 : Nat), (13 : Nat))]) ∈ lw_all := lw_g (lw_at lw_m3 142 rfl) rfl
theorem q692 : (Jvm.Cond.methodLink "SturmRootsLaw" (25 : Nat) ({ cls := "SturmRoots", name := "copy", desc := "(II)I" } : Jvm.MethodName)) ∈ lw_all := lw_g (lw_at lw_m3 143 rfl) rfl
theorem q696 : (Jvm.Cond.methodLink "SturmRootsLaw" (135 : Nat) ({ cls := "SturmRootsLaw", name := "add", desc := "(LSturmRoots;III[J)I" } : Jvm.MethodName)) ∈ lw_all := lw_g (lw_at lw_m3 147 rfl) rfl
theorem q697 : (Jvm.Cond.static ({ cls := "SturmRootsLaw", name := "add", desc := "(LSturmRoots;III[J)I" } : Jvm.MethodName)) ∈ lw_all := lw_g (lw_at lw_m3 148 rfl) rfl
theorem q698 : (Jvm.Cond.codeWith ({ cls := "SturmRootsLaw", name := "add", desc := "(LSturmRoots;III[J)I" } : Jvm.MethodName) method_7_code (6 : Nat) (Option.some Jvm.ClassFile.FieldType.int) [((0 : Nat), (12 : Nat), (15 : Nat), (13 : Nat)), ((0 : Nat), (12 : Nat), (19 : Nat), (31 : Nat))]) ∈ lw_all := lw_g (lw_at lw_m3 149 rfl) rfl
theorem q699 : (Jvm.Cond.classLink "SturmRootsLaw" (31 : Nat) "java/lang/IllegalStateException") ∈ lw_all := lw_g (lw_at lw_m3 150 rfl) rfl
theorem q700 : (Jvm.Cond.methodLink "SturmRootsLaw" (28 : Nat) ({ cls := "SturmRoots", name := "add", desc := "(III)I" } : Jvm.MethodName)) ∈ lw_all := lw_g (lw_at lw_m3 151 rfl) rfl
theorem q951 : (Jvm.Cond.methodLink "SturmRootsLaw" (138 : Nat) ({ cls := "SturmRootsLaw", name := "multiply", desc := "(LSturmRoots;III[J)I" } : Jvm.MethodName)) ∈ lw_all := lw_g (lw_at lw_m4 162 rfl) rfl
theorem q952 : (Jvm.Cond.static ({ cls := "SturmRootsLaw", name := "multiply", desc := "(LSturmRoots;III[J)I" } : Jvm.MethodName)) ∈ lw_all := lw_g (lw_at lw_m4 163 rfl) rfl
theorem q953 : (Jvm.Cond.codeWith ({ cls := "SturmRootsLaw", name := "multiply", desc := "(LSturmRoots;III[J)I" } : Jvm.MethodName) method_8_code (6 : Nat) (Option.some Jvm.ClassFile.FieldType.int) [((0 : Nat), (12 : Nat), (15 : Nat), (13 : Nat)), ((0 : Nat), (12 : Nat), (19 : Nat), (31 : Nat))]) ∈ lw_all := lw_g (lw_at lw_m4 164 rfl) rfl
theorem q954 : (Jvm.Cond.methodLink "SturmRootsLaw" (33 : Nat) ({ cls := "SturmRoots", name := "multiply", desc := "(III)I" } : Jvm.MethodName)) ∈ lw_all := lw_g (lw_at lw_m4 165 rfl) rfl
theorem q1099 : (Jvm.Cond.methodLink "SturmRootsLaw" (141 : Nat) ({ cls := "SturmRootsLaw", name := "derivative", desc := "(LSturmRoots;II[J)I" } : Jvm.MethodName)) ∈ lw_all := lw_g (lw_at lw_m5 70 rfl) rfl
theorem q1100 : (Jvm.Cond.static ({ cls := "SturmRootsLaw", name := "derivative", desc := "(LSturmRoots;II[J)I" } : Jvm.MethodName)) ∈ lw_all := lw_g (lw_at lw_m5 71 rfl) rfl
theorem q1101 : (Jvm.Cond.codeWith ({ cls := "SturmRootsLaw", name := "derivative", desc := "(LSturmRoots;II[J)I" } : Jvm.MethodName) method_9_code (5 : Nat) (Option.some Jvm.ClassFile.FieldType.int) [((0 : Nat), (10 : Nat), (13 : Nat), (13 : Nat)), ((0 : Nat), (10 : Nat), (17 : Nat), (31 : Nat))]) ∈ lw_all := lw_g (lw_at lw_m5 72 rfl) rfl
theorem q1102 : (Jvm.Cond.methodLink "SturmRootsLaw" (36 : Nat) ({ cls := "SturmRoots", name := "derivative", desc := "(II)I" } : Jvm.MethodName)) ∈ lw_all := lw_g (lw_at lw_m5 73 rfl) rfl
theorem q1109 : (Jvm.Cond.methodLink "SturmRootsLaw" (144 : Nat) ({ cls := "SturmRootsLaw", name := "shift", desc := "(LSturmRoots;III[J)I" } : Jvm.MethodName)) ∈ lw_all := lw_g (lw_at lw_m5 80 rfl) rfl
theorem q1110 : (Jvm.Cond.static ({ cls := "SturmRootsLaw", name := "shift", desc := "(LSturmRoots;III[J)I" } : Jvm.MethodName)) ∈ lw_all := lw_g (lw_at lw_m5 81 rfl) rfl
theorem q1111 : (Jvm.Cond.codeWith ({ cls := "SturmRootsLaw", name := "shift", desc := "(LSturmRoots;III[J)I" } : Jvm.MethodName) method_10_code (6 : Nat) (Option.some Jvm.ClassFile.FieldType.int) [((0 : Nat), (12 : Nat), (15 : Nat), (13 : Nat)), ((0 : Nat), (12 : Nat), (19 : Nat), (15 : Nat)), ((0 : Nat), (12 : Nat), (23 : Nat), (31 : Nat))]) ∈ lw_all := lw_g (lw_at lw_m5 82 rfl) rfl
theorem q1112 : (Jvm.Cond.methodLink "SturmRootsLaw" (39 : Nat) ({ cls := "SturmRoots", name := "shift", desc := "(III)I" } : Jvm.MethodName)) ∈ lw_all := lw_g (lw_at lw_m5 83 rfl) rfl
theorem q1120 : (Jvm.Cond.methodLink "SturmRootsLaw" (147 : Nat) ({ cls := "SturmRootsLaw", name := "reflect", desc := "(LSturmRoots;II[J)I" } : Jvm.MethodName)) ∈ lw_all := lw_g (lw_at lw_m5 91 rfl) rfl
theorem q1121 : (Jvm.Cond.static ({ cls := "SturmRootsLaw", name := "reflect", desc := "(LSturmRoots;II[J)I" } : Jvm.MethodName)) ∈ lw_all := lw_g (lw_at lw_m5 92 rfl) rfl
theorem q1122 : (Jvm.Cond.codeWith ({ cls := "SturmRootsLaw", name := "reflect", desc := "(LSturmRoots;II[J)I" } : Jvm.MethodName) method_11_code (5 : Nat) (Option.some Jvm.ClassFile.FieldType.int) [((0 : Nat), (10 : Nat), (13 : Nat), (13 : Nat))]) ∈ lw_all := lw_g (lw_at lw_m5 93 rfl) rfl
theorem q1123 : (Jvm.Cond.methodLink "SturmRootsLaw" (42 : Nat) ({ cls := "SturmRoots", name := "reflect", desc := "(II)I" } : Jvm.MethodName)) ∈ lw_all := lw_g (lw_at lw_m5 94 rfl) rfl
theorem q1128 : (Jvm.Cond.methodLink "SturmRootsLaw" (150 : Nat) ({ cls := "SturmRootsLaw", name := "scale", desc := "(LSturmRoots;III[J)I" } : Jvm.MethodName)) ∈ lw_all := lw_g (lw_at lw_m5 99 rfl) rfl
theorem q1129 : (Jvm.Cond.static ({ cls := "SturmRootsLaw", name := "scale", desc := "(LSturmRoots;III[J)I" } : Jvm.MethodName)) ∈ lw_all := lw_g (lw_at lw_m5 100 rfl) rfl
theorem q1130 : (Jvm.Cond.codeWith ({ cls := "SturmRootsLaw", name := "scale", desc := "(LSturmRoots;III[J)I" } : Jvm.MethodName) method_12_code (6 : Nat) (Option.some Jvm.ClassFile.FieldType.int) [((0 : Nat), (12 : Nat), (15 : Nat), (13 : Nat)), ((0 : Nat), (12 : Nat), (19 : Nat), (15 : Nat)), ((0 : Nat), (12 : Nat), (23 : Nat), (31 : Nat))]) ∈ lw_all := lw_g (lw_at lw_m5 101 rfl) rfl
theorem q1131 : (Jvm.Cond.methodLink "SturmRootsLaw" (45 : Nat) ({ cls := "SturmRoots", name := "scale", desc := "(III)I" } : Jvm.MethodName)) ∈ lw_all := lw_g (lw_at lw_m5 102 rfl) rfl
theorem q1135 : (Jvm.Cond.methodLink "SturmRootsLaw" (153 : Nat) ({ cls := "SturmRootsLaw", name := "gcd", desc := "(LSturmRoots;III[J)I" } : Jvm.MethodName)) ∈ lw_all := lw_g (lw_at lw_m5 106 rfl) rfl
theorem q1136 : (Jvm.Cond.static ({ cls := "SturmRootsLaw", name := "gcd", desc := "(LSturmRoots;III[J)I" } : Jvm.MethodName)) ∈ lw_all := lw_g (lw_at lw_m5 107 rfl) rfl
theorem q1137 : (Jvm.Cond.codeWith ({ cls := "SturmRootsLaw", name := "gcd", desc := "(LSturmRoots;III[J)I" } : Jvm.MethodName) method_13_code (6 : Nat) (Option.some Jvm.ClassFile.FieldType.int) [((0 : Nat), (12 : Nat), (15 : Nat), (13 : Nat)), ((0 : Nat), (12 : Nat), (19 : Nat), (31 : Nat))]) ∈ lw_all := lw_g (lw_at lw_m5 108 rfl) rfl
theorem q1138 : (Jvm.Cond.methodLink "SturmRootsLaw" (48 : Nat) ({ cls := "SturmRoots", name := "gcd", desc := "(III)I" } : Jvm.MethodName)) ∈ lw_all := lw_g (lw_at lw_m5 109 rfl) rfl
theorem q1450 : (Jvm.Cond.methodLink "SturmRootsLaw" (156 : Nat) ({ cls := "SturmRootsLaw", name := "squareFreePart", desc := "(LSturmRoots;II[J)I" } : Jvm.MethodName)) ∈ lw_all := lw_g (lw_at lw_m6 181 rfl) rfl
theorem q1451 : (Jvm.Cond.static ({ cls := "SturmRootsLaw", name := "squareFreePart", desc := "(LSturmRoots;II[J)I" } : Jvm.MethodName)) ∈ lw_all := lw_g (lw_at lw_m6 182 rfl) rfl
theorem q1452 : (Jvm.Cond.codeWith ({ cls := "SturmRootsLaw", name := "squareFreePart", desc := "(LSturmRoots;II[J)I" } : Jvm.MethodName) method_14_code (5 : Nat) (Option.some Jvm.ClassFile.FieldType.int) [((0 : Nat), (10 : Nat), (13 : Nat), (13 : Nat)), ((0 : Nat), (10 : Nat), (17 : Nat), (54 : Nat)), ((0 : Nat), (10 : Nat), (21 : Nat), (31 : Nat))]) ∈ lw_all := lw_g (lw_at lw_m6 183 rfl) rfl
theorem q1453 : (Jvm.Cond.classLink "SturmRootsLaw" (54 : Nat) "java/lang/ArithmeticException") ∈ lw_all := lw_g (lw_at lw_m6 184 rfl) rfl
theorem q1454 : (Jvm.Cond.methodLink "SturmRootsLaw" (51 : Nat) ({ cls := "SturmRoots", name := "squareFreePart", desc := "(II)I" } : Jvm.MethodName)) ∈ lw_all := lw_g (lw_at lw_m6 185 rfl) rfl
theorem q1489 : (Jvm.Cond.methodLink "SturmRootsLaw" (159 : Nat) ({ cls := "SturmRootsLaw", name := "sturmLength", desc := "(LSturmRoots;I[J)I" } : Jvm.MethodName)) ∈ lw_all := lw_g (lw_at lw_m6 220 rfl) rfl
theorem q1490 : (Jvm.Cond.static ({ cls := "SturmRootsLaw", name := "sturmLength", desc := "(LSturmRoots;I[J)I" } : Jvm.MethodName)) ∈ lw_all := lw_g (lw_at lw_m6 221 rfl) rfl
theorem q1491 : (Jvm.Cond.codeWith ({ cls := "SturmRootsLaw", name := "sturmLength", desc := "(LSturmRoots;I[J)I" } : Jvm.MethodName) method_15_code (4 : Nat) (Option.some Jvm.ClassFile.FieldType.int) [((0 : Nat), (9 : Nat), (12 : Nat), (13 : Nat)), ((0 : Nat), (9 : Nat), (15 : Nat), (54 : Nat))]) ∈ lw_all := lw_g (lw_at lw_m6 222 rfl) rfl
theorem q1492 : (Jvm.Cond.methodLink "SturmRootsLaw" (56 : Nat) ({ cls := "SturmRoots", name := "sturmLength", desc := "(I)I" } : Jvm.MethodName)) ∈ lw_all := lw_g (lw_at lw_m6 223 rfl) rfl
theorem q1497 : (Jvm.Cond.methodLink "SturmRootsLaw" (162 : Nat) ({ cls := "SturmRootsLaw", name := "sturmCoefficient", desc := "(LSturmRoots;III[J)I" } : Jvm.MethodName)) ∈ lw_all := lw_g (lw_at lw_m6 228 rfl) rfl
theorem q1498 : (Jvm.Cond.static ({ cls := "SturmRootsLaw", name := "sturmCoefficient", desc := "(LSturmRoots;III[J)I" } : Jvm.MethodName)) ∈ lw_all := lw_g (lw_at lw_m6 229 rfl) rfl
theorem q1499 : (Jvm.Cond.codeWith ({ cls := "SturmRootsLaw", name := "sturmCoefficient", desc := "(LSturmRoots;III[J)I" } : Jvm.MethodName) method_16_code (6 : Nat) (Option.some Jvm.ClassFile.FieldType.int) [((0 : Nat), (11 : Nat), (14 : Nat), (13 : Nat)), ((0 : Nat), (11 : Nat), (18 : Nat), (54 : Nat)), ((0 : Nat), (11 : Nat), (22 : Nat), (63 : Nat))]) ∈ lw_all := lw_g (lw_at lw_m6 230 rfl) rfl
theorem q1500 : (Jvm.Cond.classLink "SturmRootsLaw" (63 : Nat) "java/util/NoSuchElementException") ∈ lw_all := lw_g (lw_at lw_m6 231 rfl) rfl
theorem q1501 : (Jvm.Cond.methodLink "SturmRootsLaw" (59 : Nat) ({ cls := "SturmRoots", name := "sturmCoefficient", desc := "(III)J" } : Jvm.MethodName)) ∈ lw_all := lw_g (lw_at lw_m6 232 rfl) rfl
theorem q1511 : (Jvm.Cond.methodLink "SturmRootsLaw" (165 : Nat) ({ cls := "SturmRootsLaw", name := "sturmDegree", desc := "(LSturmRoots;II[J)I" } : Jvm.MethodName)) ∈ lw_all := lw_g (lw_at lw_m7 2 rfl) rfl
theorem q1512 : (Jvm.Cond.static ({ cls := "SturmRootsLaw", name := "sturmDegree", desc := "(LSturmRoots;II[J)I" } : Jvm.MethodName)) ∈ lw_all := lw_g (lw_at lw_m7 3 rfl) rfl
theorem q1513 : (Jvm.Cond.codeWith ({ cls := "SturmRootsLaw", name := "sturmDegree", desc := "(LSturmRoots;II[J)I" } : Jvm.MethodName) method_17_code (5 : Nat) (Option.some Jvm.ClassFile.FieldType.int) [((0 : Nat), (10 : Nat), (13 : Nat), (13 : Nat)), ((0 : Nat), (10 : Nat), (17 : Nat), (54 : Nat)), ((0 : Nat), (10 : Nat), (21 : Nat), (63 : Nat))]) ∈ lw_all := lw_g (lw_at lw_m7 4 rfl) rfl
theorem q1514 : (Jvm.Cond.methodLink "SturmRootsLaw" (65 : Nat) ({ cls := "SturmRoots", name := "sturmDegree", desc := "(II)I" } : Jvm.MethodName)) ∈ lw_all := lw_g (lw_at lw_m7 5 rfl) rfl
theorem q1518 : (Jvm.Cond.methodLink "SturmRootsLaw" (168 : Nat) ({ cls := "SturmRootsLaw", name := "signChanges", desc := "(LSturmRoots;III[J)I" } : Jvm.MethodName)) ∈ lw_all := lw_g (lw_at lw_m7 9 rfl) rfl
theorem q1519 : (Jvm.Cond.static ({ cls := "SturmRootsLaw", name := "signChanges", desc := "(LSturmRoots;III[J)I" } : Jvm.MethodName)) ∈ lw_all := lw_g (lw_at lw_m7 10 rfl) rfl
theorem q1520 : (Jvm.Cond.codeWith ({ cls := "SturmRootsLaw", name := "signChanges", desc := "(LSturmRoots;III[J)I" } : Jvm.MethodName) method_18_code (6 : Nat) (Option.some Jvm.ClassFile.FieldType.int) [((0 : Nat), (12 : Nat), (15 : Nat), (13 : Nat)), ((0 : Nat), (12 : Nat), (19 : Nat), (15 : Nat)), ((0 : Nat), (12 : Nat), (23 : Nat), (54 : Nat))]) ∈ lw_all := lw_g (lw_at lw_m7 11 rfl) rfl
theorem q1521 : (Jvm.Cond.methodLink "SturmRootsLaw" (68 : Nat) ({ cls := "SturmRoots", name := "signChanges", desc := "(III)I" } : Jvm.MethodName)) ∈ lw_all := lw_g (lw_at lw_m7 12 rfl) rfl
theorem q1537 : (Jvm.Cond.methodLink "SturmRootsLaw" (171 : Nat) ({ cls := "SturmRootsLaw", name := "sign", desc := "(LSturmRoots;III[J)I" } : Jvm.MethodName)) ∈ lw_all := lw_g (lw_at lw_m7 28 rfl) rfl
theorem q1538 : (Jvm.Cond.static ({ cls := "SturmRootsLaw", name := "sign", desc := "(LSturmRoots;III[J)I" } : Jvm.MethodName)) ∈ lw_all := lw_g (lw_at lw_m7 29 rfl) rfl
theorem q1539 : (Jvm.Cond.codeWith ({ cls := "SturmRootsLaw", name := "sign", desc := "(LSturmRoots;III[J)I" } : Jvm.MethodName) method_19_code (6 : Nat) (Option.some Jvm.ClassFile.FieldType.int) [((0 : Nat), (12 : Nat), (15 : Nat), (13 : Nat)), ((0 : Nat), (12 : Nat), (19 : Nat), (15 : Nat))]) ∈ lw_all := lw_g (lw_at lw_m7 30 rfl) rfl
theorem q1540 : (Jvm.Cond.methodLink "SturmRootsLaw" (71 : Nat) ({ cls := "SturmRoots", name := "sign", desc := "(III)I" } : Jvm.MethodName)) ∈ lw_all := lw_g (lw_at lw_m7 31 rfl) rfl
theorem q1544 : (Jvm.Cond.methodLink "SturmRootsLaw" (174 : Nat) ({ cls := "SturmRootsLaw", name := "countDistinct", desc := "(LSturmRoots;IIIII[J)I" } : Jvm.MethodName)) ∈ lw_all := lw_g (lw_at lw_m7 35 rfl) rfl
theorem q1545 : (Jvm.Cond.static ({ cls := "SturmRootsLaw", name := "countDistinct", desc := "(LSturmRoots;IIIII[J)I" } : Jvm.MethodName)) ∈ lw_all := lw_g (lw_at lw_m7 36 rfl) rfl
theorem q1546 : (Jvm.Cond.codeWith ({ cls := "SturmRootsLaw", name := "countDistinct", desc := "(LSturmRoots;IIIII[J)I" } : Jvm.MethodName) method_20_code (8 : Nat) (Option.some Jvm.ClassFile.FieldType.int) [((0 : Nat), (16 : Nat), (19 : Nat), (13 : Nat)), ((0 : Nat), (16 : Nat), (23 : Nat), (15 : Nat)), ((0 : Nat), (16 : Nat), (27 : Nat), (54 : Nat)), ((0 : Nat), (16 : Nat), (31 : Nat), (31 : Nat))]) ∈ lw_all := lw_g (lw_at lw_m7 37 rfl) rfl
theorem q1547 : (Jvm.Cond.methodLink "SturmRootsLaw" (74 : Nat) ({ cls := "SturmRoots", name := "countDistinct", desc := "(IIIII)I" } : Jvm.MethodName)) ∈ lw_all := lw_g (lw_at lw_m7 38 rfl) rfl
theorem q1555 : (Jvm.Cond.methodLink "SturmRootsLaw" (178 : Nat) ({ cls := "SturmRootsLaw", name := "countAll", desc := "(LSturmRoots;IIIII[J)I" } : Jvm.MethodName)) ∈ lw_all := lw_g (lw_at lw_m7 46 rfl) rfl
theorem q1556 : (Jvm.Cond.static ({ cls := "SturmRootsLaw", name := "countAll", desc := "(LSturmRoots;IIIII[J)I" } : Jvm.MethodName)) ∈ lw_all := lw_g (lw_at lw_m7 47 rfl) rfl
theorem q1557 : (Jvm.Cond.codeWith ({ cls := "SturmRootsLaw", name := "countAll", desc := "(LSturmRoots;IIIII[J)I" } : Jvm.MethodName) method_21_code (8 : Nat) (Option.some Jvm.ClassFile.FieldType.int) [((0 : Nat), (16 : Nat), (19 : Nat), (13 : Nat)), ((0 : Nat), (16 : Nat), (23 : Nat), (15 : Nat)), ((0 : Nat), (16 : Nat), (27 : Nat), (54 : Nat)), ((0 : Nat), (16 : Nat), (31 : Nat), (31 : Nat))]) ∈ lw_all := lw_g (lw_at lw_m7 48 rfl) rfl
theorem q1558 : (Jvm.Cond.methodLink "SturmRootsLaw" (78 : Nat) ({ cls := "SturmRoots", name := "countAll", desc := "(IIIII)I" } : Jvm.MethodName)) ∈ lw_all := lw_g (lw_at lw_m7 49 rfl) rfl
theorem q1563 : (Jvm.Cond.methodLink "SturmRootsLaw" (181 : Nat) ({ cls := "SturmRootsLaw", name := "distinctRoots", desc := "(LSturmRoots;I[J)I" } : Jvm.MethodName)) ∈ lw_all := lw_g (lw_at lw_m7 54 rfl) rfl
theorem q1564 : (Jvm.Cond.static ({ cls := "SturmRootsLaw", name := "distinctRoots", desc := "(LSturmRoots;I[J)I" } : Jvm.MethodName)) ∈ lw_all := lw_g (lw_at lw_m7 55 rfl) rfl
theorem q1565 : (Jvm.Cond.codeWith ({ cls := "SturmRootsLaw", name := "distinctRoots", desc := "(LSturmRoots;I[J)I" } : Jvm.MethodName) method_22_code (4 : Nat) (Option.some Jvm.ClassFile.FieldType.int) [((0 : Nat), (9 : Nat), (12 : Nat), (13 : Nat)), ((0 : Nat), (9 : Nat), (15 : Nat), (54 : Nat))]) ∈ lw_all := lw_g (lw_at lw_m7 56 rfl) rfl
theorem q1566 : (Jvm.Cond.methodLink "SturmRootsLaw" (81 : Nat) ({ cls := "SturmRoots", name := "distinctRoots", desc := "(I)I" } : Jvm.MethodName)) ∈ lw_all := lw_g (lw_at lw_m7 57 rfl) rfl
theorem q1573 : (Jvm.Cond.methodLink "SturmRootsLaw" (184 : Nat) ({ cls := "SturmRootsLaw", name := "coefficientSignChanges", desc := "(LSturmRoots;I[J)I" } : Jvm.MethodName)) ∈ lw_all := lw_g (lw_at lw_m7 64 rfl) rfl
theorem q1574 : (Jvm.Cond.static ({ cls := "SturmRootsLaw", name := "coefficientSignChanges", desc := "(LSturmRoots;I[J)I" } : Jvm.MethodName)) ∈ lw_all := lw_g (lw_at lw_m7 65 rfl) rfl
theorem q1575 : (Jvm.Cond.codeWith ({ cls := "SturmRootsLaw", name := "coefficientSignChanges", desc := "(LSturmRoots;I[J)I" } : Jvm.MethodName) method_23_code (4 : Nat) (Option.some Jvm.ClassFile.FieldType.int) [((0 : Nat), (9 : Nat), (12 : Nat), (13 : Nat))]) ∈ lw_all := lw_g (lw_at lw_m7 66 rfl) rfl
theorem q1576 : (Jvm.Cond.methodLink "SturmRootsLaw" (84 : Nat) ({ cls := "SturmRoots", name := "coefficientSignChanges", desc := "(I)I" } : Jvm.MethodName)) ∈ lw_all := lw_g (lw_at lw_m7 67 rfl) rfl
theorem q1583 : (Jvm.Cond.methodLink "SturmRootsLaw" (187 : Nat) ({ cls := "SturmRootsLaw", name := "isolate", desc := "(LSturmRoots;I[J)I" } : Jvm.MethodName)) ∈ lw_all := lw_g (lw_at lw_m7 74 rfl) rfl
theorem q1584 : (Jvm.Cond.static ({ cls := "SturmRootsLaw", name := "isolate", desc := "(LSturmRoots;I[J)I" } : Jvm.MethodName)) ∈ lw_all := lw_g (lw_at lw_m7 75 rfl) rfl
theorem q1585 : (Jvm.Cond.codeWith ({ cls := "SturmRootsLaw", name := "isolate", desc := "(LSturmRoots;I[J)I" } : Jvm.MethodName) method_24_code (4 : Nat) (Option.some Jvm.ClassFile.FieldType.int) [((0 : Nat), (9 : Nat), (12 : Nat), (13 : Nat)), ((0 : Nat), (9 : Nat), (15 : Nat), (54 : Nat))]) ∈ lw_all := lw_g (lw_at lw_m7 76 rfl) rfl
theorem q1586 : (Jvm.Cond.methodLink "SturmRootsLaw" (87 : Nat) ({ cls := "SturmRoots", name := "isolate", desc := "(I)I" } : Jvm.MethodName)) ∈ lw_all := lw_g (lw_at lw_m7 77 rfl) rfl
theorem q1617 : (Jvm.Cond.methodLink "SturmRootsLaw" (194 : Nat) ({ cls := "SturmRootsLaw", name := "rootsIn", desc := "(LSturmRoots;I[J)I" } : Jvm.MethodName)) ∈ lw_all := lw_g (lw_at lw_m7 108 rfl) rfl
theorem q1618 : (Jvm.Cond.static ({ cls := "SturmRootsLaw", name := "rootsIn", desc := "(LSturmRoots;I[J)I" } : Jvm.MethodName)) ∈ lw_all := lw_g (lw_at lw_m7 109 rfl) rfl
theorem q1619 : (Jvm.Cond.codeWith ({ cls := "SturmRootsLaw", name := "rootsIn", desc := "(LSturmRoots;I[J)I" } : Jvm.MethodName) method_25_code (4 : Nat) (Option.some Jvm.ClassFile.FieldType.int) [((0 : Nat), (9 : Nat), (12 : Nat), (13 : Nat))]) ∈ lw_all := lw_g (lw_at lw_m7 110 rfl) rfl
theorem q1620 : (Jvm.Cond.methodLink "SturmRootsLaw" (90 : Nat) ({ cls := "SturmRoots", name := "rootsIn", desc := "(I)I" } : Jvm.MethodName)) ∈ lw_all := lw_g (lw_at lw_m7 111 rfl) rfl
theorem q1628 : (Jvm.Cond.methodLink "SturmRootsLaw" (197 : Nat) ({ cls := "SturmRootsLaw", name := "interval", desc := "(LSturmRoots;IC[J)I" } : Jvm.MethodName)) ∈ lw_all := lw_g (lw_at lw_m7 119 rfl) rfl
theorem q1629 : (Jvm.Cond.static ({ cls := "SturmRootsLaw", name := "interval", desc := "(LSturmRoots;IC[J)I" } : Jvm.MethodName)) ∈ lw_all := lw_g (lw_at lw_m7 120 rfl) rfl
theorem q1630 : (Jvm.Cond.codeWith ({ cls := "SturmRootsLaw", name := "interval", desc := "(LSturmRoots;IC[J)I" } : Jvm.MethodName) method_26_code (5 : Nat) (Option.some Jvm.ClassFile.FieldType.int) [((0 : Nat), (10 : Nat), (13 : Nat), (13 : Nat)), ((0 : Nat), (10 : Nat), (17 : Nat), (15 : Nat))]) ∈ lw_all := lw_g (lw_at lw_m7 121 rfl) rfl
theorem q1631 : (Jvm.Cond.methodLink "SturmRootsLaw" (93 : Nat) ({ cls := "SturmRoots", name := "interval", desc := "(IC)I" } : Jvm.MethodName)) ∈ lw_all := lw_g (lw_at lw_m7 122 rfl) rfl
theorem q1635 : (Jvm.Cond.methodLink "SturmRootsLaw" (201 : Nat) ({ cls := "SturmRootsLaw", name := "bisect", desc := "(LSturmRoots;I[J)I" } : Jvm.MethodName)) ∈ lw_all := lw_g (lw_at lw_m7 126 rfl) rfl
theorem q1636 : (Jvm.Cond.static ({ cls := "SturmRootsLaw", name := "bisect", desc := "(LSturmRoots;I[J)I" } : Jvm.MethodName)) ∈ lw_all := lw_g (lw_at lw_m7 127 rfl) rfl
theorem q1637 : (Jvm.Cond.codeWith ({ cls := "SturmRootsLaw", name := "bisect", desc := "(LSturmRoots;I[J)I" } : Jvm.MethodName) method_27_code (4 : Nat) (Option.some Jvm.ClassFile.FieldType.int) [((0 : Nat), (9 : Nat), (12 : Nat), (13 : Nat)), ((0 : Nat), (9 : Nat), (15 : Nat), (31 : Nat))]) ∈ lw_all := lw_g (lw_at lw_m7 128 rfl) rfl
theorem q1638 : (Jvm.Cond.methodLink "SturmRootsLaw" (97 : Nat) ({ cls := "SturmRoots", name := "bisect", desc := "(I)I" } : Jvm.MethodName)) ∈ lw_all := lw_g (lw_at lw_m7 129 rfl) rfl
theorem q1724 : (Jvm.Cond.methodLink "SturmRootsLaw" (204 : Nat) ({ cls := "SturmRootsLaw", name := "refine", desc := "(LSturmRoots;II[J)I" } : Jvm.MethodName)) ∈ lw_all := lw_g (lw_at lw_m7 215 rfl) rfl
theorem q1725 : (Jvm.Cond.static ({ cls := "SturmRootsLaw", name := "refine", desc := "(LSturmRoots;II[J)I" } : Jvm.MethodName)) ∈ lw_all := lw_g (lw_at lw_m7 216 rfl) rfl
theorem q1726 : (Jvm.Cond.codeWith ({ cls := "SturmRootsLaw", name := "refine", desc := "(LSturmRoots;II[J)I" } : Jvm.MethodName) method_28_code (5 : Nat) (Option.some Jvm.ClassFile.FieldType.int) [((0 : Nat), (10 : Nat), (13 : Nat), (13 : Nat)), ((0 : Nat), (10 : Nat), (17 : Nat), (15 : Nat)), ((0 : Nat), (10 : Nat), (21 : Nat), (31 : Nat))]) ∈ lw_all := lw_g (lw_at lw_m7 217 rfl) rfl
theorem q1727 : (Jvm.Cond.methodLink "SturmRootsLaw" (100 : Nat) ({ cls := "SturmRoots", name := "refine", desc := "(II)I" } : Jvm.MethodName)) ∈ lw_all := lw_g (lw_at lw_m7 218 rfl) rfl
theorem q1731 : (Jvm.Cond.methodLink "SturmRootsLaw" (211 : Nat) ({ cls := "SturmRootsLaw", name := "multiplicity", desc := "(LSturmRoots;I[J)I" } : Jvm.MethodName)) ∈ lw_all := lw_g (lw_at lw_m7 222 rfl) rfl
theorem q1732 : (Jvm.Cond.static ({ cls := "SturmRootsLaw", name := "multiplicity", desc := "(LSturmRoots;I[J)I" } : Jvm.MethodName)) ∈ lw_all := lw_g (lw_at lw_m7 223 rfl) rfl
theorem q1733 : (Jvm.Cond.codeWith ({ cls := "SturmRootsLaw", name := "multiplicity", desc := "(LSturmRoots;I[J)I" } : Jvm.MethodName) method_29_code (4 : Nat) (Option.some Jvm.ClassFile.FieldType.int) [((0 : Nat), (9 : Nat), (12 : Nat), (13 : Nat)), ((0 : Nat), (9 : Nat), (15 : Nat), (31 : Nat))]) ∈ lw_all := lw_g (lw_at lw_m7 224 rfl) rfl
theorem q1734 : (Jvm.Cond.methodLink "SturmRootsLaw" (103 : Nat) ({ cls := "SturmRoots", name := "multiplicity", desc := "(I)I" } : Jvm.MethodName)) ∈ lw_all := lw_g (lw_at lw_m7 225 rfl) rfl
theorem q1741 : (Jvm.Cond.methodLink "SturmRootsLaw" (214 : Nat) ({ cls := "SturmRootsLaw", name := "isTrue", desc := "(LSturmRoots;I[J)I" } : Jvm.MethodName)) ∈ lw_all := lw_g (lw_at lw_m7 232 rfl) rfl
theorem q1742 : (Jvm.Cond.static ({ cls := "SturmRootsLaw", name := "isTrue", desc := "(LSturmRoots;I[J)I" } : Jvm.MethodName)) ∈ lw_all := lw_g (lw_at lw_m7 233 rfl) rfl
theorem q1743 : (Jvm.Cond.codeWith ({ cls := "SturmRootsLaw", name := "isTrue", desc := "(LSturmRoots;I[J)I" } : Jvm.MethodName) method_30_code (4 : Nat) (Option.some Jvm.ClassFile.FieldType.int) [((0 : Nat), (16 : Nat), (19 : Nat), (13 : Nat))]) ∈ lw_all := lw_g (lw_at lw_m7 234 rfl) rfl
theorem q1744 : (Jvm.Cond.methodLink "SturmRootsLaw" (106 : Nat) ({ cls := "SturmRoots", name := "isTrue", desc := "(I)Z" } : Jvm.MethodName)) ∈ lw_all := lw_g (lw_at lw_m7 235 rfl) rfl
theorem q1750 : (Jvm.Cond.classLink "SturmRootsLaw" (111 : Nat) "SturmRootsModel") ∈ lw_all := lw_g (lw_at lw_m8 1 rfl) rfl
theorem q1752 : (Jvm.Cond.methodLink "SturmRootsLaw" (113 : Nat) ({ cls := "SturmRootsModel", name := "<init>", desc := "()V" } : Jvm.MethodName)) ∈ lw_all := lw_g (lw_at lw_m8 3 rfl) rfl
theorem q1843 : (Jvm.Cond.methodLink "SturmRootsLaw" (120 : Nat) ({ cls := "SturmRootsModel", name := "thrown", desc := "()I" } : Jvm.MethodName)) ∈ lw_all := lw_g (lw_at lw_m8 94 rfl) rfl
theorem q1847 : (Jvm.Cond.methodLink "SturmRootsLaw" (119 : Nat) ({ cls := "SturmRootsModel", name := "set", desc := "(III)I" } : Jvm.MethodName)) ∈ lw_all := lw_g (lw_at lw_m8 98 rfl) rfl
theorem q1868 : (Jvm.Cond.methodLink "SturmRootsLaw" (127 : Nat) ({ cls := "SturmRootsModel", name := "coefficient", desc := "(II)I" } : Jvm.MethodName)) ∈ lw_all := lw_g (lw_at lw_m8 119 rfl) rfl
theorem q1872 : (Jvm.Cond.methodLink "SturmRootsLaw" (131 : Nat) ({ cls := "SturmRootsModel", name := "degree", desc := "(I)I" } : Jvm.MethodName)) ∈ lw_all := lw_g (lw_at lw_m8 123 rfl) rfl
theorem q1876 : (Jvm.Cond.methodLink "SturmRootsLaw" (134 : Nat) ({ cls := "SturmRootsModel", name := "copy", desc := "(II)I" } : Jvm.MethodName)) ∈ lw_all := lw_g (lw_at lw_m8 127 rfl) rfl
theorem q1890 : (Jvm.Cond.methodLink "SturmRootsLaw" (137 : Nat) ({ cls := "SturmRootsModel", name := "add", desc := "(III)I" } : Jvm.MethodName)) ∈ lw_all := lw_g (lw_at lw_m8 141 rfl) rfl
theorem q1894 : (Jvm.Cond.methodLink "SturmRootsLaw" (140 : Nat) ({ cls := "SturmRootsModel", name := "multiply", desc := "(III)I" } : Jvm.MethodName)) ∈ lw_all := lw_g (lw_at lw_m8 145 rfl) rfl
theorem q1898 : (Jvm.Cond.methodLink "SturmRootsLaw" (143 : Nat) ({ cls := "SturmRootsModel", name := "derivative", desc := "(II)I" } : Jvm.MethodName)) ∈ lw_all := lw_g (lw_at lw_m8 149 rfl) rfl
theorem q1902 : (Jvm.Cond.methodLink "SturmRootsLaw" (146 : Nat) ({ cls := "SturmRootsModel", name := "shift", desc := "(III)I" } : Jvm.MethodName)) ∈ lw_all := lw_g (lw_at lw_m8 153 rfl) rfl
theorem q1906 : (Jvm.Cond.methodLink "SturmRootsLaw" (149 : Nat) ({ cls := "SturmRootsModel", name := "reflect", desc := "(II)I" } : Jvm.MethodName)) ∈ lw_all := lw_g (lw_at lw_m8 157 rfl) rfl
theorem q1910 : (Jvm.Cond.methodLink "SturmRootsLaw" (152 : Nat) ({ cls := "SturmRootsModel", name := "scale", desc := "(III)I" } : Jvm.MethodName)) ∈ lw_all := lw_g (lw_at lw_m8 161 rfl) rfl
theorem q1914 : (Jvm.Cond.methodLink "SturmRootsLaw" (155 : Nat) ({ cls := "SturmRootsModel", name := "gcd", desc := "(III)I" } : Jvm.MethodName)) ∈ lw_all := lw_g (lw_at lw_m8 165 rfl) rfl
theorem q2002 : (Jvm.Cond.methodLink "SturmRootsLaw" (158 : Nat) ({ cls := "SturmRootsModel", name := "squareFreePart", desc := "(II)I" } : Jvm.MethodName)) ∈ lw_all := lw_g (lw_at lw_m9 13 rfl) rfl
theorem q2020 : (Jvm.Cond.methodLink "SturmRootsLaw" (161 : Nat) ({ cls := "SturmRootsModel", name := "sturmLength", desc := "(I)I" } : Jvm.MethodName)) ∈ lw_all := lw_g (lw_at lw_m9 31 rfl) rfl
theorem q2028 : (Jvm.Cond.methodLink "SturmRootsLaw" (164 : Nat) ({ cls := "SturmRootsModel", name := "sturmCoefficient", desc := "(III)J" } : Jvm.MethodName)) ∈ lw_all := lw_g (lw_at lw_m9 39 rfl) rfl
theorem q2032 : (Jvm.Cond.methodLink "SturmRootsLaw" (167 : Nat) ({ cls := "SturmRootsModel", name := "sturmDegree", desc := "(II)I" } : Jvm.MethodName)) ∈ lw_all := lw_g (lw_at lw_m9 43 rfl) rfl
theorem q2036 : (Jvm.Cond.methodLink "SturmRootsLaw" (170 : Nat) ({ cls := "SturmRootsModel", name := "signChanges", desc := "(III)I" } : Jvm.MethodName)) ∈ lw_all := lw_g (lw_at lw_m9 47 rfl) rfl
theorem q2052 : (Jvm.Cond.methodLink "SturmRootsLaw" (173 : Nat) ({ cls := "SturmRootsModel", name := "sign", desc := "(III)I" } : Jvm.MethodName)) ∈ lw_all := lw_g (lw_at lw_m9 63 rfl) rfl
theorem q2056 : (Jvm.Cond.methodLink "SturmRootsLaw" (177 : Nat) ({ cls := "SturmRootsModel", name := "countDistinct", desc := "(IIIII)I" } : Jvm.MethodName)) ∈ lw_all := lw_g (lw_at lw_m9 67 rfl) rfl
theorem q2082 : (Jvm.Cond.methodLink "SturmRootsLaw" (180 : Nat) ({ cls := "SturmRootsModel", name := "countAll", desc := "(IIIII)I" } : Jvm.MethodName)) ∈ lw_all := lw_g (lw_at lw_m9 93 rfl) rfl
theorem q2086 : (Jvm.Cond.methodLink "SturmRootsLaw" (183 : Nat) ({ cls := "SturmRootsModel", name := "distinctRoots", desc := "(I)I" } : Jvm.MethodName)) ∈ lw_all := lw_g (lw_at lw_m9 97 rfl) rfl
theorem q2094 : (Jvm.Cond.methodLink "SturmRootsLaw" (186 : Nat) ({ cls := "SturmRootsModel", name := "coefficientSignChanges", desc := "(I)I" } : Jvm.MethodName)) ∈ lw_all := lw_g (lw_at lw_m9 105 rfl) rfl
theorem q2098 : (Jvm.Cond.methodLink "SturmRootsLaw" (189 : Nat) ({ cls := "SturmRootsModel", name := "isolate", desc := "(I)I" } : Jvm.MethodName)) ∈ lw_all := lw_g (lw_at lw_m9 109 rfl) rfl
theorem q2106 : (Jvm.Cond.methodLink "SturmRootsLaw" (193 : Nat) ({ cls := "SturmRootsModel", name := "intervals", desc := "()I" } : Jvm.MethodName)) ∈ lw_all := lw_g (lw_at lw_m9 117 rfl) rfl
theorem q2110 : (Jvm.Cond.methodLink "SturmRootsLaw" (196 : Nat) ({ cls := "SturmRootsModel", name := "rootsIn", desc := "(I)I" } : Jvm.MethodName)) ∈ lw_all := lw_g (lw_at lw_m9 121 rfl) rfl
theorem q2118 : (Jvm.Cond.methodLink "SturmRootsLaw" (200 : Nat) ({ cls := "SturmRootsModel", name := "interval", desc := "(IC)I" } : Jvm.MethodName)) ∈ lw_all := lw_g (lw_at lw_m9 129 rfl) rfl
theorem q2122 : (Jvm.Cond.methodLink "SturmRootsLaw" (203 : Nat) ({ cls := "SturmRootsModel", name := "bisect", desc := "(I)I" } : Jvm.MethodName)) ∈ lw_all := lw_g (lw_at lw_m9 133 rfl) rfl
theorem q2137 : (Jvm.Cond.methodLink "SturmRootsLaw" (206 : Nat) ({ cls := "SturmRootsModel", name := "refine", desc := "(II)I" } : Jvm.MethodName)) ∈ lw_all := lw_g (lw_at lw_m9 148 rfl) rfl
theorem q2141 : (Jvm.Cond.methodLink "SturmRootsLaw" (210 : Nat) ({ cls := "SturmRootsModel", name := "removeEmpty", desc := "()I" } : Jvm.MethodName)) ∈ lw_all := lw_g (lw_at lw_m9 152 rfl) rfl
theorem q2145 : (Jvm.Cond.methodLink "SturmRootsLaw" (213 : Nat) ({ cls := "SturmRootsModel", name := "multiplicity", desc := "(I)I" } : Jvm.MethodName)) ∈ lw_all := lw_g (lw_at lw_m9 156 rfl) rfl
theorem q2149 : (Jvm.Cond.methodLink "SturmRootsLaw" (216 : Nat) ({ cls := "SturmRootsModel", name := "isTrue", desc := "(I)Z" } : Jvm.MethodName)) ∈ lw_all := lw_g (lw_at lw_m9 160 rfl) rfl
theorem q2153 : (Jvm.Cond.methodLink "SturmRootsLaw" (221 : Nat) ({ cls := "SturmRootsModel", name := "checksum", desc := "()J" } : Jvm.MethodName)) ∈ lw_all := lw_g (lw_at lw_m9 164 rfl) rfl
/-! SturmRoots -/
set_option maxRecDepth 100000
def RX1 : String := "SturmRoots"
def TX1 : u_T := fun k => match k with
  | 0 => ("SturmRoots", "slots", "Ljava/util/ArrayList;", true)
  | 1 => ("SturmRoots", "isolated", "LSturmRoots$Known;", false)
  | _ => ("SturmRoots", "intervals", "Ljava/util/ArrayList;", false)
def tyX1 : Nat → FieldType := fun k => match k with
  | 0 => .object "java/util/ArrayList"
  | 1 => .object "SturmRoots$Known"
  | _ => .object "java/util/ArrayList"
abbrev wsX10 : List Cond := u_ws RX1 TX1 3
theorem nmX1 : ∀ a, a < 3 → ∀ b, b < 3 → a ≠ b → (TX1 a).2.1 ≠ (TX1 b).2.1 := by decide +kernel
theorem tyX1_ok : ∀ k, k < 3 → parseFieldDescriptor (TX1 k).2.2.1 = some (tyX1 k) := by decide +kernel
abbrev cX1_init : ByteArray := prog_1_method_1_code
def yX1_init : MethodName := ⟨RX1, "<init>", "()V"⟩
def dkwX1_init_2 : List UInt8 := [187, 0, 7, 89, 183, 0, 9, 183, 0, 23, 183, 0, 26, 182, 0, 29, 87, 132, 1, 1, 167, 255, 219, 177]
abbrev dktX1_init_2 : List UInt8 := dkwX1_init_2 ++ []
def dkwX1_init_1 : List UInt8 := [181, 0, 16, 3, 60, 27, 8, 162, 0, 38, 42, 180, 0, 10, 187, 0, 19, 89, 187, 0, 21, 89]
abbrev dktX1_init_1 : List UInt8 := dkwX1_init_1 ++ dktX1_init_2
def dkwX1_init_0 : List UInt8 := [42, 183, 0, 1, 42, 187, 0, 7, 89, 183, 0, 9, 181, 0, 10, 42, 187, 0, 7, 89, 183, 0, 9]
abbrev dktX1_init_0 : List UInt8 := dkwX1_init_0 ++ dktX1_init_1
theorem dksX1_init_0 : cX1_init.data.toList.drop 0 = dktX1_init_0 := by decide +kernel
theorem dksX1_init_1 : cX1_init.data.toList.drop 23 = dktX1_init_1 := dk_seg dksX1_init_0 23 rfl rfl
theorem dksX1_init_2 : cX1_init.data.toList.drop 45 = dktX1_init_2 := dk_seg dksX1_init_1 22 rfl rfl
theorem dX1_init_0 : decode cX1_init 0 = .ok (.aload_n 0, 1) := dk_42 (dk_at dksX1_init_0 0 rfl rfl)
theorem dX1_init_1 : decode cX1_init 1 = .ok (.invokespecial 1, 3) := dk_183 0 1 (dk_at dksX1_init_0 1 rfl rfl)
theorem dX1_init_4 : decode cX1_init 4 = .ok (.aload_n 0, 1) := dk_42 (dk_at dksX1_init_0 4 rfl rfl)
theorem dX1_init_5 : decode cX1_init 5 = .ok (.new 7, 3) := dk_187 0 7 (dk_at dksX1_init_0 5 rfl rfl)
theorem dX1_init_8 : decode cX1_init 8 = .ok (.dup, 1) := dk_89 (dk_at dksX1_init_0 8 rfl rfl)
theorem dX1_init_9 : decode cX1_init 9 = .ok (.invokespecial 9, 3) := dk_183 0 9 (dk_at dksX1_init_0 9 rfl rfl)
theorem dX1_init_12 : decode cX1_init 12 = .ok (.putfield 10, 3) := dk_181 0 10 (dk_at dksX1_init_0 12 rfl rfl)
theorem dX1_init_15 : decode cX1_init 15 = .ok (.aload_n 0, 1) := dk_42 (dk_at dksX1_init_0 15 rfl rfl)
theorem dX1_init_16 : decode cX1_init 16 = .ok (.new 7, 3) := dk_187 0 7 (dk_at dksX1_init_0 16 rfl rfl)
theorem dX1_init_19 : decode cX1_init 19 = .ok (.dup, 1) := dk_89 (dk_at dksX1_init_0 19 rfl rfl)
theorem dX1_init_20 : decode cX1_init 20 = .ok (.invokespecial 9, 3) := dk_183 0 9 (dk_at dksX1_init_0 20 rfl rfl)
theorem dX1_init_23 : decode cX1_init 23 = .ok (.putfield 16, 3) := dk_181 0 16 (dk_at dksX1_init_1 0 rfl rfl)
theorem dX1_init_26 : decode cX1_init 26 = .ok (.iconst 0, 1) := dk_3 (dk_at dksX1_init_1 3 rfl rfl)
theorem dX1_init_27 : decode cX1_init 27 = .ok (.istore_n 1, 1) := dk_60 (dk_at dksX1_init_1 4 rfl rfl)
theorem dX1_init_28 : decode cX1_init 28 = .ok (.iload_n 1, 1) := dk_27 (dk_at dksX1_init_1 5 rfl rfl)
theorem dX1_init_29 : decode cX1_init 29 = .ok (.iconst 5, 1) := dk_8 (dk_at dksX1_init_1 6 rfl rfl)
theorem dX1_init_30 : decode cX1_init 30 = .ok (.if_icmp .ge 38, 3) := dk_162 0 38 (dk_at dksX1_init_1 7 rfl rfl)
theorem dX1_init_33 : decode cX1_init 33 = .ok (.aload_n 0, 1) := dk_42 (dk_at dksX1_init_1 10 rfl rfl)
theorem dX1_init_34 : decode cX1_init 34 = .ok (.getfield 10, 3) := dk_180 0 10 (dk_at dksX1_init_1 11 rfl rfl)
theorem dX1_init_37 : decode cX1_init 37 = .ok (.new 19, 3) := dk_187 0 19 (dk_at dksX1_init_1 14 rfl rfl)
theorem dX1_init_40 : decode cX1_init 40 = .ok (.dup, 1) := dk_89 (dk_at dksX1_init_1 17 rfl rfl)
theorem dX1_init_41 : decode cX1_init 41 = .ok (.new 21, 3) := dk_187 0 21 (dk_at dksX1_init_1 18 rfl rfl)
theorem dX1_init_44 : decode cX1_init 44 = .ok (.dup, 1) := dk_89 (dk_at dksX1_init_1 21 rfl rfl)
theorem dX1_init_45 : decode cX1_init 45 = .ok (.new 7, 3) := dk_187 0 7 (dk_at dksX1_init_2 0 rfl rfl)
theorem dX1_init_48 : decode cX1_init 48 = .ok (.dup, 1) := dk_89 (dk_at dksX1_init_2 3 rfl rfl)
theorem dX1_init_49 : decode cX1_init 49 = .ok (.invokespecial 9, 3) := dk_183 0 9 (dk_at dksX1_init_2 4 rfl rfl)
theorem dX1_init_52 : decode cX1_init 52 = .ok (.invokespecial 23, 3) := dk_183 0 23 (dk_at dksX1_init_2 7 rfl rfl)
theorem dX1_init_55 : decode cX1_init 55 = .ok (.invokespecial 26, 3) := dk_183 0 26 (dk_at dksX1_init_2 10 rfl rfl)
theorem dX1_init_58 : decode cX1_init 58 = .ok (.invokevirtual 29, 3) := dk_182 0 29 (dk_at dksX1_init_2 13 rfl rfl)
theorem dX1_init_61 : decode cX1_init 61 = .ok (.pop, 1) := dk_87 (dk_at dksX1_init_2 16 rfl rfl)
theorem dX1_init_62 : decode cX1_init 62 = .ok (.iinc 1 1, 3) := dk_132 1 1 (dk_at dksX1_init_2 17 rfl rfl)
theorem dX1_init_65 : decode cX1_init 65 = .ok (.goto (-37), 3) := dk_167 255 219 (dk_at dksX1_init_2 20 rfl rfl)
theorem dX1_init_68 : decode cX1_init 68 = .ok (.return_, 1) := dk_177 (dk_at dksX1_init_2 23 rfl rfl)
abbrev cX1_intervals : ByteArray := prog_1_method_46_code
def yX1_intervals : MethodName := ⟨RX1, "intervals", "()I"⟩
def dkwX1_intervals_0 : List UInt8 := [42, 180, 0, 16, 182, 0, 121, 172]
abbrev dktX1_intervals_0 : List UInt8 := dkwX1_intervals_0 ++ []
theorem dksX1_intervals_0 : cX1_intervals.data.toList.drop 0 = dktX1_intervals_0 := by decide +kernel
theorem dX1_intervals_0 : decode cX1_intervals 0 = .ok (.aload_n 0, 1) := dk_42 (dk_at dksX1_intervals_0 0 rfl rfl)
theorem dX1_intervals_1 : decode cX1_intervals 1 = .ok (.getfield 16, 3) := dk_180 0 16 (dk_at dksX1_intervals_0 1 rfl rfl)
theorem dX1_intervals_4 : decode cX1_intervals 4 = .ok (.invokevirtual 121, 3) := dk_182 0 121 (dk_at dksX1_intervals_0 4 rfl rfl)
theorem dX1_intervals_7 : decode cX1_intervals 7 = .ok (.ireturn, 1) := dk_172 (dk_at dksX1_intervals_0 7 rfl rfl)
abbrev cX1_removeEmpty : ByteArray := prog_1_method_53_code
def yX1_removeEmpty : MethodName := ⟨RX1, "removeEmpty", "()I"⟩
def dkwX1_removeEmpty_2 : List UInt8 := [167, 255, 223, 27, 172]
abbrev dktX1_removeEmpty_2 : List UInt8 := dkwX1_removeEmpty_2 ++ []
def dkwX1_removeEmpty_1 : List UInt8 := [185, 0, 52, 1, 0, 192, 0, 239, 180, 0, 248, 154, 255, 235, 44, 185, 1, 24, 1, 0, 132, 1, 1]
abbrev dktX1_removeEmpty_1 : List UInt8 := dkwX1_removeEmpty_1 ++ dktX1_removeEmpty_2
def dkwX1_removeEmpty_0 : List UInt8 := [3, 60, 42, 180, 0, 16, 182, 0, 42, 77, 44, 185, 0, 46, 1, 0, 153, 0, 30, 44]
abbrev dktX1_removeEmpty_0 : List UInt8 := dkwX1_removeEmpty_0 ++ dktX1_removeEmpty_1
theorem dksX1_removeEmpty_0 : cX1_removeEmpty.data.toList.drop 0 = dktX1_removeEmpty_0 := by decide +kernel
theorem dksX1_removeEmpty_1 : cX1_removeEmpty.data.toList.drop 20 = dktX1_removeEmpty_1 := dk_seg dksX1_removeEmpty_0 20 rfl rfl
theorem dksX1_removeEmpty_2 : cX1_removeEmpty.data.toList.drop 43 = dktX1_removeEmpty_2 := dk_seg dksX1_removeEmpty_1 23 rfl rfl
theorem dX1_removeEmpty_0 : decode cX1_removeEmpty 0 = .ok (.iconst 0, 1) := dk_3 (dk_at dksX1_removeEmpty_0 0 rfl rfl)
theorem dX1_removeEmpty_1 : decode cX1_removeEmpty 1 = .ok (.istore_n 1, 1) := dk_60 (dk_at dksX1_removeEmpty_0 1 rfl rfl)
theorem dX1_removeEmpty_2 : decode cX1_removeEmpty 2 = .ok (.aload_n 0, 1) := dk_42 (dk_at dksX1_removeEmpty_0 2 rfl rfl)
theorem dX1_removeEmpty_3 : decode cX1_removeEmpty 3 = .ok (.getfield 16, 3) := dk_180 0 16 (dk_at dksX1_removeEmpty_0 3 rfl rfl)
theorem dX1_removeEmpty_6 : decode cX1_removeEmpty 6 = .ok (.invokevirtual 42, 3) := dk_182 0 42 (dk_at dksX1_removeEmpty_0 6 rfl rfl)
theorem dX1_removeEmpty_9 : decode cX1_removeEmpty 9 = .ok (.astore_n 2, 1) := dk_77 (dk_at dksX1_removeEmpty_0 9 rfl rfl)
theorem dX1_removeEmpty_10 : decode cX1_removeEmpty 10 = .ok (.aload_n 2, 1) := dk_44 (dk_at dksX1_removeEmpty_0 10 rfl rfl)
theorem dX1_removeEmpty_11 : decode cX1_removeEmpty 11 = .ok (.invokeinterface 46 1, 5) := by decide +kernel
theorem dX1_removeEmpty_16 : decode cX1_removeEmpty 16 = .ok (.ifCond .eq 30, 3) := dk_153 0 30 (dk_at dksX1_removeEmpty_0 16 rfl rfl)
theorem dX1_removeEmpty_19 : decode cX1_removeEmpty 19 = .ok (.aload_n 2, 1) := dk_44 (dk_at dksX1_removeEmpty_0 19 rfl rfl)
theorem dX1_removeEmpty_20 : decode cX1_removeEmpty 20 = .ok (.invokeinterface 52 1, 5) := by decide +kernel
theorem dX1_removeEmpty_25 : decode cX1_removeEmpty 25 = .ok (.checkcast 239, 3) := dk_192 0 239 (dk_at dksX1_removeEmpty_1 5 rfl rfl)
theorem dX1_removeEmpty_28 : decode cX1_removeEmpty 28 = .ok (.getfield 248, 3) := dk_180 0 248 (dk_at dksX1_removeEmpty_1 8 rfl rfl)
theorem dX1_removeEmpty_31 : decode cX1_removeEmpty 31 = .ok (.ifCond .ne (-21), 3) := dk_154 255 235 (dk_at dksX1_removeEmpty_1 11 rfl rfl)
theorem dX1_removeEmpty_34 : decode cX1_removeEmpty 34 = .ok (.aload_n 2, 1) := dk_44 (dk_at dksX1_removeEmpty_1 14 rfl rfl)
theorem dX1_removeEmpty_35 : decode cX1_removeEmpty 35 = .ok (.invokeinterface 280 1, 5) := by decide +kernel
theorem dX1_removeEmpty_40 : decode cX1_removeEmpty 40 = .ok (.iinc 1 1, 3) := dk_132 1 1 (dk_at dksX1_removeEmpty_1 20 rfl rfl)
theorem dX1_removeEmpty_43 : decode cX1_removeEmpty 43 = .ok (.goto (-33), 3) := dk_167 255 223 (dk_at dksX1_removeEmpty_2 0 rfl rfl)
theorem dX1_removeEmpty_46 : decode cX1_removeEmpty 46 = .ok (.iload_n 1, 1) := dk_27 (dk_at dksX1_removeEmpty_2 3 rfl rfl)
theorem dX1_removeEmpty_47 : decode cX1_removeEmpty 47 = .ok (.ireturn, 1) := dk_172 (dk_at dksX1_removeEmpty_2 4 rfl rfl)
abbrev cX1_checksum : ByteArray := prog_1_method_57_code
def yX1_checksum : MethodName := ⟨RX1, "checksum", "()J"⟩
def dkwX1_checksum_7 : List UInt8 := [167, 255, 190, 31, 173]
abbrev dktX1_checksum_7 : List UInt8 := dkwX1_checksum_7 ++ []
def dkwX1_checksum_6 : List UInt8 := [180, 0, 255, 133, 97, 105, 25, 4, 180, 1, 2, 133, 97, 105, 25, 4, 180, 0, 248, 133, 97, 64]
abbrev dktX1_checksum_6 : List UInt8 := dkwX1_checksum_6 ++ dktX1_checksum_7
def dkwX1_checksum_5 : List UInt8 := [20, 1, 37, 20, 1, 37, 20, 1, 37, 20, 1, 37, 31, 105, 25, 4, 180, 0, 252, 133, 97, 105, 25, 4]
abbrev dktX1_checksum_5 : List UInt8 := dkwX1_checksum_5 ++ dktX1_checksum_6
def dkwX1_checksum_4 : List UInt8 := [182, 0, 42, 78, 45, 185, 0, 46, 1, 0, 153, 0, 63, 45, 185, 0, 52, 1, 0, 192, 0, 239, 58, 4]
abbrev dktX1_checksum_4 : List UInt8 := dkwX1_checksum_4 ++ dktX1_checksum_5
def dkwX1_checksum_3 : List UInt8 := [167, 255, 200, 20, 1, 37, 31, 105, 42, 180, 0, 16, 182, 0, 121, 133, 97, 64, 42, 180, 0, 16]
abbrev dktX1_checksum_3 : List UInt8 := dkwX1_checksum_3 ++ dktX1_checksum_4
def dkwX1_checksum_2 : List UInt8 := [105, 25, 4, 180, 0, 141, 21, 5, 182, 0, 87, 182, 0, 206, 97, 64, 132, 5, 1, 167, 255, 226]
abbrev dktX1_checksum_2 : List UInt8 := dkwX1_checksum_2 ++ dktX1_checksum_3
def dkwX1_checksum_1 : List UInt8 := [185, 0, 52, 1, 0, 192, 0, 19, 58, 4, 3, 54, 5, 21, 5, 16, 6, 163, 0, 29, 20, 1, 37, 31]
abbrev dktX1_checksum_1 : List UInt8 := dkwX1_checksum_1 ++ dktX1_checksum_2
def dkwX1_checksum_0 : List UInt8 := [20, 1, 35, 64, 42, 180, 0, 10, 182, 0, 42, 78, 45, 185, 0, 46, 1, 0, 153, 0, 53, 45]
abbrev dktX1_checksum_0 : List UInt8 := dkwX1_checksum_0 ++ dktX1_checksum_1
theorem dksX1_checksum_0 : cX1_checksum.data.toList.drop 0 = dktX1_checksum_0 := by decide +kernel
theorem dksX1_checksum_1 : cX1_checksum.data.toList.drop 22 = dktX1_checksum_1 := dk_seg dksX1_checksum_0 22 rfl rfl
theorem dksX1_checksum_2 : cX1_checksum.data.toList.drop 46 = dktX1_checksum_2 := dk_seg dksX1_checksum_1 24 rfl rfl
theorem dksX1_checksum_3 : cX1_checksum.data.toList.drop 68 = dktX1_checksum_3 := dk_seg dksX1_checksum_2 22 rfl rfl
theorem dksX1_checksum_4 : cX1_checksum.data.toList.drop 90 = dktX1_checksum_4 := dk_seg dksX1_checksum_3 22 rfl rfl
theorem dksX1_checksum_5 : cX1_checksum.data.toList.drop 114 = dktX1_checksum_5 := dk_seg dksX1_checksum_4 24 rfl rfl
theorem dksX1_checksum_6 : cX1_checksum.data.toList.drop 138 = dktX1_checksum_6 := dk_seg dksX1_checksum_5 24 rfl rfl
theorem dksX1_checksum_7 : cX1_checksum.data.toList.drop 160 = dktX1_checksum_7 := dk_seg dksX1_checksum_6 22 rfl rfl
theorem dX1_checksum_0 : decode cX1_checksum 0 = .ok (.ldc2_w 291, 3) := dk_20 1 35 (dk_at dksX1_checksum_0 0 rfl rfl)
theorem dX1_checksum_3 : decode cX1_checksum 3 = .ok (.lstore_n 1, 1) := dk_64 (dk_at dksX1_checksum_0 3 rfl rfl)
theorem dX1_checksum_4 : decode cX1_checksum 4 = .ok (.aload_n 0, 1) := dk_42 (dk_at dksX1_checksum_0 4 rfl rfl)
theorem dX1_checksum_5 : decode cX1_checksum 5 = .ok (.getfield 10, 3) := dk_180 0 10 (dk_at dksX1_checksum_0 5 rfl rfl)
theorem dX1_checksum_8 : decode cX1_checksum 8 = .ok (.invokevirtual 42, 3) := dk_182 0 42 (dk_at dksX1_checksum_0 8 rfl rfl)
theorem dX1_checksum_11 : decode cX1_checksum 11 = .ok (.astore_n 3, 1) := dk_78 (dk_at dksX1_checksum_0 11 rfl rfl)
theorem dX1_checksum_12 : decode cX1_checksum 12 = .ok (.aload_n 3, 1) := dk_45 (dk_at dksX1_checksum_0 12 rfl rfl)
theorem dX1_checksum_13 : decode cX1_checksum 13 = .ok (.invokeinterface 46 1, 5) := by decide +kernel
theorem dX1_checksum_18 : decode cX1_checksum 18 = .ok (.ifCond .eq 53, 3) := dk_153 0 53 (dk_at dksX1_checksum_0 18 rfl rfl)
theorem dX1_checksum_21 : decode cX1_checksum 21 = .ok (.aload_n 3, 1) := dk_45 (dk_at dksX1_checksum_0 21 rfl rfl)
theorem dX1_checksum_22 : decode cX1_checksum 22 = .ok (.invokeinterface 52 1, 5) := by decide +kernel
theorem dX1_checksum_27 : decode cX1_checksum 27 = .ok (.checkcast 19, 3) := dk_192 0 19 (dk_at dksX1_checksum_1 5 rfl rfl)
theorem dX1_checksum_30 : decode cX1_checksum 30 = .ok (.astore 4, 2) := dk_58 4 (dk_at dksX1_checksum_1 8 rfl rfl)
theorem dX1_checksum_32 : decode cX1_checksum 32 = .ok (.iconst 0, 1) := dk_3 (dk_at dksX1_checksum_1 10 rfl rfl)
theorem dX1_checksum_33 : decode cX1_checksum 33 = .ok (.istore 5, 2) := dk_54 5 (dk_at dksX1_checksum_1 11 rfl rfl)
theorem dX1_checksum_35 : decode cX1_checksum 35 = .ok (.iload 5, 2) := dk_21 5 (dk_at dksX1_checksum_1 13 rfl rfl)
theorem dX1_checksum_37 : decode cX1_checksum 37 = .ok (.bipush 6, 2) := dk_16 6 (dk_at dksX1_checksum_1 15 rfl rfl)
theorem dX1_checksum_39 : decode cX1_checksum 39 = .ok (.if_icmp .gt 29, 3) := dk_163 0 29 (dk_at dksX1_checksum_1 17 rfl rfl)
theorem dX1_checksum_42 : decode cX1_checksum 42 = .ok (.ldc2_w 293, 3) := dk_20 1 37 (dk_at dksX1_checksum_1 20 rfl rfl)
theorem dX1_checksum_45 : decode cX1_checksum 45 = .ok (.lload_n 1, 1) := dk_31 (dk_at dksX1_checksum_1 23 rfl rfl)
theorem dX1_checksum_46 : decode cX1_checksum 46 = .ok (.lmul, 1) := dk_105 (dk_at dksX1_checksum_2 0 rfl rfl)
theorem dX1_checksum_47 : decode cX1_checksum 47 = .ok (.aload 4, 2) := dk_25 4 (dk_at dksX1_checksum_2 1 rfl rfl)
theorem dX1_checksum_49 : decode cX1_checksum 49 = .ok (.getfield 141, 3) := dk_180 0 141 (dk_at dksX1_checksum_2 3 rfl rfl)
theorem dX1_checksum_52 : decode cX1_checksum 52 = .ok (.iload 5, 2) := dk_21 5 (dk_at dksX1_checksum_2 6 rfl rfl)
theorem dX1_checksum_54 : decode cX1_checksum 54 = .ok (.invokevirtual 87, 3) := dk_182 0 87 (dk_at dksX1_checksum_2 8 rfl rfl)
theorem dX1_checksum_57 : decode cX1_checksum 57 = .ok (.invokevirtual 206, 3) := dk_182 0 206 (dk_at dksX1_checksum_2 11 rfl rfl)
theorem dX1_checksum_60 : decode cX1_checksum 60 = .ok (.ladd, 1) := dk_97 (dk_at dksX1_checksum_2 14 rfl rfl)
theorem dX1_checksum_61 : decode cX1_checksum 61 = .ok (.lstore_n 1, 1) := dk_64 (dk_at dksX1_checksum_2 15 rfl rfl)
theorem dX1_checksum_62 : decode cX1_checksum 62 = .ok (.iinc 5 1, 3) := dk_132 5 1 (dk_at dksX1_checksum_2 16 rfl rfl)
theorem dX1_checksum_65 : decode cX1_checksum 65 = .ok (.goto (-30), 3) := dk_167 255 226 (dk_at dksX1_checksum_2 19 rfl rfl)
theorem dX1_checksum_68 : decode cX1_checksum 68 = .ok (.goto (-56), 3) := dk_167 255 200 (dk_at dksX1_checksum_3 0 rfl rfl)
theorem dX1_checksum_71 : decode cX1_checksum 71 = .ok (.ldc2_w 293, 3) := dk_20 1 37 (dk_at dksX1_checksum_3 3 rfl rfl)
theorem dX1_checksum_74 : decode cX1_checksum 74 = .ok (.lload_n 1, 1) := dk_31 (dk_at dksX1_checksum_3 6 rfl rfl)
theorem dX1_checksum_75 : decode cX1_checksum 75 = .ok (.lmul, 1) := dk_105 (dk_at dksX1_checksum_3 7 rfl rfl)
theorem dX1_checksum_76 : decode cX1_checksum 76 = .ok (.aload_n 0, 1) := dk_42 (dk_at dksX1_checksum_3 8 rfl rfl)
theorem dX1_checksum_77 : decode cX1_checksum 77 = .ok (.getfield 16, 3) := dk_180 0 16 (dk_at dksX1_checksum_3 9 rfl rfl)
theorem dX1_checksum_80 : decode cX1_checksum 80 = .ok (.invokevirtual 121, 3) := dk_182 0 121 (dk_at dksX1_checksum_3 12 rfl rfl)
theorem dX1_checksum_83 : decode cX1_checksum 83 = .ok (.i2l, 1) := dk_133 (dk_at dksX1_checksum_3 15 rfl rfl)
theorem dX1_checksum_84 : decode cX1_checksum 84 = .ok (.ladd, 1) := dk_97 (dk_at dksX1_checksum_3 16 rfl rfl)
theorem dX1_checksum_85 : decode cX1_checksum 85 = .ok (.lstore_n 1, 1) := dk_64 (dk_at dksX1_checksum_3 17 rfl rfl)
theorem dX1_checksum_86 : decode cX1_checksum 86 = .ok (.aload_n 0, 1) := dk_42 (dk_at dksX1_checksum_3 18 rfl rfl)
theorem dX1_checksum_87 : decode cX1_checksum 87 = .ok (.getfield 16, 3) := dk_180 0 16 (dk_at dksX1_checksum_3 19 rfl rfl)
theorem dX1_checksum_90 : decode cX1_checksum 90 = .ok (.invokevirtual 42, 3) := dk_182 0 42 (dk_at dksX1_checksum_4 0 rfl rfl)
theorem dX1_checksum_93 : decode cX1_checksum 93 = .ok (.astore_n 3, 1) := dk_78 (dk_at dksX1_checksum_4 3 rfl rfl)
theorem dX1_checksum_94 : decode cX1_checksum 94 = .ok (.aload_n 3, 1) := dk_45 (dk_at dksX1_checksum_4 4 rfl rfl)
theorem dX1_checksum_95 : decode cX1_checksum 95 = .ok (.invokeinterface 46 1, 5) := by decide +kernel
theorem dX1_checksum_100 : decode cX1_checksum 100 = .ok (.ifCond .eq 63, 3) := dk_153 0 63 (dk_at dksX1_checksum_4 10 rfl rfl)
theorem dX1_checksum_103 : decode cX1_checksum 103 = .ok (.aload_n 3, 1) := dk_45 (dk_at dksX1_checksum_4 13 rfl rfl)
theorem dX1_checksum_104 : decode cX1_checksum 104 = .ok (.invokeinterface 52 1, 5) := by decide +kernel
theorem dX1_checksum_109 : decode cX1_checksum 109 = .ok (.checkcast 239, 3) := dk_192 0 239 (dk_at dksX1_checksum_4 19 rfl rfl)
theorem dX1_checksum_112 : decode cX1_checksum 112 = .ok (.astore 4, 2) := dk_58 4 (dk_at dksX1_checksum_4 22 rfl rfl)
theorem dX1_checksum_114 : decode cX1_checksum 114 = .ok (.ldc2_w 293, 3) := dk_20 1 37 (dk_at dksX1_checksum_5 0 rfl rfl)
theorem dX1_checksum_117 : decode cX1_checksum 117 = .ok (.ldc2_w 293, 3) := dk_20 1 37 (dk_at dksX1_checksum_5 3 rfl rfl)
theorem dX1_checksum_120 : decode cX1_checksum 120 = .ok (.ldc2_w 293, 3) := dk_20 1 37 (dk_at dksX1_checksum_5 6 rfl rfl)
theorem dX1_checksum_123 : decode cX1_checksum 123 = .ok (.ldc2_w 293, 3) := dk_20 1 37 (dk_at dksX1_checksum_5 9 rfl rfl)
theorem dX1_checksum_126 : decode cX1_checksum 126 = .ok (.lload_n 1, 1) := dk_31 (dk_at dksX1_checksum_5 12 rfl rfl)
theorem dX1_checksum_127 : decode cX1_checksum 127 = .ok (.lmul, 1) := dk_105 (dk_at dksX1_checksum_5 13 rfl rfl)
theorem dX1_checksum_128 : decode cX1_checksum 128 = .ok (.aload 4, 2) := dk_25 4 (dk_at dksX1_checksum_5 14 rfl rfl)
theorem dX1_checksum_130 : decode cX1_checksum 130 = .ok (.getfield 252, 3) := dk_180 0 252 (dk_at dksX1_checksum_5 16 rfl rfl)
theorem dX1_checksum_133 : decode cX1_checksum 133 = .ok (.i2l, 1) := dk_133 (dk_at dksX1_checksum_5 19 rfl rfl)
theorem dX1_checksum_134 : decode cX1_checksum 134 = .ok (.ladd, 1) := dk_97 (dk_at dksX1_checksum_5 20 rfl rfl)
theorem dX1_checksum_135 : decode cX1_checksum 135 = .ok (.lmul, 1) := dk_105 (dk_at dksX1_checksum_5 21 rfl rfl)
theorem dX1_checksum_136 : decode cX1_checksum 136 = .ok (.aload 4, 2) := dk_25 4 (dk_at dksX1_checksum_5 22 rfl rfl)
theorem dX1_checksum_138 : decode cX1_checksum 138 = .ok (.getfield 255, 3) := dk_180 0 255 (dk_at dksX1_checksum_6 0 rfl rfl)
theorem dX1_checksum_141 : decode cX1_checksum 141 = .ok (.i2l, 1) := dk_133 (dk_at dksX1_checksum_6 3 rfl rfl)
theorem dX1_checksum_142 : decode cX1_checksum 142 = .ok (.ladd, 1) := dk_97 (dk_at dksX1_checksum_6 4 rfl rfl)
theorem dX1_checksum_143 : decode cX1_checksum 143 = .ok (.lmul, 1) := dk_105 (dk_at dksX1_checksum_6 5 rfl rfl)
theorem dX1_checksum_144 : decode cX1_checksum 144 = .ok (.aload 4, 2) := dk_25 4 (dk_at dksX1_checksum_6 6 rfl rfl)
theorem dX1_checksum_146 : decode cX1_checksum 146 = .ok (.getfield 258, 3) := dk_180 1 2 (dk_at dksX1_checksum_6 8 rfl rfl)
theorem dX1_checksum_149 : decode cX1_checksum 149 = .ok (.i2l, 1) := dk_133 (dk_at dksX1_checksum_6 11 rfl rfl)
theorem dX1_checksum_150 : decode cX1_checksum 150 = .ok (.ladd, 1) := dk_97 (dk_at dksX1_checksum_6 12 rfl rfl)
theorem dX1_checksum_151 : decode cX1_checksum 151 = .ok (.lmul, 1) := dk_105 (dk_at dksX1_checksum_6 13 rfl rfl)
theorem dX1_checksum_152 : decode cX1_checksum 152 = .ok (.aload 4, 2) := dk_25 4 (dk_at dksX1_checksum_6 14 rfl rfl)
theorem dX1_checksum_154 : decode cX1_checksum 154 = .ok (.getfield 248, 3) := dk_180 0 248 (dk_at dksX1_checksum_6 16 rfl rfl)
theorem dX1_checksum_157 : decode cX1_checksum 157 = .ok (.i2l, 1) := dk_133 (dk_at dksX1_checksum_6 19 rfl rfl)
theorem dX1_checksum_158 : decode cX1_checksum 158 = .ok (.ladd, 1) := dk_97 (dk_at dksX1_checksum_6 20 rfl rfl)
theorem dX1_checksum_159 : decode cX1_checksum 159 = .ok (.lstore_n 1, 1) := dk_64 (dk_at dksX1_checksum_6 21 rfl rfl)
theorem dX1_checksum_160 : decode cX1_checksum 160 = .ok (.goto (-66), 3) := dk_167 255 190 (dk_at dksX1_checksum_7 0 rfl rfl)
theorem dX1_checksum_163 : decode cX1_checksum 163 = .ok (.lload_n 1, 1) := dk_31 (dk_at dksX1_checksum_7 3 rfl rfl)
theorem dX1_checksum_164 : decode cX1_checksum 164 = .ok (.lreturn, 1) := dk_173 (dk_at dksX1_checksum_7 4 rfl rfl)
abbrev cX1_number : ByteArray := prog_1_method_2_code
def yX1_number : MethodName := ⟨RX1, "number", "(J)Ljava/math/BigInteger;"⟩
theorem dX1_number_0 : decode cX1_number 0 = .ok (.lload_n 0, 1) := by decide +kernel
theorem dX1_number_1 : decode cX1_number 1 = .ok (.invokestatic 33, 3) := by decide +kernel
theorem dX1_number_4 : decode cX1_number 4 = .ok (.areturn, 1) := by decide +kernel
abbrev cX1_set : ByteArray := prog_1_method_22_code
def yX1_set : MethodName := ⟨RX1, "set", "(III)I"⟩
def dkwX1_set_4 : List UInt8 := [25, 5, 183, 0, 23, 182, 0, 167, 172]
abbrev dktX1_set_4 : List UInt8 := dkwX1_set_4 ++ []
def dkwX1_set_3 : List UInt8 := [25, 4, 21, 6, 182, 0, 87, 182, 0, 29, 87, 132, 6, 1, 167, 255, 219, 42, 27, 187, 0, 21, 89]
abbrev dktX1_set_3 : List UInt8 := dkwX1_set_3 ++ dktX1_set_4
def dkwX1_set_2 : List UInt8 := [21, 6, 16, 6, 163, 0, 36, 25, 5, 21, 6, 28, 160, 0, 11, 29, 133, 184, 0, 74, 167, 0, 10]
abbrev dktX1_set_2 : List UInt8 := dkwX1_set_2 ++ dktX1_set_3
def dkwX1_set_1 : List UInt8 := [183, 0, 140, 191, 42, 27, 182, 0, 145, 58, 4, 187, 0, 7, 89, 183, 0, 9, 58, 5, 3, 54, 6]
abbrev dktX1_set_1 : List UInt8 := dkwX1_set_1 ++ dktX1_set_2
def dkwX1_set_0 : List UInt8 := [27, 184, 0, 160, 28, 184, 0, 164, 29, 16, 157, 161, 0, 9, 29, 16, 99, 164, 0, 11, 187, 0, 138, 89]
abbrev dktX1_set_0 : List UInt8 := dkwX1_set_0 ++ dktX1_set_1
theorem dksX1_set_0 : cX1_set.data.toList.drop 0 = dktX1_set_0 := by decide +kernel
theorem dksX1_set_1 : cX1_set.data.toList.drop 24 = dktX1_set_1 := dk_seg dksX1_set_0 24 rfl rfl
theorem dksX1_set_2 : cX1_set.data.toList.drop 47 = dktX1_set_2 := dk_seg dksX1_set_1 23 rfl rfl
theorem dksX1_set_3 : cX1_set.data.toList.drop 70 = dktX1_set_3 := dk_seg dksX1_set_2 23 rfl rfl
theorem dksX1_set_4 : cX1_set.data.toList.drop 93 = dktX1_set_4 := dk_seg dksX1_set_3 23 rfl rfl
theorem dX1_set_0 : decode cX1_set 0 = .ok (.iload_n 1, 1) := dk_27 (dk_at dksX1_set_0 0 rfl rfl)
theorem dX1_set_1 : decode cX1_set 1 = .ok (.invokestatic 160, 3) := dk_184 0 160 (dk_at dksX1_set_0 1 rfl rfl)
theorem dX1_set_4 : decode cX1_set 4 = .ok (.iload_n 2, 1) := dk_28 (dk_at dksX1_set_0 4 rfl rfl)
theorem dX1_set_5 : decode cX1_set 5 = .ok (.invokestatic 164, 3) := dk_184 0 164 (dk_at dksX1_set_0 5 rfl rfl)
theorem dX1_set_8 : decode cX1_set 8 = .ok (.iload_n 3, 1) := dk_29 (dk_at dksX1_set_0 8 rfl rfl)
theorem dX1_set_9 : decode cX1_set 9 = .ok (.bipush (-99), 2) := dk_16 157 (dk_at dksX1_set_0 9 rfl rfl)
theorem dX1_set_11 : decode cX1_set 11 = .ok (.if_icmp .lt 9, 3) := dk_161 0 9 (dk_at dksX1_set_0 11 rfl rfl)
theorem dX1_set_14 : decode cX1_set 14 = .ok (.iload_n 3, 1) := dk_29 (dk_at dksX1_set_0 14 rfl rfl)
theorem dX1_set_15 : decode cX1_set 15 = .ok (.bipush 99, 2) := dk_16 99 (dk_at dksX1_set_0 15 rfl rfl)
theorem dX1_set_17 : decode cX1_set 17 = .ok (.if_icmp .le 11, 3) := dk_164 0 11 (dk_at dksX1_set_0 17 rfl rfl)
theorem dX1_set_20 : decode cX1_set 20 = .ok (.new 138, 3) := dk_187 0 138 (dk_at dksX1_set_0 20 rfl rfl)
theorem dX1_set_23 : decode cX1_set 23 = .ok (.dup, 1) := dk_89 (dk_at dksX1_set_0 23 rfl rfl)
theorem dX1_set_24 : decode cX1_set 24 = .ok (.invokespecial 140, 3) := dk_183 0 140 (dk_at dksX1_set_1 0 rfl rfl)
theorem dX1_set_27 : decode cX1_set 27 = .ok (.athrow, 1) := dk_191 (dk_at dksX1_set_1 3 rfl rfl)
theorem dX1_set_28 : decode cX1_set 28 = .ok (.aload_n 0, 1) := dk_42 (dk_at dksX1_set_1 4 rfl rfl)
theorem dX1_set_29 : decode cX1_set 29 = .ok (.iload_n 1, 1) := dk_27 (dk_at dksX1_set_1 5 rfl rfl)
theorem dX1_set_30 : decode cX1_set 30 = .ok (.invokevirtual 145, 3) := dk_182 0 145 (dk_at dksX1_set_1 6 rfl rfl)
theorem dX1_set_33 : decode cX1_set 33 = .ok (.astore 4, 2) := dk_58 4 (dk_at dksX1_set_1 9 rfl rfl)
theorem dX1_set_35 : decode cX1_set 35 = .ok (.new 7, 3) := dk_187 0 7 (dk_at dksX1_set_1 11 rfl rfl)
theorem dX1_set_38 : decode cX1_set 38 = .ok (.dup, 1) := dk_89 (dk_at dksX1_set_1 14 rfl rfl)
theorem dX1_set_39 : decode cX1_set 39 = .ok (.invokespecial 9, 3) := dk_183 0 9 (dk_at dksX1_set_1 15 rfl rfl)
theorem dX1_set_42 : decode cX1_set 42 = .ok (.astore 5, 2) := dk_58 5 (dk_at dksX1_set_1 18 rfl rfl)
theorem dX1_set_44 : decode cX1_set 44 = .ok (.iconst 0, 1) := dk_3 (dk_at dksX1_set_1 20 rfl rfl)
theorem dX1_set_45 : decode cX1_set 45 = .ok (.istore 6, 2) := dk_54 6 (dk_at dksX1_set_1 21 rfl rfl)
theorem dX1_set_47 : decode cX1_set 47 = .ok (.iload 6, 2) := dk_21 6 (dk_at dksX1_set_2 0 rfl rfl)
theorem dX1_set_49 : decode cX1_set 49 = .ok (.bipush 6, 2) := dk_16 6 (dk_at dksX1_set_2 2 rfl rfl)
theorem dX1_set_51 : decode cX1_set 51 = .ok (.if_icmp .gt 36, 3) := dk_163 0 36 (dk_at dksX1_set_2 4 rfl rfl)
theorem dX1_set_54 : decode cX1_set 54 = .ok (.aload 5, 2) := dk_25 5 (dk_at dksX1_set_2 7 rfl rfl)
theorem dX1_set_56 : decode cX1_set 56 = .ok (.iload 6, 2) := dk_21 6 (dk_at dksX1_set_2 9 rfl rfl)
theorem dX1_set_58 : decode cX1_set 58 = .ok (.iload_n 2, 1) := dk_28 (dk_at dksX1_set_2 11 rfl rfl)
theorem dX1_set_59 : decode cX1_set 59 = .ok (.if_icmp .ne 11, 3) := dk_160 0 11 (dk_at dksX1_set_2 12 rfl rfl)
theorem dX1_set_62 : decode cX1_set 62 = .ok (.iload_n 3, 1) := dk_29 (dk_at dksX1_set_2 15 rfl rfl)
theorem dX1_set_63 : decode cX1_set 63 = .ok (.i2l, 1) := dk_133 (dk_at dksX1_set_2 16 rfl rfl)
theorem dX1_set_64 : decode cX1_set 64 = .ok (.invokestatic 74, 3) := dk_184 0 74 (dk_at dksX1_set_2 17 rfl rfl)
theorem dX1_set_67 : decode cX1_set 67 = .ok (.goto 10, 3) := dk_167 0 10 (dk_at dksX1_set_2 20 rfl rfl)
theorem dX1_set_70 : decode cX1_set 70 = .ok (.aload 4, 2) := dk_25 4 (dk_at dksX1_set_3 0 rfl rfl)
theorem dX1_set_72 : decode cX1_set 72 = .ok (.iload 6, 2) := dk_21 6 (dk_at dksX1_set_3 2 rfl rfl)
theorem dX1_set_74 : decode cX1_set 74 = .ok (.invokevirtual 87, 3) := dk_182 0 87 (dk_at dksX1_set_3 4 rfl rfl)
theorem dX1_set_77 : decode cX1_set 77 = .ok (.invokevirtual 29, 3) := dk_182 0 29 (dk_at dksX1_set_3 7 rfl rfl)
theorem dX1_set_80 : decode cX1_set 80 = .ok (.pop, 1) := dk_87 (dk_at dksX1_set_3 10 rfl rfl)
theorem dX1_set_81 : decode cX1_set 81 = .ok (.iinc 6 1, 3) := dk_132 6 1 (dk_at dksX1_set_3 11 rfl rfl)
theorem dX1_set_84 : decode cX1_set 84 = .ok (.goto (-37), 3) := dk_167 255 219 (dk_at dksX1_set_3 14 rfl rfl)
theorem dX1_set_87 : decode cX1_set 87 = .ok (.aload_n 0, 1) := dk_42 (dk_at dksX1_set_3 17 rfl rfl)
theorem dX1_set_88 : decode cX1_set 88 = .ok (.iload_n 1, 1) := dk_27 (dk_at dksX1_set_3 18 rfl rfl)
theorem dX1_set_89 : decode cX1_set 89 = .ok (.new 21, 3) := dk_187 0 21 (dk_at dksX1_set_3 19 rfl rfl)
theorem dX1_set_92 : decode cX1_set 92 = .ok (.dup, 1) := dk_89 (dk_at dksX1_set_3 22 rfl rfl)
theorem dX1_set_93 : decode cX1_set 93 = .ok (.aload 5, 2) := dk_25 5 (dk_at dksX1_set_4 0 rfl rfl)
theorem dX1_set_95 : decode cX1_set 95 = .ok (.invokespecial 23, 3) := dk_183 0 23 (dk_at dksX1_set_4 2 rfl rfl)
theorem dX1_set_98 : decode cX1_set 98 = .ok (.invokevirtual 167, 3) := dk_182 0 167 (dk_at dksX1_set_4 5 rfl rfl)
theorem dX1_set_101 : decode cX1_set 101 = .ok (.ireturn, 1) := dk_172 (dk_at dksX1_set_4 8 rfl rfl)
abbrev cX1_mustBeSlot : ByteArray := prog_1_method_15_code
def yX1_mustBeSlot : MethodName := ⟨RX1, "mustBeSlot", "(I)V"⟩
def dkwX1_mustBeSlot_0 : List UInt8 := [26, 155, 0, 8, 26, 8, 161, 0, 11, 187, 0, 133, 89, 183, 0, 135, 191, 177]
abbrev dktX1_mustBeSlot_0 : List UInt8 := dkwX1_mustBeSlot_0 ++ []
theorem dksX1_mustBeSlot_0 : cX1_mustBeSlot.data.toList.drop 0 = dktX1_mustBeSlot_0 := by decide +kernel
theorem dX1_mustBeSlot_0 : decode cX1_mustBeSlot 0 = .ok (.iload_n 0, 1) := dk_26 (dk_at dksX1_mustBeSlot_0 0 rfl rfl)
theorem dX1_mustBeSlot_1 : decode cX1_mustBeSlot 1 = .ok (.ifCond .lt 8, 3) := dk_155 0 8 (dk_at dksX1_mustBeSlot_0 1 rfl rfl)
theorem dX1_mustBeSlot_4 : decode cX1_mustBeSlot 4 = .ok (.iload_n 0, 1) := dk_26 (dk_at dksX1_mustBeSlot_0 4 rfl rfl)
theorem dX1_mustBeSlot_5 : decode cX1_mustBeSlot 5 = .ok (.iconst 5, 1) := dk_8 (dk_at dksX1_mustBeSlot_0 5 rfl rfl)
theorem dX1_mustBeSlot_6 : decode cX1_mustBeSlot 6 = .ok (.if_icmp .lt 11, 3) := dk_161 0 11 (dk_at dksX1_mustBeSlot_0 6 rfl rfl)
theorem dX1_mustBeSlot_9 : decode cX1_mustBeSlot 9 = .ok (.new 133, 3) := dk_187 0 133 (dk_at dksX1_mustBeSlot_0 9 rfl rfl)
theorem dX1_mustBeSlot_12 : decode cX1_mustBeSlot 12 = .ok (.dup, 1) := dk_89 (dk_at dksX1_mustBeSlot_0 12 rfl rfl)
theorem dX1_mustBeSlot_13 : decode cX1_mustBeSlot 13 = .ok (.invokespecial 135, 3) := dk_183 0 135 (dk_at dksX1_mustBeSlot_0 13 rfl rfl)
theorem dX1_mustBeSlot_16 : decode cX1_mustBeSlot 16 = .ok (.athrow, 1) := dk_191 (dk_at dksX1_mustBeSlot_0 16 rfl rfl)
theorem dX1_mustBeSlot_17 : decode cX1_mustBeSlot 17 = .ok (.return_, 1) := dk_177 (dk_at dksX1_mustBeSlot_0 17 rfl rfl)
abbrev cX1_mustBePower : ByteArray := prog_1_method_16_code
def yX1_mustBePower : MethodName := ⟨RX1, "mustBePower", "(I)V"⟩
def dkwX1_mustBePower_0 : List UInt8 := [26, 155, 0, 9, 26, 16, 6, 164, 0, 11, 187, 0, 133, 89, 183, 0, 135, 191, 177]
abbrev dktX1_mustBePower_0 : List UInt8 := dkwX1_mustBePower_0 ++ []
theorem dksX1_mustBePower_0 : cX1_mustBePower.data.toList.drop 0 = dktX1_mustBePower_0 := by decide +kernel
theorem dX1_mustBePower_0 : decode cX1_mustBePower 0 = .ok (.iload_n 0, 1) := dk_26 (dk_at dksX1_mustBePower_0 0 rfl rfl)
theorem dX1_mustBePower_1 : decode cX1_mustBePower 1 = .ok (.ifCond .lt 9, 3) := dk_155 0 9 (dk_at dksX1_mustBePower_0 1 rfl rfl)
theorem dX1_mustBePower_4 : decode cX1_mustBePower 4 = .ok (.iload_n 0, 1) := dk_26 (dk_at dksX1_mustBePower_0 4 rfl rfl)
theorem dX1_mustBePower_5 : decode cX1_mustBePower 5 = .ok (.bipush 6, 2) := dk_16 6 (dk_at dksX1_mustBePower_0 5 rfl rfl)
theorem dX1_mustBePower_7 : decode cX1_mustBePower 7 = .ok (.if_icmp .le 11, 3) := dk_164 0 11 (dk_at dksX1_mustBePower_0 7 rfl rfl)
theorem dX1_mustBePower_10 : decode cX1_mustBePower 10 = .ok (.new 133, 3) := dk_187 0 133 (dk_at dksX1_mustBePower_0 10 rfl rfl)
theorem dX1_mustBePower_13 : decode cX1_mustBePower 13 = .ok (.dup, 1) := dk_89 (dk_at dksX1_mustBePower_0 13 rfl rfl)
theorem dX1_mustBePower_14 : decode cX1_mustBePower 14 = .ok (.invokespecial 135, 3) := dk_183 0 135 (dk_at dksX1_mustBePower_0 14 rfl rfl)
theorem dX1_mustBePower_17 : decode cX1_mustBePower 17 = .ok (.athrow, 1) := dk_191 (dk_at dksX1_mustBePower_0 17 rfl rfl)
theorem dX1_mustBePower_18 : decode cX1_mustBePower 18 = .ok (.return_, 1) := dk_177 (dk_at dksX1_mustBePower_0 18 rfl rfl)
abbrev cX1_poly : ByteArray := prog_1_method_18_code
def yX1_poly : MethodName := ⟨RX1, "poly", "(I)LSturmRoots$Poly;"⟩
def dkwX1_poly_0 : List UInt8 := [42, 180, 0, 10, 27, 182, 0, 117, 192, 0, 19, 180, 0, 141, 176]
abbrev dktX1_poly_0 : List UInt8 := dkwX1_poly_0 ++ []
theorem dksX1_poly_0 : cX1_poly.data.toList.drop 0 = dktX1_poly_0 := by decide +kernel
theorem dX1_poly_0 : decode cX1_poly 0 = .ok (.aload_n 0, 1) := dk_42 (dk_at dksX1_poly_0 0 rfl rfl)
theorem dX1_poly_1 : decode cX1_poly 1 = .ok (.getfield 10, 3) := dk_180 0 10 (dk_at dksX1_poly_0 1 rfl rfl)
theorem dX1_poly_4 : decode cX1_poly 4 = .ok (.iload_n 1, 1) := dk_27 (dk_at dksX1_poly_0 4 rfl rfl)
theorem dX1_poly_5 : decode cX1_poly 5 = .ok (.invokevirtual 117, 3) := dk_182 0 117 (dk_at dksX1_poly_0 5 rfl rfl)
theorem dX1_poly_8 : decode cX1_poly 8 = .ok (.checkcast 19, 3) := dk_192 0 19 (dk_at dksX1_poly_0 8 rfl rfl)
theorem dX1_poly_11 : decode cX1_poly 11 = .ok (.getfield 141, 3) := dk_180 0 141 (dk_at dksX1_poly_0 11 rfl rfl)
theorem dX1_poly_14 : decode cX1_poly 14 = .ok (.areturn, 1) := dk_176 (dk_at dksX1_poly_0 14 rfl rfl)
abbrev cX1_store : ByteArray := prog_1_method_21_code
def yX1_store : MethodName := ⟨RX1, "store", "(ILSturmRoots$Poly;)I"⟩
def dkwX1_store_5 : List UInt8 := [182, 0, 60, 172]
abbrev dktX1_store_5 : List UInt8 := dkwX1_store_5 ++ []
def dkwX1_store_4 : List UInt8 := [183, 0, 159, 191, 42, 180, 0, 10, 27, 187, 0, 19, 89, 44, 183, 0, 26, 182, 0, 100, 87, 44]
abbrev dktX1_store_4 : List UInt8 := dkwX1_store_4 ++ dktX1_store_5
def dkwX1_store_3 : List UInt8 := [157, 0, 7, 4, 167, 0, 4, 3, 54, 4, 167, 255, 210, 21, 4, 154, 0, 11, 187, 0, 157, 89]
abbrev dktX1_store_3 : List UInt8 := dkwX1_store_3 ++ dktX1_store_4
def dkwX1_store_2 : List UInt8 := [185, 0, 52, 1, 0, 192, 0, 34, 58, 6, 21, 4, 153, 0, 19, 25, 6, 182, 0, 94, 45, 182, 0, 153]
abbrev dktX1_store_2 : List UInt8 := dkwX1_store_2 ++ dktX1_store_3
def dkwX1_store_1 : List UInt8 := [180, 0, 39, 182, 0, 42, 58, 5, 25, 5, 185, 0, 46, 1, 0, 153, 0, 42, 25, 5]
abbrev dktX1_store_1 : List UInt8 := dkwX1_store_1 ++ dktX1_store_2
def dkwX1_store_0 : List UInt8 := [20, 0, 151, 184, 0, 74, 78, 44, 182, 0, 60, 16, 6, 163, 0, 7, 4, 167, 0, 4, 3, 54, 4, 44]
abbrev dktX1_store_0 : List UInt8 := dkwX1_store_0 ++ dktX1_store_1
theorem dksX1_store_0 : cX1_store.data.toList.drop 0 = dktX1_store_0 := by decide +kernel
theorem dksX1_store_1 : cX1_store.data.toList.drop 24 = dktX1_store_1 := dk_seg dksX1_store_0 24 rfl rfl
theorem dksX1_store_2 : cX1_store.data.toList.drop 44 = dktX1_store_2 := dk_seg dksX1_store_1 20 rfl rfl
theorem dksX1_store_3 : cX1_store.data.toList.drop 68 = dktX1_store_3 := dk_seg dksX1_store_2 24 rfl rfl
theorem dksX1_store_4 : cX1_store.data.toList.drop 90 = dktX1_store_4 := dk_seg dksX1_store_3 22 rfl rfl
theorem dksX1_store_5 : cX1_store.data.toList.drop 112 = dktX1_store_5 := dk_seg dksX1_store_4 22 rfl rfl
theorem dX1_store_0 : decode cX1_store 0 = .ok (.ldc2_w 151, 3) := dk_20 0 151 (dk_at dksX1_store_0 0 rfl rfl)
theorem dX1_store_3 : decode cX1_store 3 = .ok (.invokestatic 74, 3) := dk_184 0 74 (dk_at dksX1_store_0 3 rfl rfl)
theorem dX1_store_6 : decode cX1_store 6 = .ok (.astore_n 3, 1) := dk_78 (dk_at dksX1_store_0 6 rfl rfl)
theorem dX1_store_7 : decode cX1_store 7 = .ok (.aload_n 2, 1) := dk_44 (dk_at dksX1_store_0 7 rfl rfl)
theorem dX1_store_8 : decode cX1_store 8 = .ok (.invokevirtual 60, 3) := dk_182 0 60 (dk_at dksX1_store_0 8 rfl rfl)
theorem dX1_store_11 : decode cX1_store 11 = .ok (.bipush 6, 2) := dk_16 6 (dk_at dksX1_store_0 11 rfl rfl)
theorem dX1_store_13 : decode cX1_store 13 = .ok (.if_icmp .gt 7, 3) := dk_163 0 7 (dk_at dksX1_store_0 13 rfl rfl)
theorem dX1_store_16 : decode cX1_store 16 = .ok (.iconst 1, 1) := dk_4 (dk_at dksX1_store_0 16 rfl rfl)
theorem dX1_store_17 : decode cX1_store 17 = .ok (.goto 4, 3) := dk_167 0 4 (dk_at dksX1_store_0 17 rfl rfl)
theorem dX1_store_20 : decode cX1_store 20 = .ok (.iconst 0, 1) := dk_3 (dk_at dksX1_store_0 20 rfl rfl)
theorem dX1_store_21 : decode cX1_store 21 = .ok (.istore 4, 2) := dk_54 4 (dk_at dksX1_store_0 21 rfl rfl)
theorem dX1_store_23 : decode cX1_store 23 = .ok (.aload_n 2, 1) := dk_44 (dk_at dksX1_store_0 23 rfl rfl)
theorem dX1_store_24 : decode cX1_store 24 = .ok (.getfield 39, 3) := dk_180 0 39 (dk_at dksX1_store_1 0 rfl rfl)
theorem dX1_store_27 : decode cX1_store 27 = .ok (.invokevirtual 42, 3) := dk_182 0 42 (dk_at dksX1_store_1 3 rfl rfl)
theorem dX1_store_30 : decode cX1_store 30 = .ok (.astore 5, 2) := dk_58 5 (dk_at dksX1_store_1 6 rfl rfl)
theorem dX1_store_32 : decode cX1_store 32 = .ok (.aload 5, 2) := dk_25 5 (dk_at dksX1_store_1 8 rfl rfl)
theorem dX1_store_34 : decode cX1_store 34 = .ok (.invokeinterface 46 1, 5) := by decide +kernel
theorem dX1_store_39 : decode cX1_store 39 = .ok (.ifCond .eq 42, 3) := dk_153 0 42 (dk_at dksX1_store_1 15 rfl rfl)
theorem dX1_store_42 : decode cX1_store 42 = .ok (.aload 5, 2) := dk_25 5 (dk_at dksX1_store_1 18 rfl rfl)
theorem dX1_store_44 : decode cX1_store 44 = .ok (.invokeinterface 52 1, 5) := by decide +kernel
theorem dX1_store_49 : decode cX1_store 49 = .ok (.checkcast 34, 3) := dk_192 0 34 (dk_at dksX1_store_2 5 rfl rfl)
theorem dX1_store_52 : decode cX1_store 52 = .ok (.astore 6, 2) := dk_58 6 (dk_at dksX1_store_2 8 rfl rfl)
theorem dX1_store_54 : decode cX1_store 54 = .ok (.iload 4, 2) := dk_21 4 (dk_at dksX1_store_2 10 rfl rfl)
theorem dX1_store_56 : decode cX1_store 56 = .ok (.ifCond .eq 19, 3) := dk_153 0 19 (dk_at dksX1_store_2 12 rfl rfl)
theorem dX1_store_59 : decode cX1_store 59 = .ok (.aload 6, 2) := dk_25 6 (dk_at dksX1_store_2 15 rfl rfl)
theorem dX1_store_61 : decode cX1_store 61 = .ok (.invokevirtual 94, 3) := dk_182 0 94 (dk_at dksX1_store_2 17 rfl rfl)
theorem dX1_store_64 : decode cX1_store 64 = .ok (.aload_n 3, 1) := dk_45 (dk_at dksX1_store_2 20 rfl rfl)
theorem dX1_store_65 : decode cX1_store 65 = .ok (.invokevirtual 153, 3) := dk_182 0 153 (dk_at dksX1_store_2 21 rfl rfl)
theorem dX1_store_68 : decode cX1_store 68 = .ok (.ifCond .gt 7, 3) := dk_157 0 7 (dk_at dksX1_store_3 0 rfl rfl)
theorem dX1_store_71 : decode cX1_store 71 = .ok (.iconst 1, 1) := dk_4 (dk_at dksX1_store_3 3 rfl rfl)
theorem dX1_store_72 : decode cX1_store 72 = .ok (.goto 4, 3) := dk_167 0 4 (dk_at dksX1_store_3 4 rfl rfl)
theorem dX1_store_75 : decode cX1_store 75 = .ok (.iconst 0, 1) := dk_3 (dk_at dksX1_store_3 7 rfl rfl)
theorem dX1_store_76 : decode cX1_store 76 = .ok (.istore 4, 2) := dk_54 4 (dk_at dksX1_store_3 8 rfl rfl)
theorem dX1_store_78 : decode cX1_store 78 = .ok (.goto (-46), 3) := dk_167 255 210 (dk_at dksX1_store_3 10 rfl rfl)
theorem dX1_store_81 : decode cX1_store 81 = .ok (.iload 4, 2) := dk_21 4 (dk_at dksX1_store_3 13 rfl rfl)
theorem dX1_store_83 : decode cX1_store 83 = .ok (.ifCond .ne 11, 3) := dk_154 0 11 (dk_at dksX1_store_3 15 rfl rfl)
theorem dX1_store_86 : decode cX1_store 86 = .ok (.new 157, 3) := dk_187 0 157 (dk_at dksX1_store_3 18 rfl rfl)
theorem dX1_store_89 : decode cX1_store 89 = .ok (.dup, 1) := dk_89 (dk_at dksX1_store_3 21 rfl rfl)
theorem dX1_store_90 : decode cX1_store 90 = .ok (.invokespecial 159, 3) := dk_183 0 159 (dk_at dksX1_store_4 0 rfl rfl)
theorem dX1_store_93 : decode cX1_store 93 = .ok (.athrow, 1) := dk_191 (dk_at dksX1_store_4 3 rfl rfl)
theorem dX1_store_94 : decode cX1_store 94 = .ok (.aload_n 0, 1) := dk_42 (dk_at dksX1_store_4 4 rfl rfl)
theorem dX1_store_95 : decode cX1_store 95 = .ok (.getfield 10, 3) := dk_180 0 10 (dk_at dksX1_store_4 5 rfl rfl)
theorem dX1_store_98 : decode cX1_store 98 = .ok (.iload_n 1, 1) := dk_27 (dk_at dksX1_store_4 8 rfl rfl)
theorem dX1_store_99 : decode cX1_store 99 = .ok (.new 19, 3) := dk_187 0 19 (dk_at dksX1_store_4 9 rfl rfl)
theorem dX1_store_102 : decode cX1_store 102 = .ok (.dup, 1) := dk_89 (dk_at dksX1_store_4 12 rfl rfl)
theorem dX1_store_103 : decode cX1_store 103 = .ok (.aload_n 2, 1) := dk_44 (dk_at dksX1_store_4 13 rfl rfl)
theorem dX1_store_104 : decode cX1_store 104 = .ok (.invokespecial 26, 3) := dk_183 0 26 (dk_at dksX1_store_4 14 rfl rfl)
theorem dX1_store_107 : decode cX1_store 107 = .ok (.invokevirtual 100, 3) := dk_182 0 100 (dk_at dksX1_store_4 17 rfl rfl)
theorem dX1_store_110 : decode cX1_store 110 = .ok (.pop, 1) := dk_87 (dk_at dksX1_store_4 20 rfl rfl)
theorem dX1_store_111 : decode cX1_store 111 = .ok (.aload_n 2, 1) := dk_44 (dk_at dksX1_store_4 21 rfl rfl)
theorem dX1_store_112 : decode cX1_store 112 = .ok (.invokevirtual 60, 3) := dk_182 0 60 (dk_at dksX1_store_5 0 rfl rfl)
theorem dX1_store_115 : decode cX1_store 115 = .ok (.ireturn, 1) := dk_172 (dk_at dksX1_store_5 3 rfl rfl)
abbrev cX1_coefficient : ByteArray := prog_1_method_23_code
def yX1_coefficient : MethodName := ⟨RX1, "coefficient", "(II)I"⟩
def dkwX1_coefficient_0 : List UInt8 := [27, 184, 0, 160, 28, 184, 0, 164, 42, 27, 182, 0, 145, 28, 182, 0, 87, 182, 0, 171, 172]
abbrev dktX1_coefficient_0 : List UInt8 := dkwX1_coefficient_0 ++ []
theorem dksX1_coefficient_0 : cX1_coefficient.data.toList.drop 0 = dktX1_coefficient_0 := by decide +kernel
theorem dX1_coefficient_0 : decode cX1_coefficient 0 = .ok (.iload_n 1, 1) := dk_27 (dk_at dksX1_coefficient_0 0 rfl rfl)
theorem dX1_coefficient_1 : decode cX1_coefficient 1 = .ok (.invokestatic 160, 3) := dk_184 0 160 (dk_at dksX1_coefficient_0 1 rfl rfl)
theorem dX1_coefficient_4 : decode cX1_coefficient 4 = .ok (.iload_n 2, 1) := dk_28 (dk_at dksX1_coefficient_0 4 rfl rfl)
theorem dX1_coefficient_5 : decode cX1_coefficient 5 = .ok (.invokestatic 164, 3) := dk_184 0 164 (dk_at dksX1_coefficient_0 5 rfl rfl)
theorem dX1_coefficient_8 : decode cX1_coefficient 8 = .ok (.aload_n 0, 1) := dk_42 (dk_at dksX1_coefficient_0 8 rfl rfl)
theorem dX1_coefficient_9 : decode cX1_coefficient 9 = .ok (.iload_n 1, 1) := dk_27 (dk_at dksX1_coefficient_0 9 rfl rfl)
theorem dX1_coefficient_10 : decode cX1_coefficient 10 = .ok (.invokevirtual 145, 3) := dk_182 0 145 (dk_at dksX1_coefficient_0 10 rfl rfl)
theorem dX1_coefficient_13 : decode cX1_coefficient 13 = .ok (.iload_n 2, 1) := dk_28 (dk_at dksX1_coefficient_0 13 rfl rfl)
theorem dX1_coefficient_14 : decode cX1_coefficient 14 = .ok (.invokevirtual 87, 3) := dk_182 0 87 (dk_at dksX1_coefficient_0 14 rfl rfl)
theorem dX1_coefficient_17 : decode cX1_coefficient 17 = .ok (.invokevirtual 171, 3) := dk_182 0 171 (dk_at dksX1_coefficient_0 17 rfl rfl)
theorem dX1_coefficient_20 : decode cX1_coefficient 20 = .ok (.ireturn, 1) := dk_172 (dk_at dksX1_coefficient_0 20 rfl rfl)
abbrev cX1_degree : ByteArray := prog_1_method_24_code
def yX1_degree : MethodName := ⟨RX1, "degree", "(I)I"⟩
def dkwX1_degree_0 : List UInt8 := [27, 184, 0, 160, 42, 27, 182, 0, 145, 182, 0, 60, 172]
abbrev dktX1_degree_0 : List UInt8 := dkwX1_degree_0 ++ []
theorem dksX1_degree_0 : cX1_degree.data.toList.drop 0 = dktX1_degree_0 := by decide +kernel
theorem dX1_degree_0 : decode cX1_degree 0 = .ok (.iload_n 1, 1) := dk_27 (dk_at dksX1_degree_0 0 rfl rfl)
theorem dX1_degree_1 : decode cX1_degree 1 = .ok (.invokestatic 160, 3) := dk_184 0 160 (dk_at dksX1_degree_0 1 rfl rfl)
theorem dX1_degree_4 : decode cX1_degree 4 = .ok (.aload_n 0, 1) := dk_42 (dk_at dksX1_degree_0 4 rfl rfl)
theorem dX1_degree_5 : decode cX1_degree 5 = .ok (.iload_n 1, 1) := dk_27 (dk_at dksX1_degree_0 5 rfl rfl)
theorem dX1_degree_6 : decode cX1_degree 6 = .ok (.invokevirtual 145, 3) := dk_182 0 145 (dk_at dksX1_degree_0 6 rfl rfl)
theorem dX1_degree_9 : decode cX1_degree 9 = .ok (.invokevirtual 60, 3) := dk_182 0 60 (dk_at dksX1_degree_0 9 rfl rfl)
theorem dX1_degree_12 : decode cX1_degree 12 = .ok (.ireturn, 1) := dk_172 (dk_at dksX1_degree_0 12 rfl rfl)
abbrev cX1_copy : ByteArray := prog_1_method_25_code
def yX1_copy : MethodName := ⟨RX1, "copy", "(II)I"⟩
def dkwX1_copy_1 : List UInt8 := [182, 0, 100, 87, 42, 28, 182, 0, 145, 182, 0, 60, 172]
abbrev dktX1_copy_1 : List UInt8 := dkwX1_copy_1 ++ []
def dkwX1_copy_0 : List UInt8 := [27, 184, 0, 160, 28, 184, 0, 160, 42, 180, 0, 10, 28, 42, 180, 0, 10, 27, 182, 0, 117, 192, 0, 19]
abbrev dktX1_copy_0 : List UInt8 := dkwX1_copy_0 ++ dktX1_copy_1
theorem dksX1_copy_0 : cX1_copy.data.toList.drop 0 = dktX1_copy_0 := by decide +kernel
theorem dksX1_copy_1 : cX1_copy.data.toList.drop 24 = dktX1_copy_1 := dk_seg dksX1_copy_0 24 rfl rfl
theorem dX1_copy_0 : decode cX1_copy 0 = .ok (.iload_n 1, 1) := dk_27 (dk_at dksX1_copy_0 0 rfl rfl)
theorem dX1_copy_1 : decode cX1_copy 1 = .ok (.invokestatic 160, 3) := dk_184 0 160 (dk_at dksX1_copy_0 1 rfl rfl)
theorem dX1_copy_4 : decode cX1_copy 4 = .ok (.iload_n 2, 1) := dk_28 (dk_at dksX1_copy_0 4 rfl rfl)
theorem dX1_copy_5 : decode cX1_copy 5 = .ok (.invokestatic 160, 3) := dk_184 0 160 (dk_at dksX1_copy_0 5 rfl rfl)
theorem dX1_copy_8 : decode cX1_copy 8 = .ok (.aload_n 0, 1) := dk_42 (dk_at dksX1_copy_0 8 rfl rfl)
theorem dX1_copy_9 : decode cX1_copy 9 = .ok (.getfield 10, 3) := dk_180 0 10 (dk_at dksX1_copy_0 9 rfl rfl)
theorem dX1_copy_12 : decode cX1_copy 12 = .ok (.iload_n 2, 1) := dk_28 (dk_at dksX1_copy_0 12 rfl rfl)
theorem dX1_copy_13 : decode cX1_copy 13 = .ok (.aload_n 0, 1) := dk_42 (dk_at dksX1_copy_0 13 rfl rfl)
theorem dX1_copy_14 : decode cX1_copy 14 = .ok (.getfield 10, 3) := dk_180 0 10 (dk_at dksX1_copy_0 14 rfl rfl)
theorem dX1_copy_17 : decode cX1_copy 17 = .ok (.iload_n 1, 1) := dk_27 (dk_at dksX1_copy_0 17 rfl rfl)
theorem dX1_copy_18 : decode cX1_copy 18 = .ok (.invokevirtual 117, 3) := dk_182 0 117 (dk_at dksX1_copy_0 18 rfl rfl)
theorem dX1_copy_21 : decode cX1_copy 21 = .ok (.checkcast 19, 3) := dk_192 0 19 (dk_at dksX1_copy_0 21 rfl rfl)
theorem dX1_copy_24 : decode cX1_copy 24 = .ok (.invokevirtual 100, 3) := dk_182 0 100 (dk_at dksX1_copy_1 0 rfl rfl)
theorem dX1_copy_27 : decode cX1_copy 27 = .ok (.pop, 1) := dk_87 (dk_at dksX1_copy_1 3 rfl rfl)
theorem dX1_copy_28 : decode cX1_copy 28 = .ok (.aload_n 0, 1) := dk_42 (dk_at dksX1_copy_1 4 rfl rfl)
theorem dX1_copy_29 : decode cX1_copy 29 = .ok (.iload_n 2, 1) := dk_28 (dk_at dksX1_copy_1 5 rfl rfl)
theorem dX1_copy_30 : decode cX1_copy 30 = .ok (.invokevirtual 145, 3) := dk_182 0 145 (dk_at dksX1_copy_1 6 rfl rfl)
theorem dX1_copy_33 : decode cX1_copy 33 = .ok (.invokevirtual 60, 3) := dk_182 0 60 (dk_at dksX1_copy_1 9 rfl rfl)
theorem dX1_copy_36 : decode cX1_copy 36 = .ok (.ireturn, 1) := dk_172 (dk_at dksX1_copy_1 12 rfl rfl)
abbrev cX1_add : ByteArray := prog_1_method_26_code
def yX1_add : MethodName := ⟨RX1, "add", "(III)I"⟩
def dkwX1_add_3 : List UInt8 := [25, 4, 183, 0, 23, 182, 0, 167, 172]
abbrev dktX1_add_3 : List UInt8 := dkwX1_add_3 ++ []
def dkwX1_add_2 : List UInt8 := [21, 5, 182, 0, 87, 182, 0, 127, 182, 0, 29, 87, 132, 5, 1, 167, 255, 217, 42, 29, 187, 0, 21, 89]
abbrev dktX1_add_2 : List UInt8 := dkwX1_add_2 ++ dktX1_add_3
def dkwX1_add_1 : List UInt8 := [21, 5, 16, 6, 163, 0, 38, 25, 4, 42, 27, 182, 0, 145, 21, 5, 182, 0, 87, 42, 28, 182, 0, 145]
abbrev dktX1_add_1 : List UInt8 := dkwX1_add_1 ++ dktX1_add_2
def dkwX1_add_0 : List UInt8 := [27, 184, 0, 160, 28, 184, 0, 160, 29, 184, 0, 160, 187, 0, 7, 89, 183, 0, 9, 58, 4, 3, 54, 5]
abbrev dktX1_add_0 : List UInt8 := dkwX1_add_0 ++ dktX1_add_1
theorem dksX1_add_0 : cX1_add.data.toList.drop 0 = dktX1_add_0 := by decide +kernel
theorem dksX1_add_1 : cX1_add.data.toList.drop 24 = dktX1_add_1 := dk_seg dksX1_add_0 24 rfl rfl
theorem dksX1_add_2 : cX1_add.data.toList.drop 48 = dktX1_add_2 := dk_seg dksX1_add_1 24 rfl rfl
theorem dksX1_add_3 : cX1_add.data.toList.drop 72 = dktX1_add_3 := dk_seg dksX1_add_2 24 rfl rfl
theorem dX1_add_0 : decode cX1_add 0 = .ok (.iload_n 1, 1) := dk_27 (dk_at dksX1_add_0 0 rfl rfl)
theorem dX1_add_1 : decode cX1_add 1 = .ok (.invokestatic 160, 3) := dk_184 0 160 (dk_at dksX1_add_0 1 rfl rfl)
theorem dX1_add_4 : decode cX1_add 4 = .ok (.iload_n 2, 1) := dk_28 (dk_at dksX1_add_0 4 rfl rfl)
theorem dX1_add_5 : decode cX1_add 5 = .ok (.invokestatic 160, 3) := dk_184 0 160 (dk_at dksX1_add_0 5 rfl rfl)
theorem dX1_add_8 : decode cX1_add 8 = .ok (.iload_n 3, 1) := dk_29 (dk_at dksX1_add_0 8 rfl rfl)
theorem dX1_add_9 : decode cX1_add 9 = .ok (.invokestatic 160, 3) := dk_184 0 160 (dk_at dksX1_add_0 9 rfl rfl)
theorem dX1_add_12 : decode cX1_add 12 = .ok (.new 7, 3) := dk_187 0 7 (dk_at dksX1_add_0 12 rfl rfl)
theorem dX1_add_15 : decode cX1_add 15 = .ok (.dup, 1) := dk_89 (dk_at dksX1_add_0 15 rfl rfl)
theorem dX1_add_16 : decode cX1_add 16 = .ok (.invokespecial 9, 3) := dk_183 0 9 (dk_at dksX1_add_0 16 rfl rfl)
theorem dX1_add_19 : decode cX1_add 19 = .ok (.astore 4, 2) := dk_58 4 (dk_at dksX1_add_0 19 rfl rfl)
theorem dX1_add_21 : decode cX1_add 21 = .ok (.iconst 0, 1) := dk_3 (dk_at dksX1_add_0 21 rfl rfl)
theorem dX1_add_22 : decode cX1_add 22 = .ok (.istore 5, 2) := dk_54 5 (dk_at dksX1_add_0 22 rfl rfl)
theorem dX1_add_24 : decode cX1_add 24 = .ok (.iload 5, 2) := dk_21 5 (dk_at dksX1_add_1 0 rfl rfl)
theorem dX1_add_26 : decode cX1_add 26 = .ok (.bipush 6, 2) := dk_16 6 (dk_at dksX1_add_1 2 rfl rfl)
theorem dX1_add_28 : decode cX1_add 28 = .ok (.if_icmp .gt 38, 3) := dk_163 0 38 (dk_at dksX1_add_1 4 rfl rfl)
theorem dX1_add_31 : decode cX1_add 31 = .ok (.aload 4, 2) := dk_25 4 (dk_at dksX1_add_1 7 rfl rfl)
theorem dX1_add_33 : decode cX1_add 33 = .ok (.aload_n 0, 1) := dk_42 (dk_at dksX1_add_1 9 rfl rfl)
theorem dX1_add_34 : decode cX1_add 34 = .ok (.iload_n 1, 1) := dk_27 (dk_at dksX1_add_1 10 rfl rfl)
theorem dX1_add_35 : decode cX1_add 35 = .ok (.invokevirtual 145, 3) := dk_182 0 145 (dk_at dksX1_add_1 11 rfl rfl)
theorem dX1_add_38 : decode cX1_add 38 = .ok (.iload 5, 2) := dk_21 5 (dk_at dksX1_add_1 14 rfl rfl)
theorem dX1_add_40 : decode cX1_add 40 = .ok (.invokevirtual 87, 3) := dk_182 0 87 (dk_at dksX1_add_1 16 rfl rfl)
theorem dX1_add_43 : decode cX1_add 43 = .ok (.aload_n 0, 1) := dk_42 (dk_at dksX1_add_1 19 rfl rfl)
theorem dX1_add_44 : decode cX1_add 44 = .ok (.iload_n 2, 1) := dk_28 (dk_at dksX1_add_1 20 rfl rfl)
theorem dX1_add_45 : decode cX1_add 45 = .ok (.invokevirtual 145, 3) := dk_182 0 145 (dk_at dksX1_add_1 21 rfl rfl)
theorem dX1_add_48 : decode cX1_add 48 = .ok (.iload 5, 2) := dk_21 5 (dk_at dksX1_add_2 0 rfl rfl)
theorem dX1_add_50 : decode cX1_add 50 = .ok (.invokevirtual 87, 3) := dk_182 0 87 (dk_at dksX1_add_2 2 rfl rfl)
theorem dX1_add_53 : decode cX1_add 53 = .ok (.invokevirtual 127, 3) := dk_182 0 127 (dk_at dksX1_add_2 5 rfl rfl)
theorem dX1_add_56 : decode cX1_add 56 = .ok (.invokevirtual 29, 3) := dk_182 0 29 (dk_at dksX1_add_2 8 rfl rfl)
theorem dX1_add_59 : decode cX1_add 59 = .ok (.pop, 1) := dk_87 (dk_at dksX1_add_2 11 rfl rfl)
theorem dX1_add_60 : decode cX1_add 60 = .ok (.iinc 5 1, 3) := dk_132 5 1 (dk_at dksX1_add_2 12 rfl rfl)
theorem dX1_add_63 : decode cX1_add 63 = .ok (.goto (-39), 3) := dk_167 255 217 (dk_at dksX1_add_2 15 rfl rfl)
theorem dX1_add_66 : decode cX1_add 66 = .ok (.aload_n 0, 1) := dk_42 (dk_at dksX1_add_2 18 rfl rfl)
theorem dX1_add_67 : decode cX1_add 67 = .ok (.iload_n 3, 1) := dk_29 (dk_at dksX1_add_2 19 rfl rfl)
theorem dX1_add_68 : decode cX1_add 68 = .ok (.new 21, 3) := dk_187 0 21 (dk_at dksX1_add_2 20 rfl rfl)
theorem dX1_add_71 : decode cX1_add 71 = .ok (.dup, 1) := dk_89 (dk_at dksX1_add_2 23 rfl rfl)
theorem dX1_add_72 : decode cX1_add 72 = .ok (.aload 4, 2) := dk_25 4 (dk_at dksX1_add_3 0 rfl rfl)
theorem dX1_add_74 : decode cX1_add 74 = .ok (.invokespecial 23, 3) := dk_183 0 23 (dk_at dksX1_add_3 2 rfl rfl)
theorem dX1_add_77 : decode cX1_add 77 = .ok (.invokevirtual 167, 3) := dk_182 0 167 (dk_at dksX1_add_3 5 rfl rfl)
theorem dX1_add_80 : decode cX1_add 80 = .ok (.ireturn, 1) := dk_172 (dk_at dksX1_add_3 8 rfl rfl)
abbrev cX1_multiply : ByteArray := prog_1_method_27_code
def yX1_multiply : MethodName := ⟨RX1, "multiply", "(III)I"⟩
def dkwX1_multiply_7 : List UInt8 := [87, 132, 7, 1, 167, 255, 159, 42, 29, 187, 0, 21, 89, 25, 6, 183, 0, 23, 182, 0, 167, 172]
abbrev dktX1_multiply_7 : List UInt8 := dkwX1_multiply_7 ++ []
def dkwX1_multiply_6 : List UInt8 := [182, 0, 87, 182, 0, 91, 182, 0, 127, 58, 8, 132, 9, 1, 167, 255, 209, 25, 6, 25, 8, 182, 0, 29]
abbrev dktX1_multiply_6 : List UInt8 := dkwX1_multiply_6 ++ dktX1_multiply_7
def dkwX1_multiply_5 : List UInt8 := [21, 9, 21, 7, 163, 0, 36, 25, 8, 25, 4, 21, 9, 182, 0, 87, 25, 5, 21, 7, 21, 9, 100]
abbrev dktX1_multiply_5 : List UInt8 := dkwX1_multiply_5 ++ dktX1_multiply_6
def dkwX1_multiply_4 : List UInt8 := [3, 21, 7, 25, 5, 182, 0, 60, 100, 184, 0, 174, 54, 9, 21, 9, 25, 4, 182, 0, 60, 163, 0, 43]
abbrev dktX1_multiply_4 : List UInt8 := dkwX1_multiply_4 ++ dktX1_multiply_5
def dkwX1_multiply_3 : List UInt8 := [54, 7, 21, 7, 25, 4, 182, 0, 60, 25, 5, 182, 0, 60, 96, 163, 0, 87, 9, 184, 0, 74, 58, 8]
abbrev dktX1_multiply_3 : List UInt8 := dkwX1_multiply_3 ++ dktX1_multiply_4
def dkwX1_multiply_2 : List UInt8 := [187, 0, 7, 89, 183, 0, 9, 183, 0, 23, 182, 0, 167, 172, 187, 0, 7, 89, 183, 0, 9, 58, 6, 3]
abbrev dktX1_multiply_2 : List UInt8 := dkwX1_multiply_2 ++ dktX1_multiply_3
def dkwX1_multiply_1 : List UInt8 := [58, 5, 25, 4, 182, 0, 60, 155, 0, 11, 25, 5, 182, 0, 60, 156, 0, 23, 42, 29, 187, 0, 21, 89]
abbrev dktX1_multiply_1 : List UInt8 := dkwX1_multiply_1 ++ dktX1_multiply_2
def dkwX1_multiply_0 : List UInt8 := [27, 184, 0, 160, 28, 184, 0, 160, 29, 184, 0, 160, 42, 27, 182, 0, 145, 58, 4, 42, 28, 182, 0, 145]
abbrev dktX1_multiply_0 : List UInt8 := dkwX1_multiply_0 ++ dktX1_multiply_1
theorem dksX1_multiply_0 : cX1_multiply.data.toList.drop 0 = dktX1_multiply_0 := by decide +kernel
theorem dksX1_multiply_1 : cX1_multiply.data.toList.drop 24 = dktX1_multiply_1 := dk_seg dksX1_multiply_0 24 rfl rfl
theorem dksX1_multiply_2 : cX1_multiply.data.toList.drop 48 = dktX1_multiply_2 := dk_seg dksX1_multiply_1 24 rfl rfl
theorem dksX1_multiply_3 : cX1_multiply.data.toList.drop 72 = dktX1_multiply_3 := dk_seg dksX1_multiply_2 24 rfl rfl
theorem dksX1_multiply_4 : cX1_multiply.data.toList.drop 96 = dktX1_multiply_4 := dk_seg dksX1_multiply_3 24 rfl rfl
theorem dksX1_multiply_5 : cX1_multiply.data.toList.drop 120 = dktX1_multiply_5 := dk_seg dksX1_multiply_4 24 rfl rfl
theorem dksX1_multiply_6 : cX1_multiply.data.toList.drop 143 = dktX1_multiply_6 := dk_seg dksX1_multiply_5 23 rfl rfl
theorem dksX1_multiply_7 : cX1_multiply.data.toList.drop 167 = dktX1_multiply_7 := dk_seg dksX1_multiply_6 24 rfl rfl
theorem dX1_multiply_0 : decode cX1_multiply 0 = .ok (.iload_n 1, 1) := dk_27 (dk_at dksX1_multiply_0 0 rfl rfl)
theorem dX1_multiply_1 : decode cX1_multiply 1 = .ok (.invokestatic 160, 3) := dk_184 0 160 (dk_at dksX1_multiply_0 1 rfl rfl)
theorem dX1_multiply_4 : decode cX1_multiply 4 = .ok (.iload_n 2, 1) := dk_28 (dk_at dksX1_multiply_0 4 rfl rfl)
theorem dX1_multiply_5 : decode cX1_multiply 5 = .ok (.invokestatic 160, 3) := dk_184 0 160 (dk_at dksX1_multiply_0 5 rfl rfl)
theorem dX1_multiply_8 : decode cX1_multiply 8 = .ok (.iload_n 3, 1) := dk_29 (dk_at dksX1_multiply_0 8 rfl rfl)
theorem dX1_multiply_9 : decode cX1_multiply 9 = .ok (.invokestatic 160, 3) := dk_184 0 160 (dk_at dksX1_multiply_0 9 rfl rfl)
theorem dX1_multiply_12 : decode cX1_multiply 12 = .ok (.aload_n 0, 1) := dk_42 (dk_at dksX1_multiply_0 12 rfl rfl)
theorem dX1_multiply_13 : decode cX1_multiply 13 = .ok (.iload_n 1, 1) := dk_27 (dk_at dksX1_multiply_0 13 rfl rfl)
theorem dX1_multiply_14 : decode cX1_multiply 14 = .ok (.invokevirtual 145, 3) := dk_182 0 145 (dk_at dksX1_multiply_0 14 rfl rfl)
theorem dX1_multiply_17 : decode cX1_multiply 17 = .ok (.astore 4, 2) := dk_58 4 (dk_at dksX1_multiply_0 17 rfl rfl)
theorem dX1_multiply_19 : decode cX1_multiply 19 = .ok (.aload_n 0, 1) := dk_42 (dk_at dksX1_multiply_0 19 rfl rfl)
theorem dX1_multiply_20 : decode cX1_multiply 20 = .ok (.iload_n 2, 1) := dk_28 (dk_at dksX1_multiply_0 20 rfl rfl)
theorem dX1_multiply_21 : decode cX1_multiply 21 = .ok (.invokevirtual 145, 3) := dk_182 0 145 (dk_at dksX1_multiply_0 21 rfl rfl)
theorem dX1_multiply_24 : decode cX1_multiply 24 = .ok (.astore 5, 2) := dk_58 5 (dk_at dksX1_multiply_1 0 rfl rfl)
theorem dX1_multiply_26 : decode cX1_multiply 26 = .ok (.aload 4, 2) := dk_25 4 (dk_at dksX1_multiply_1 2 rfl rfl)
theorem dX1_multiply_28 : decode cX1_multiply 28 = .ok (.invokevirtual 60, 3) := dk_182 0 60 (dk_at dksX1_multiply_1 4 rfl rfl)
theorem dX1_multiply_31 : decode cX1_multiply 31 = .ok (.ifCond .lt 11, 3) := dk_155 0 11 (dk_at dksX1_multiply_1 7 rfl rfl)
theorem dX1_multiply_34 : decode cX1_multiply 34 = .ok (.aload 5, 2) := dk_25 5 (dk_at dksX1_multiply_1 10 rfl rfl)
theorem dX1_multiply_36 : decode cX1_multiply 36 = .ok (.invokevirtual 60, 3) := dk_182 0 60 (dk_at dksX1_multiply_1 12 rfl rfl)
theorem dX1_multiply_39 : decode cX1_multiply 39 = .ok (.ifCond .ge 23, 3) := dk_156 0 23 (dk_at dksX1_multiply_1 15 rfl rfl)
theorem dX1_multiply_42 : decode cX1_multiply 42 = .ok (.aload_n 0, 1) := dk_42 (dk_at dksX1_multiply_1 18 rfl rfl)
theorem dX1_multiply_43 : decode cX1_multiply 43 = .ok (.iload_n 3, 1) := dk_29 (dk_at dksX1_multiply_1 19 rfl rfl)
theorem dX1_multiply_44 : decode cX1_multiply 44 = .ok (.new 21, 3) := dk_187 0 21 (dk_at dksX1_multiply_1 20 rfl rfl)
theorem dX1_multiply_47 : decode cX1_multiply 47 = .ok (.dup, 1) := dk_89 (dk_at dksX1_multiply_1 23 rfl rfl)
theorem dX1_multiply_48 : decode cX1_multiply 48 = .ok (.new 7, 3) := dk_187 0 7 (dk_at dksX1_multiply_2 0 rfl rfl)
theorem dX1_multiply_51 : decode cX1_multiply 51 = .ok (.dup, 1) := dk_89 (dk_at dksX1_multiply_2 3 rfl rfl)
theorem dX1_multiply_52 : decode cX1_multiply 52 = .ok (.invokespecial 9, 3) := dk_183 0 9 (dk_at dksX1_multiply_2 4 rfl rfl)
theorem dX1_multiply_55 : decode cX1_multiply 55 = .ok (.invokespecial 23, 3) := dk_183 0 23 (dk_at dksX1_multiply_2 7 rfl rfl)
theorem dX1_multiply_58 : decode cX1_multiply 58 = .ok (.invokevirtual 167, 3) := dk_182 0 167 (dk_at dksX1_multiply_2 10 rfl rfl)
theorem dX1_multiply_61 : decode cX1_multiply 61 = .ok (.ireturn, 1) := dk_172 (dk_at dksX1_multiply_2 13 rfl rfl)
theorem dX1_multiply_62 : decode cX1_multiply 62 = .ok (.new 7, 3) := dk_187 0 7 (dk_at dksX1_multiply_2 14 rfl rfl)
theorem dX1_multiply_65 : decode cX1_multiply 65 = .ok (.dup, 1) := dk_89 (dk_at dksX1_multiply_2 17 rfl rfl)
theorem dX1_multiply_66 : decode cX1_multiply 66 = .ok (.invokespecial 9, 3) := dk_183 0 9 (dk_at dksX1_multiply_2 18 rfl rfl)
theorem dX1_multiply_69 : decode cX1_multiply 69 = .ok (.astore 6, 2) := dk_58 6 (dk_at dksX1_multiply_2 21 rfl rfl)
theorem dX1_multiply_71 : decode cX1_multiply 71 = .ok (.iconst 0, 1) := dk_3 (dk_at dksX1_multiply_2 23 rfl rfl)
theorem dX1_multiply_72 : decode cX1_multiply 72 = .ok (.istore 7, 2) := dk_54 7 (dk_at dksX1_multiply_3 0 rfl rfl)
theorem dX1_multiply_74 : decode cX1_multiply 74 = .ok (.iload 7, 2) := dk_21 7 (dk_at dksX1_multiply_3 2 rfl rfl)
theorem dX1_multiply_76 : decode cX1_multiply 76 = .ok (.aload 4, 2) := dk_25 4 (dk_at dksX1_multiply_3 4 rfl rfl)
theorem dX1_multiply_78 : decode cX1_multiply 78 = .ok (.invokevirtual 60, 3) := dk_182 0 60 (dk_at dksX1_multiply_3 6 rfl rfl)
theorem dX1_multiply_81 : decode cX1_multiply 81 = .ok (.aload 5, 2) := dk_25 5 (dk_at dksX1_multiply_3 9 rfl rfl)
theorem dX1_multiply_83 : decode cX1_multiply 83 = .ok (.invokevirtual 60, 3) := dk_182 0 60 (dk_at dksX1_multiply_3 11 rfl rfl)
theorem dX1_multiply_86 : decode cX1_multiply 86 = .ok (.iadd, 1) := dk_96 (dk_at dksX1_multiply_3 14 rfl rfl)
theorem dX1_multiply_87 : decode cX1_multiply 87 = .ok (.if_icmp .gt 87, 3) := dk_163 0 87 (dk_at dksX1_multiply_3 15 rfl rfl)
theorem dX1_multiply_90 : decode cX1_multiply 90 = .ok (.lconst 0, 1) := dk_9 (dk_at dksX1_multiply_3 18 rfl rfl)
theorem dX1_multiply_91 : decode cX1_multiply 91 = .ok (.invokestatic 74, 3) := dk_184 0 74 (dk_at dksX1_multiply_3 19 rfl rfl)
theorem dX1_multiply_94 : decode cX1_multiply 94 = .ok (.astore 8, 2) := dk_58 8 (dk_at dksX1_multiply_3 22 rfl rfl)
theorem dX1_multiply_96 : decode cX1_multiply 96 = .ok (.iconst 0, 1) := dk_3 (dk_at dksX1_multiply_4 0 rfl rfl)
theorem dX1_multiply_97 : decode cX1_multiply 97 = .ok (.iload 7, 2) := dk_21 7 (dk_at dksX1_multiply_4 1 rfl rfl)
theorem dX1_multiply_99 : decode cX1_multiply 99 = .ok (.aload 5, 2) := dk_25 5 (dk_at dksX1_multiply_4 3 rfl rfl)
theorem dX1_multiply_101 : decode cX1_multiply 101 = .ok (.invokevirtual 60, 3) := dk_182 0 60 (dk_at dksX1_multiply_4 5 rfl rfl)
theorem dX1_multiply_104 : decode cX1_multiply 104 = .ok (.isub, 1) := dk_100 (dk_at dksX1_multiply_4 8 rfl rfl)
theorem dX1_multiply_105 : decode cX1_multiply 105 = .ok (.invokestatic 174, 3) := dk_184 0 174 (dk_at dksX1_multiply_4 9 rfl rfl)
theorem dX1_multiply_108 : decode cX1_multiply 108 = .ok (.istore 9, 2) := dk_54 9 (dk_at dksX1_multiply_4 12 rfl rfl)
theorem dX1_multiply_110 : decode cX1_multiply 110 = .ok (.iload 9, 2) := dk_21 9 (dk_at dksX1_multiply_4 14 rfl rfl)
theorem dX1_multiply_112 : decode cX1_multiply 112 = .ok (.aload 4, 2) := dk_25 4 (dk_at dksX1_multiply_4 16 rfl rfl)
theorem dX1_multiply_114 : decode cX1_multiply 114 = .ok (.invokevirtual 60, 3) := dk_182 0 60 (dk_at dksX1_multiply_4 18 rfl rfl)
theorem dX1_multiply_117 : decode cX1_multiply 117 = .ok (.if_icmp .gt 43, 3) := dk_163 0 43 (dk_at dksX1_multiply_4 21 rfl rfl)
theorem dX1_multiply_120 : decode cX1_multiply 120 = .ok (.iload 9, 2) := dk_21 9 (dk_at dksX1_multiply_5 0 rfl rfl)
theorem dX1_multiply_122 : decode cX1_multiply 122 = .ok (.iload 7, 2) := dk_21 7 (dk_at dksX1_multiply_5 2 rfl rfl)
theorem dX1_multiply_124 : decode cX1_multiply 124 = .ok (.if_icmp .gt 36, 3) := dk_163 0 36 (dk_at dksX1_multiply_5 4 rfl rfl)
theorem dX1_multiply_127 : decode cX1_multiply 127 = .ok (.aload 8, 2) := dk_25 8 (dk_at dksX1_multiply_5 7 rfl rfl)
theorem dX1_multiply_129 : decode cX1_multiply 129 = .ok (.aload 4, 2) := dk_25 4 (dk_at dksX1_multiply_5 9 rfl rfl)
theorem dX1_multiply_131 : decode cX1_multiply 131 = .ok (.iload 9, 2) := dk_21 9 (dk_at dksX1_multiply_5 11 rfl rfl)
theorem dX1_multiply_133 : decode cX1_multiply 133 = .ok (.invokevirtual 87, 3) := dk_182 0 87 (dk_at dksX1_multiply_5 13 rfl rfl)
theorem dX1_multiply_136 : decode cX1_multiply 136 = .ok (.aload 5, 2) := dk_25 5 (dk_at dksX1_multiply_5 16 rfl rfl)
theorem dX1_multiply_138 : decode cX1_multiply 138 = .ok (.iload 7, 2) := dk_21 7 (dk_at dksX1_multiply_5 18 rfl rfl)
theorem dX1_multiply_140 : decode cX1_multiply 140 = .ok (.iload 9, 2) := dk_21 9 (dk_at dksX1_multiply_5 20 rfl rfl)
theorem dX1_multiply_142 : decode cX1_multiply 142 = .ok (.isub, 1) := dk_100 (dk_at dksX1_multiply_5 22 rfl rfl)
theorem dX1_multiply_143 : decode cX1_multiply 143 = .ok (.invokevirtual 87, 3) := dk_182 0 87 (dk_at dksX1_multiply_6 0 rfl rfl)
theorem dX1_multiply_146 : decode cX1_multiply 146 = .ok (.invokevirtual 91, 3) := dk_182 0 91 (dk_at dksX1_multiply_6 3 rfl rfl)
theorem dX1_multiply_149 : decode cX1_multiply 149 = .ok (.invokevirtual 127, 3) := dk_182 0 127 (dk_at dksX1_multiply_6 6 rfl rfl)
theorem dX1_multiply_152 : decode cX1_multiply 152 = .ok (.astore 8, 2) := dk_58 8 (dk_at dksX1_multiply_6 9 rfl rfl)
theorem dX1_multiply_154 : decode cX1_multiply 154 = .ok (.iinc 9 1, 3) := dk_132 9 1 (dk_at dksX1_multiply_6 11 rfl rfl)
theorem dX1_multiply_157 : decode cX1_multiply 157 = .ok (.goto (-47), 3) := dk_167 255 209 (dk_at dksX1_multiply_6 14 rfl rfl)
theorem dX1_multiply_160 : decode cX1_multiply 160 = .ok (.aload 6, 2) := dk_25 6 (dk_at dksX1_multiply_6 17 rfl rfl)
theorem dX1_multiply_162 : decode cX1_multiply 162 = .ok (.aload 8, 2) := dk_25 8 (dk_at dksX1_multiply_6 19 rfl rfl)
theorem dX1_multiply_164 : decode cX1_multiply 164 = .ok (.invokevirtual 29, 3) := dk_182 0 29 (dk_at dksX1_multiply_6 21 rfl rfl)
theorem dX1_multiply_167 : decode cX1_multiply 167 = .ok (.pop, 1) := dk_87 (dk_at dksX1_multiply_7 0 rfl rfl)
theorem dX1_multiply_168 : decode cX1_multiply 168 = .ok (.iinc 7 1, 3) := dk_132 7 1 (dk_at dksX1_multiply_7 1 rfl rfl)
theorem dX1_multiply_171 : decode cX1_multiply 171 = .ok (.goto (-97), 3) := dk_167 255 159 (dk_at dksX1_multiply_7 4 rfl rfl)
theorem dX1_multiply_174 : decode cX1_multiply 174 = .ok (.aload_n 0, 1) := dk_42 (dk_at dksX1_multiply_7 7 rfl rfl)
theorem dX1_multiply_175 : decode cX1_multiply 175 = .ok (.iload_n 3, 1) := dk_29 (dk_at dksX1_multiply_7 8 rfl rfl)
theorem dX1_multiply_176 : decode cX1_multiply 176 = .ok (.new 21, 3) := dk_187 0 21 (dk_at dksX1_multiply_7 9 rfl rfl)
theorem dX1_multiply_179 : decode cX1_multiply 179 = .ok (.dup, 1) := dk_89 (dk_at dksX1_multiply_7 12 rfl rfl)
theorem dX1_multiply_180 : decode cX1_multiply 180 = .ok (.aload 6, 2) := dk_25 6 (dk_at dksX1_multiply_7 13 rfl rfl)
theorem dX1_multiply_182 : decode cX1_multiply 182 = .ok (.invokespecial 23, 3) := dk_183 0 23 (dk_at dksX1_multiply_7 15 rfl rfl)
theorem dX1_multiply_185 : decode cX1_multiply 185 = .ok (.invokevirtual 167, 3) := dk_182 0 167 (dk_at dksX1_multiply_7 18 rfl rfl)
theorem dX1_multiply_188 : decode cX1_multiply 188 = .ok (.ireturn, 1) := dk_172 (dk_at dksX1_multiply_7 21 rfl rfl)
abbrev cX1_derivative : ByteArray := prog_1_method_28_code
def yX1_derivative : MethodName := ⟨RX1, "derivative", "(II)I"⟩
def dkwX1_derivative_0 : List UInt8 := [27, 184, 0, 160, 28, 184, 0, 160, 42, 28, 42, 27, 182, 0, 145, 184, 0, 114, 182, 0, 167, 172]
abbrev dktX1_derivative_0 : List UInt8 := dkwX1_derivative_0 ++ []
theorem dksX1_derivative_0 : cX1_derivative.data.toList.drop 0 = dktX1_derivative_0 := by decide +kernel
theorem dX1_derivative_0 : decode cX1_derivative 0 = .ok (.iload_n 1, 1) := dk_27 (dk_at dksX1_derivative_0 0 rfl rfl)
theorem dX1_derivative_1 : decode cX1_derivative 1 = .ok (.invokestatic 160, 3) := dk_184 0 160 (dk_at dksX1_derivative_0 1 rfl rfl)
theorem dX1_derivative_4 : decode cX1_derivative 4 = .ok (.iload_n 2, 1) := dk_28 (dk_at dksX1_derivative_0 4 rfl rfl)
theorem dX1_derivative_5 : decode cX1_derivative 5 = .ok (.invokestatic 160, 3) := dk_184 0 160 (dk_at dksX1_derivative_0 5 rfl rfl)
theorem dX1_derivative_8 : decode cX1_derivative 8 = .ok (.aload_n 0, 1) := dk_42 (dk_at dksX1_derivative_0 8 rfl rfl)
theorem dX1_derivative_9 : decode cX1_derivative 9 = .ok (.iload_n 2, 1) := dk_28 (dk_at dksX1_derivative_0 9 rfl rfl)
theorem dX1_derivative_10 : decode cX1_derivative 10 = .ok (.aload_n 0, 1) := dk_42 (dk_at dksX1_derivative_0 10 rfl rfl)
theorem dX1_derivative_11 : decode cX1_derivative 11 = .ok (.iload_n 1, 1) := dk_27 (dk_at dksX1_derivative_0 11 rfl rfl)
theorem dX1_derivative_12 : decode cX1_derivative 12 = .ok (.invokevirtual 145, 3) := dk_182 0 145 (dk_at dksX1_derivative_0 12 rfl rfl)
theorem dX1_derivative_15 : decode cX1_derivative 15 = .ok (.invokestatic 114, 3) := dk_184 0 114 (dk_at dksX1_derivative_0 15 rfl rfl)
theorem dX1_derivative_18 : decode cX1_derivative 18 = .ok (.invokevirtual 167, 3) := dk_182 0 167 (dk_at dksX1_derivative_0 18 rfl rfl)
theorem dX1_derivative_21 : decode cX1_derivative 21 = .ok (.ireturn, 1) := dk_172 (dk_at dksX1_derivative_0 21 rfl rfl)
abbrev cX1_derived : ByteArray := prog_1_method_6_code
def yX1_derived : MethodName := ⟨RX1, "derived", "(LSturmRoots$Poly;)LSturmRoots$Poly;"⟩
def dkwX1_derived_2 : List UInt8 := [183, 0, 23, 176]
abbrev dktX1_derived_2 : List UInt8 := dkwX1_derived_2 ++ []
def dkwX1_derived_1 : List UInt8 := [28, 133, 184, 0, 74, 182, 0, 91, 182, 0, 29, 87, 132, 2, 1, 167, 255, 227, 187, 0, 21, 89, 43]
abbrev dktX1_derived_1 : List UInt8 := dkwX1_derived_1 ++ dktX1_derived_2
def dkwX1_derived_0 : List UInt8 := [187, 0, 7, 89, 183, 0, 9, 76, 4, 61, 28, 42, 182, 0, 60, 163, 0, 27, 43, 42, 28, 182, 0, 87]
abbrev dktX1_derived_0 : List UInt8 := dkwX1_derived_0 ++ dktX1_derived_1
theorem dksX1_derived_0 : cX1_derived.data.toList.drop 0 = dktX1_derived_0 := by decide +kernel
theorem dksX1_derived_1 : cX1_derived.data.toList.drop 24 = dktX1_derived_1 := dk_seg dksX1_derived_0 24 rfl rfl
theorem dksX1_derived_2 : cX1_derived.data.toList.drop 47 = dktX1_derived_2 := dk_seg dksX1_derived_1 23 rfl rfl
theorem dX1_derived_0 : decode cX1_derived 0 = .ok (.new 7, 3) := dk_187 0 7 (dk_at dksX1_derived_0 0 rfl rfl)
theorem dX1_derived_3 : decode cX1_derived 3 = .ok (.dup, 1) := dk_89 (dk_at dksX1_derived_0 3 rfl rfl)
theorem dX1_derived_4 : decode cX1_derived 4 = .ok (.invokespecial 9, 3) := dk_183 0 9 (dk_at dksX1_derived_0 4 rfl rfl)
theorem dX1_derived_7 : decode cX1_derived 7 = .ok (.astore_n 1, 1) := dk_76 (dk_at dksX1_derived_0 7 rfl rfl)
theorem dX1_derived_8 : decode cX1_derived 8 = .ok (.iconst 1, 1) := dk_4 (dk_at dksX1_derived_0 8 rfl rfl)
theorem dX1_derived_9 : decode cX1_derived 9 = .ok (.istore_n 2, 1) := dk_61 (dk_at dksX1_derived_0 9 rfl rfl)
theorem dX1_derived_10 : decode cX1_derived 10 = .ok (.iload_n 2, 1) := dk_28 (dk_at dksX1_derived_0 10 rfl rfl)
theorem dX1_derived_11 : decode cX1_derived 11 = .ok (.aload_n 0, 1) := dk_42 (dk_at dksX1_derived_0 11 rfl rfl)
theorem dX1_derived_12 : decode cX1_derived 12 = .ok (.invokevirtual 60, 3) := dk_182 0 60 (dk_at dksX1_derived_0 12 rfl rfl)
theorem dX1_derived_15 : decode cX1_derived 15 = .ok (.if_icmp .gt 27, 3) := dk_163 0 27 (dk_at dksX1_derived_0 15 rfl rfl)
theorem dX1_derived_18 : decode cX1_derived 18 = .ok (.aload_n 1, 1) := dk_43 (dk_at dksX1_derived_0 18 rfl rfl)
theorem dX1_derived_19 : decode cX1_derived 19 = .ok (.aload_n 0, 1) := dk_42 (dk_at dksX1_derived_0 19 rfl rfl)
theorem dX1_derived_20 : decode cX1_derived 20 = .ok (.iload_n 2, 1) := dk_28 (dk_at dksX1_derived_0 20 rfl rfl)
theorem dX1_derived_21 : decode cX1_derived 21 = .ok (.invokevirtual 87, 3) := dk_182 0 87 (dk_at dksX1_derived_0 21 rfl rfl)
theorem dX1_derived_24 : decode cX1_derived 24 = .ok (.iload_n 2, 1) := dk_28 (dk_at dksX1_derived_1 0 rfl rfl)
theorem dX1_derived_25 : decode cX1_derived 25 = .ok (.i2l, 1) := dk_133 (dk_at dksX1_derived_1 1 rfl rfl)
theorem dX1_derived_26 : decode cX1_derived 26 = .ok (.invokestatic 74, 3) := dk_184 0 74 (dk_at dksX1_derived_1 2 rfl rfl)
theorem dX1_derived_29 : decode cX1_derived 29 = .ok (.invokevirtual 91, 3) := dk_182 0 91 (dk_at dksX1_derived_1 5 rfl rfl)
theorem dX1_derived_32 : decode cX1_derived 32 = .ok (.invokevirtual 29, 3) := dk_182 0 29 (dk_at dksX1_derived_1 8 rfl rfl)
theorem dX1_derived_35 : decode cX1_derived 35 = .ok (.pop, 1) := dk_87 (dk_at dksX1_derived_1 11 rfl rfl)
theorem dX1_derived_36 : decode cX1_derived 36 = .ok (.iinc 2 1, 3) := dk_132 2 1 (dk_at dksX1_derived_1 12 rfl rfl)
theorem dX1_derived_39 : decode cX1_derived 39 = .ok (.goto (-29), 3) := dk_167 255 227 (dk_at dksX1_derived_1 15 rfl rfl)
theorem dX1_derived_42 : decode cX1_derived 42 = .ok (.new 21, 3) := dk_187 0 21 (dk_at dksX1_derived_1 18 rfl rfl)
theorem dX1_derived_45 : decode cX1_derived 45 = .ok (.dup, 1) := dk_89 (dk_at dksX1_derived_1 21 rfl rfl)
theorem dX1_derived_46 : decode cX1_derived 46 = .ok (.aload_n 1, 1) := dk_43 (dk_at dksX1_derived_1 22 rfl rfl)
theorem dX1_derived_47 : decode cX1_derived 47 = .ok (.invokespecial 23, 3) := dk_183 0 23 (dk_at dksX1_derived_2 0 rfl rfl)
theorem dX1_derived_50 : decode cX1_derived 50 = .ok (.areturn, 1) := dk_176 (dk_at dksX1_derived_2 3 rfl rfl)
abbrev cX1_shift : ByteArray := prog_1_method_29_code
def yX1_shift : MethodName := ⟨RX1, "shift", "(III)I"⟩
def dkwX1_shift_5 : List UInt8 := [167, 255, 183, 42, 29, 187, 0, 21, 89, 25, 4, 183, 0, 23, 182, 0, 167, 172]
abbrev dktX1_shift_5 : List UInt8 := dkwX1_shift_5 ++ []
def dkwX1_shift_4 : List UInt8 := [192, 0, 34, 25, 5, 182, 0, 91, 182, 0, 127, 182, 0, 100, 87, 132, 7, 255, 167, 255, 208, 132, 6, 1]
abbrev dktX1_shift_4 : List UInt8 := dkwX1_shift_4 ++ dktX1_shift_5
def dkwX1_shift_3 : List UInt8 := [25, 4, 21, 7, 25, 4, 21, 7, 182, 0, 117, 192, 0, 34, 25, 4, 21, 7, 4, 96, 182, 0, 117]
abbrev dktX1_shift_3 : List UInt8 := dkwX1_shift_3 ++ dktX1_shift_4
def dkwX1_shift_2 : List UInt8 := [25, 4, 182, 0, 121, 162, 0, 69, 25, 4, 182, 0, 121, 5, 100, 54, 7, 21, 7, 21, 6, 161, 0, 47]
abbrev dktX1_shift_2 : List UInt8 := dkwX1_shift_2 ++ dktX1_shift_3
def dkwX1_shift_1 : List UInt8 := [183, 0, 140, 191, 42, 27, 182, 0, 180, 58, 4, 28, 133, 184, 0, 74, 58, 5, 3, 54, 6, 21, 6]
abbrev dktX1_shift_1 : List UInt8 := dkwX1_shift_1 ++ dktX1_shift_2
def dkwX1_shift_0 : List UInt8 := [27, 184, 0, 160, 29, 184, 0, 160, 28, 16, 247, 161, 0, 9, 28, 16, 9, 164, 0, 11, 187, 0, 138, 89]
abbrev dktX1_shift_0 : List UInt8 := dkwX1_shift_0 ++ dktX1_shift_1
theorem dksX1_shift_0 : cX1_shift.data.toList.drop 0 = dktX1_shift_0 := by decide +kernel
theorem dksX1_shift_1 : cX1_shift.data.toList.drop 24 = dktX1_shift_1 := dk_seg dksX1_shift_0 24 rfl rfl
theorem dksX1_shift_2 : cX1_shift.data.toList.drop 47 = dktX1_shift_2 := dk_seg dksX1_shift_1 23 rfl rfl
theorem dksX1_shift_3 : cX1_shift.data.toList.drop 71 = dktX1_shift_3 := dk_seg dksX1_shift_2 24 rfl rfl
theorem dksX1_shift_4 : cX1_shift.data.toList.drop 94 = dktX1_shift_4 := dk_seg dksX1_shift_3 23 rfl rfl
theorem dksX1_shift_5 : cX1_shift.data.toList.drop 118 = dktX1_shift_5 := dk_seg dksX1_shift_4 24 rfl rfl
theorem dX1_shift_0 : decode cX1_shift 0 = .ok (.iload_n 1, 1) := dk_27 (dk_at dksX1_shift_0 0 rfl rfl)
theorem dX1_shift_1 : decode cX1_shift 1 = .ok (.invokestatic 160, 3) := dk_184 0 160 (dk_at dksX1_shift_0 1 rfl rfl)
theorem dX1_shift_4 : decode cX1_shift 4 = .ok (.iload_n 3, 1) := dk_29 (dk_at dksX1_shift_0 4 rfl rfl)
theorem dX1_shift_5 : decode cX1_shift 5 = .ok (.invokestatic 160, 3) := dk_184 0 160 (dk_at dksX1_shift_0 5 rfl rfl)
theorem dX1_shift_8 : decode cX1_shift 8 = .ok (.iload_n 2, 1) := dk_28 (dk_at dksX1_shift_0 8 rfl rfl)
theorem dX1_shift_9 : decode cX1_shift 9 = .ok (.bipush (-9), 2) := dk_16 247 (dk_at dksX1_shift_0 9 rfl rfl)
theorem dX1_shift_11 : decode cX1_shift 11 = .ok (.if_icmp .lt 9, 3) := dk_161 0 9 (dk_at dksX1_shift_0 11 rfl rfl)
theorem dX1_shift_14 : decode cX1_shift 14 = .ok (.iload_n 2, 1) := dk_28 (dk_at dksX1_shift_0 14 rfl rfl)
theorem dX1_shift_15 : decode cX1_shift 15 = .ok (.bipush 9, 2) := dk_16 9 (dk_at dksX1_shift_0 15 rfl rfl)
theorem dX1_shift_17 : decode cX1_shift 17 = .ok (.if_icmp .le 11, 3) := dk_164 0 11 (dk_at dksX1_shift_0 17 rfl rfl)
theorem dX1_shift_20 : decode cX1_shift 20 = .ok (.new 138, 3) := dk_187 0 138 (dk_at dksX1_shift_0 20 rfl rfl)
theorem dX1_shift_23 : decode cX1_shift 23 = .ok (.dup, 1) := dk_89 (dk_at dksX1_shift_0 23 rfl rfl)
theorem dX1_shift_24 : decode cX1_shift 24 = .ok (.invokespecial 140, 3) := dk_183 0 140 (dk_at dksX1_shift_1 0 rfl rfl)
theorem dX1_shift_27 : decode cX1_shift 27 = .ok (.athrow, 1) := dk_191 (dk_at dksX1_shift_1 3 rfl rfl)
theorem dX1_shift_28 : decode cX1_shift 28 = .ok (.aload_n 0, 1) := dk_42 (dk_at dksX1_shift_1 4 rfl rfl)
theorem dX1_shift_29 : decode cX1_shift 29 = .ok (.iload_n 1, 1) := dk_27 (dk_at dksX1_shift_1 5 rfl rfl)
theorem dX1_shift_30 : decode cX1_shift 30 = .ok (.invokevirtual 180, 3) := dk_182 0 180 (dk_at dksX1_shift_1 6 rfl rfl)
theorem dX1_shift_33 : decode cX1_shift 33 = .ok (.astore 4, 2) := dk_58 4 (dk_at dksX1_shift_1 9 rfl rfl)
theorem dX1_shift_35 : decode cX1_shift 35 = .ok (.iload_n 2, 1) := dk_28 (dk_at dksX1_shift_1 11 rfl rfl)
theorem dX1_shift_36 : decode cX1_shift 36 = .ok (.i2l, 1) := dk_133 (dk_at dksX1_shift_1 12 rfl rfl)
theorem dX1_shift_37 : decode cX1_shift 37 = .ok (.invokestatic 74, 3) := dk_184 0 74 (dk_at dksX1_shift_1 13 rfl rfl)
theorem dX1_shift_40 : decode cX1_shift 40 = .ok (.astore 5, 2) := dk_58 5 (dk_at dksX1_shift_1 16 rfl rfl)
theorem dX1_shift_42 : decode cX1_shift 42 = .ok (.iconst 0, 1) := dk_3 (dk_at dksX1_shift_1 18 rfl rfl)
theorem dX1_shift_43 : decode cX1_shift 43 = .ok (.istore 6, 2) := dk_54 6 (dk_at dksX1_shift_1 19 rfl rfl)
theorem dX1_shift_45 : decode cX1_shift 45 = .ok (.iload 6, 2) := dk_21 6 (dk_at dksX1_shift_1 21 rfl rfl)
theorem dX1_shift_47 : decode cX1_shift 47 = .ok (.aload 4, 2) := dk_25 4 (dk_at dksX1_shift_2 0 rfl rfl)
theorem dX1_shift_49 : decode cX1_shift 49 = .ok (.invokevirtual 121, 3) := dk_182 0 121 (dk_at dksX1_shift_2 2 rfl rfl)
theorem dX1_shift_52 : decode cX1_shift 52 = .ok (.if_icmp .ge 69, 3) := dk_162 0 69 (dk_at dksX1_shift_2 5 rfl rfl)
theorem dX1_shift_55 : decode cX1_shift 55 = .ok (.aload 4, 2) := dk_25 4 (dk_at dksX1_shift_2 8 rfl rfl)
theorem dX1_shift_57 : decode cX1_shift 57 = .ok (.invokevirtual 121, 3) := dk_182 0 121 (dk_at dksX1_shift_2 10 rfl rfl)
theorem dX1_shift_60 : decode cX1_shift 60 = .ok (.iconst 2, 1) := dk_5 (dk_at dksX1_shift_2 13 rfl rfl)
theorem dX1_shift_61 : decode cX1_shift 61 = .ok (.isub, 1) := dk_100 (dk_at dksX1_shift_2 14 rfl rfl)
theorem dX1_shift_62 : decode cX1_shift 62 = .ok (.istore 7, 2) := dk_54 7 (dk_at dksX1_shift_2 15 rfl rfl)
theorem dX1_shift_64 : decode cX1_shift 64 = .ok (.iload 7, 2) := dk_21 7 (dk_at dksX1_shift_2 17 rfl rfl)
theorem dX1_shift_66 : decode cX1_shift 66 = .ok (.iload 6, 2) := dk_21 6 (dk_at dksX1_shift_2 19 rfl rfl)
theorem dX1_shift_68 : decode cX1_shift 68 = .ok (.if_icmp .lt 47, 3) := dk_161 0 47 (dk_at dksX1_shift_2 21 rfl rfl)
theorem dX1_shift_71 : decode cX1_shift 71 = .ok (.aload 4, 2) := dk_25 4 (dk_at dksX1_shift_3 0 rfl rfl)
theorem dX1_shift_73 : decode cX1_shift 73 = .ok (.iload 7, 2) := dk_21 7 (dk_at dksX1_shift_3 2 rfl rfl)
theorem dX1_shift_75 : decode cX1_shift 75 = .ok (.aload 4, 2) := dk_25 4 (dk_at dksX1_shift_3 4 rfl rfl)
theorem dX1_shift_77 : decode cX1_shift 77 = .ok (.iload 7, 2) := dk_21 7 (dk_at dksX1_shift_3 6 rfl rfl)
theorem dX1_shift_79 : decode cX1_shift 79 = .ok (.invokevirtual 117, 3) := dk_182 0 117 (dk_at dksX1_shift_3 8 rfl rfl)
theorem dX1_shift_82 : decode cX1_shift 82 = .ok (.checkcast 34, 3) := dk_192 0 34 (dk_at dksX1_shift_3 11 rfl rfl)
theorem dX1_shift_85 : decode cX1_shift 85 = .ok (.aload 4, 2) := dk_25 4 (dk_at dksX1_shift_3 14 rfl rfl)
theorem dX1_shift_87 : decode cX1_shift 87 = .ok (.iload 7, 2) := dk_21 7 (dk_at dksX1_shift_3 16 rfl rfl)
theorem dX1_shift_89 : decode cX1_shift 89 = .ok (.iconst 1, 1) := dk_4 (dk_at dksX1_shift_3 18 rfl rfl)
theorem dX1_shift_90 : decode cX1_shift 90 = .ok (.iadd, 1) := dk_96 (dk_at dksX1_shift_3 19 rfl rfl)
theorem dX1_shift_91 : decode cX1_shift 91 = .ok (.invokevirtual 117, 3) := dk_182 0 117 (dk_at dksX1_shift_3 20 rfl rfl)
theorem dX1_shift_94 : decode cX1_shift 94 = .ok (.checkcast 34, 3) := dk_192 0 34 (dk_at dksX1_shift_4 0 rfl rfl)
theorem dX1_shift_97 : decode cX1_shift 97 = .ok (.aload 5, 2) := dk_25 5 (dk_at dksX1_shift_4 3 rfl rfl)
theorem dX1_shift_99 : decode cX1_shift 99 = .ok (.invokevirtual 91, 3) := dk_182 0 91 (dk_at dksX1_shift_4 5 rfl rfl)
theorem dX1_shift_102 : decode cX1_shift 102 = .ok (.invokevirtual 127, 3) := dk_182 0 127 (dk_at dksX1_shift_4 8 rfl rfl)
theorem dX1_shift_105 : decode cX1_shift 105 = .ok (.invokevirtual 100, 3) := dk_182 0 100 (dk_at dksX1_shift_4 11 rfl rfl)
theorem dX1_shift_108 : decode cX1_shift 108 = .ok (.pop, 1) := dk_87 (dk_at dksX1_shift_4 14 rfl rfl)
theorem dX1_shift_109 : decode cX1_shift 109 = .ok (.iinc 7 (-1), 3) := dk_132 7 255 (dk_at dksX1_shift_4 15 rfl rfl)
theorem dX1_shift_112 : decode cX1_shift 112 = .ok (.goto (-48), 3) := dk_167 255 208 (dk_at dksX1_shift_4 18 rfl rfl)
theorem dX1_shift_115 : decode cX1_shift 115 = .ok (.iinc 6 1, 3) := dk_132 6 1 (dk_at dksX1_shift_4 21 rfl rfl)
theorem dX1_shift_118 : decode cX1_shift 118 = .ok (.goto (-73), 3) := dk_167 255 183 (dk_at dksX1_shift_5 0 rfl rfl)
theorem dX1_shift_121 : decode cX1_shift 121 = .ok (.aload_n 0, 1) := dk_42 (dk_at dksX1_shift_5 3 rfl rfl)
theorem dX1_shift_122 : decode cX1_shift 122 = .ok (.iload_n 3, 1) := dk_29 (dk_at dksX1_shift_5 4 rfl rfl)
theorem dX1_shift_123 : decode cX1_shift 123 = .ok (.new 21, 3) := dk_187 0 21 (dk_at dksX1_shift_5 5 rfl rfl)
theorem dX1_shift_126 : decode cX1_shift 126 = .ok (.dup, 1) := dk_89 (dk_at dksX1_shift_5 8 rfl rfl)
theorem dX1_shift_127 : decode cX1_shift 127 = .ok (.aload 4, 2) := dk_25 4 (dk_at dksX1_shift_5 9 rfl rfl)
theorem dX1_shift_129 : decode cX1_shift 129 = .ok (.invokespecial 23, 3) := dk_183 0 23 (dk_at dksX1_shift_5 11 rfl rfl)
theorem dX1_shift_132 : decode cX1_shift 132 = .ok (.invokevirtual 167, 3) := dk_182 0 167 (dk_at dksX1_shift_5 14 rfl rfl)
theorem dX1_shift_135 : decode cX1_shift 135 = .ok (.ireturn, 1) := dk_172 (dk_at dksX1_shift_5 17 rfl rfl)
abbrev cX1_rowOf : ByteArray := prog_1_method_19_code
def yX1_rowOf : MethodName := ⟨RX1, "rowOf", "(I)Ljava/util/ArrayList;"⟩
def dkwX1_rowOf_2 : List UInt8 := [182, 0, 29, 87, 167, 255, 229, 44, 176]
abbrev dktX1_rowOf_2 : List UInt8 := dkwX1_rowOf_2 ++ []
def dkwX1_rowOf_1 : List UInt8 := [185, 0, 46, 1, 0, 153, 0, 24, 45, 185, 0, 52, 1, 0, 192, 0, 34, 58, 4, 44, 25, 4]
abbrev dktX1_rowOf_1 : List UInt8 := dkwX1_rowOf_1 ++ dktX1_rowOf_2
def dkwX1_rowOf_0 : List UInt8 := [187, 0, 7, 89, 183, 0, 9, 77, 42, 27, 182, 0, 145, 180, 0, 39, 182, 0, 42, 78, 45]
abbrev dktX1_rowOf_0 : List UInt8 := dkwX1_rowOf_0 ++ dktX1_rowOf_1
theorem dksX1_rowOf_0 : cX1_rowOf.data.toList.drop 0 = dktX1_rowOf_0 := by decide +kernel
theorem dksX1_rowOf_1 : cX1_rowOf.data.toList.drop 21 = dktX1_rowOf_1 := dk_seg dksX1_rowOf_0 21 rfl rfl
theorem dksX1_rowOf_2 : cX1_rowOf.data.toList.drop 43 = dktX1_rowOf_2 := dk_seg dksX1_rowOf_1 22 rfl rfl
theorem dX1_rowOf_0 : decode cX1_rowOf 0 = .ok (.new 7, 3) := dk_187 0 7 (dk_at dksX1_rowOf_0 0 rfl rfl)
theorem dX1_rowOf_3 : decode cX1_rowOf 3 = .ok (.dup, 1) := dk_89 (dk_at dksX1_rowOf_0 3 rfl rfl)
theorem dX1_rowOf_4 : decode cX1_rowOf 4 = .ok (.invokespecial 9, 3) := dk_183 0 9 (dk_at dksX1_rowOf_0 4 rfl rfl)
theorem dX1_rowOf_7 : decode cX1_rowOf 7 = .ok (.astore_n 2, 1) := dk_77 (dk_at dksX1_rowOf_0 7 rfl rfl)
theorem dX1_rowOf_8 : decode cX1_rowOf 8 = .ok (.aload_n 0, 1) := dk_42 (dk_at dksX1_rowOf_0 8 rfl rfl)
theorem dX1_rowOf_9 : decode cX1_rowOf 9 = .ok (.iload_n 1, 1) := dk_27 (dk_at dksX1_rowOf_0 9 rfl rfl)
theorem dX1_rowOf_10 : decode cX1_rowOf 10 = .ok (.invokevirtual 145, 3) := dk_182 0 145 (dk_at dksX1_rowOf_0 10 rfl rfl)
theorem dX1_rowOf_13 : decode cX1_rowOf 13 = .ok (.getfield 39, 3) := dk_180 0 39 (dk_at dksX1_rowOf_0 13 rfl rfl)
theorem dX1_rowOf_16 : decode cX1_rowOf 16 = .ok (.invokevirtual 42, 3) := dk_182 0 42 (dk_at dksX1_rowOf_0 16 rfl rfl)
theorem dX1_rowOf_19 : decode cX1_rowOf 19 = .ok (.astore_n 3, 1) := dk_78 (dk_at dksX1_rowOf_0 19 rfl rfl)
theorem dX1_rowOf_20 : decode cX1_rowOf 20 = .ok (.aload_n 3, 1) := dk_45 (dk_at dksX1_rowOf_0 20 rfl rfl)
theorem dX1_rowOf_21 : decode cX1_rowOf 21 = .ok (.invokeinterface 46 1, 5) := by decide +kernel
theorem dX1_rowOf_26 : decode cX1_rowOf 26 = .ok (.ifCond .eq 24, 3) := dk_153 0 24 (dk_at dksX1_rowOf_1 5 rfl rfl)
theorem dX1_rowOf_29 : decode cX1_rowOf 29 = .ok (.aload_n 3, 1) := dk_45 (dk_at dksX1_rowOf_1 8 rfl rfl)
theorem dX1_rowOf_30 : decode cX1_rowOf 30 = .ok (.invokeinterface 52 1, 5) := by decide +kernel
theorem dX1_rowOf_35 : decode cX1_rowOf 35 = .ok (.checkcast 34, 3) := dk_192 0 34 (dk_at dksX1_rowOf_1 14 rfl rfl)
theorem dX1_rowOf_38 : decode cX1_rowOf 38 = .ok (.astore 4, 2) := dk_58 4 (dk_at dksX1_rowOf_1 17 rfl rfl)
theorem dX1_rowOf_40 : decode cX1_rowOf 40 = .ok (.aload_n 2, 1) := dk_44 (dk_at dksX1_rowOf_1 19 rfl rfl)
theorem dX1_rowOf_41 : decode cX1_rowOf 41 = .ok (.aload 4, 2) := dk_25 4 (dk_at dksX1_rowOf_1 20 rfl rfl)
theorem dX1_rowOf_43 : decode cX1_rowOf 43 = .ok (.invokevirtual 29, 3) := dk_182 0 29 (dk_at dksX1_rowOf_2 0 rfl rfl)
theorem dX1_rowOf_46 : decode cX1_rowOf 46 = .ok (.pop, 1) := dk_87 (dk_at dksX1_rowOf_2 3 rfl rfl)
theorem dX1_rowOf_47 : decode cX1_rowOf 47 = .ok (.goto (-27), 3) := dk_167 255 229 (dk_at dksX1_rowOf_2 4 rfl rfl)
theorem dX1_rowOf_50 : decode cX1_rowOf 50 = .ok (.aload_n 2, 1) := dk_44 (dk_at dksX1_rowOf_2 7 rfl rfl)
theorem dX1_rowOf_51 : decode cX1_rowOf 51 = .ok (.areturn, 1) := dk_176 (dk_at dksX1_rowOf_2 8 rfl rfl)
abbrev cX1_reflect : ByteArray := prog_1_method_30_code
def yX1_reflect : MethodName := ⟨RX1, "reflect", "(II)I"⟩
def dkwX1_reflect_3 : List UInt8 := [182, 0, 56, 182, 0, 29, 87, 167, 255, 210, 42, 28, 187, 0, 21, 89, 45, 183, 0, 23, 182, 0, 167, 172]
abbrev dktX1_reflect_3 : List UInt8 := dkwX1_reflect_3 ++ []
def dkwX1_reflect_2 : List UInt8 := [192, 0, 34, 58, 5, 45, 45, 182, 0, 121, 5, 112, 154, 0, 8, 25, 5, 167, 0, 8, 25, 5]
abbrev dktX1_reflect_2 : List UInt8 := dkwX1_reflect_2 ++ dktX1_reflect_3
def dkwX1_reflect_1 : List UInt8 := [182, 0, 42, 58, 4, 25, 4, 185, 0, 46, 1, 0, 153, 0, 42, 25, 4, 185, 0, 52, 1, 0]
abbrev dktX1_reflect_1 : List UInt8 := dkwX1_reflect_1 ++ dktX1_reflect_2
def dkwX1_reflect_0 : List UInt8 := [27, 184, 0, 160, 28, 184, 0, 160, 187, 0, 7, 89, 183, 0, 9, 78, 42, 27, 182, 0, 145, 180, 0, 39]
abbrev dktX1_reflect_0 : List UInt8 := dkwX1_reflect_0 ++ dktX1_reflect_1
theorem dksX1_reflect_0 : cX1_reflect.data.toList.drop 0 = dktX1_reflect_0 := by decide +kernel
theorem dksX1_reflect_1 : cX1_reflect.data.toList.drop 24 = dktX1_reflect_1 := dk_seg dksX1_reflect_0 24 rfl rfl
theorem dksX1_reflect_2 : cX1_reflect.data.toList.drop 46 = dktX1_reflect_2 := dk_seg dksX1_reflect_1 22 rfl rfl
theorem dksX1_reflect_3 : cX1_reflect.data.toList.drop 68 = dktX1_reflect_3 := dk_seg dksX1_reflect_2 22 rfl rfl
theorem dX1_reflect_0 : decode cX1_reflect 0 = .ok (.iload_n 1, 1) := dk_27 (dk_at dksX1_reflect_0 0 rfl rfl)
theorem dX1_reflect_1 : decode cX1_reflect 1 = .ok (.invokestatic 160, 3) := dk_184 0 160 (dk_at dksX1_reflect_0 1 rfl rfl)
theorem dX1_reflect_4 : decode cX1_reflect 4 = .ok (.iload_n 2, 1) := dk_28 (dk_at dksX1_reflect_0 4 rfl rfl)
theorem dX1_reflect_5 : decode cX1_reflect 5 = .ok (.invokestatic 160, 3) := dk_184 0 160 (dk_at dksX1_reflect_0 5 rfl rfl)
theorem dX1_reflect_8 : decode cX1_reflect 8 = .ok (.new 7, 3) := dk_187 0 7 (dk_at dksX1_reflect_0 8 rfl rfl)
theorem dX1_reflect_11 : decode cX1_reflect 11 = .ok (.dup, 1) := dk_89 (dk_at dksX1_reflect_0 11 rfl rfl)
theorem dX1_reflect_12 : decode cX1_reflect 12 = .ok (.invokespecial 9, 3) := dk_183 0 9 (dk_at dksX1_reflect_0 12 rfl rfl)
theorem dX1_reflect_15 : decode cX1_reflect 15 = .ok (.astore_n 3, 1) := dk_78 (dk_at dksX1_reflect_0 15 rfl rfl)
theorem dX1_reflect_16 : decode cX1_reflect 16 = .ok (.aload_n 0, 1) := dk_42 (dk_at dksX1_reflect_0 16 rfl rfl)
theorem dX1_reflect_17 : decode cX1_reflect 17 = .ok (.iload_n 1, 1) := dk_27 (dk_at dksX1_reflect_0 17 rfl rfl)
theorem dX1_reflect_18 : decode cX1_reflect 18 = .ok (.invokevirtual 145, 3) := dk_182 0 145 (dk_at dksX1_reflect_0 18 rfl rfl)
theorem dX1_reflect_21 : decode cX1_reflect 21 = .ok (.getfield 39, 3) := dk_180 0 39 (dk_at dksX1_reflect_0 21 rfl rfl)
theorem dX1_reflect_24 : decode cX1_reflect 24 = .ok (.invokevirtual 42, 3) := dk_182 0 42 (dk_at dksX1_reflect_1 0 rfl rfl)
theorem dX1_reflect_27 : decode cX1_reflect 27 = .ok (.astore 4, 2) := dk_58 4 (dk_at dksX1_reflect_1 3 rfl rfl)
theorem dX1_reflect_29 : decode cX1_reflect 29 = .ok (.aload 4, 2) := dk_25 4 (dk_at dksX1_reflect_1 5 rfl rfl)
theorem dX1_reflect_31 : decode cX1_reflect 31 = .ok (.invokeinterface 46 1, 5) := by decide +kernel
theorem dX1_reflect_36 : decode cX1_reflect 36 = .ok (.ifCond .eq 42, 3) := dk_153 0 42 (dk_at dksX1_reflect_1 12 rfl rfl)
theorem dX1_reflect_39 : decode cX1_reflect 39 = .ok (.aload 4, 2) := dk_25 4 (dk_at dksX1_reflect_1 15 rfl rfl)
theorem dX1_reflect_41 : decode cX1_reflect 41 = .ok (.invokeinterface 52 1, 5) := by decide +kernel
theorem dX1_reflect_46 : decode cX1_reflect 46 = .ok (.checkcast 34, 3) := dk_192 0 34 (dk_at dksX1_reflect_2 0 rfl rfl)
theorem dX1_reflect_49 : decode cX1_reflect 49 = .ok (.astore 5, 2) := dk_58 5 (dk_at dksX1_reflect_2 3 rfl rfl)
theorem dX1_reflect_51 : decode cX1_reflect 51 = .ok (.aload_n 3, 1) := dk_45 (dk_at dksX1_reflect_2 5 rfl rfl)
theorem dX1_reflect_52 : decode cX1_reflect 52 = .ok (.aload_n 3, 1) := dk_45 (dk_at dksX1_reflect_2 6 rfl rfl)
theorem dX1_reflect_53 : decode cX1_reflect 53 = .ok (.invokevirtual 121, 3) := dk_182 0 121 (dk_at dksX1_reflect_2 7 rfl rfl)
theorem dX1_reflect_56 : decode cX1_reflect 56 = .ok (.iconst 2, 1) := dk_5 (dk_at dksX1_reflect_2 10 rfl rfl)
theorem dX1_reflect_57 : decode cX1_reflect 57 = .ok (.irem, 1) := dk_112 (dk_at dksX1_reflect_2 11 rfl rfl)
theorem dX1_reflect_58 : decode cX1_reflect 58 = .ok (.ifCond .ne 8, 3) := dk_154 0 8 (dk_at dksX1_reflect_2 12 rfl rfl)
theorem dX1_reflect_61 : decode cX1_reflect 61 = .ok (.aload 5, 2) := dk_25 5 (dk_at dksX1_reflect_2 15 rfl rfl)
theorem dX1_reflect_63 : decode cX1_reflect 63 = .ok (.goto 8, 3) := dk_167 0 8 (dk_at dksX1_reflect_2 17 rfl rfl)
theorem dX1_reflect_66 : decode cX1_reflect 66 = .ok (.aload 5, 2) := dk_25 5 (dk_at dksX1_reflect_2 20 rfl rfl)
theorem dX1_reflect_68 : decode cX1_reflect 68 = .ok (.invokevirtual 56, 3) := dk_182 0 56 (dk_at dksX1_reflect_3 0 rfl rfl)
theorem dX1_reflect_71 : decode cX1_reflect 71 = .ok (.invokevirtual 29, 3) := dk_182 0 29 (dk_at dksX1_reflect_3 3 rfl rfl)
theorem dX1_reflect_74 : decode cX1_reflect 74 = .ok (.pop, 1) := dk_87 (dk_at dksX1_reflect_3 6 rfl rfl)
theorem dX1_reflect_75 : decode cX1_reflect 75 = .ok (.goto (-46), 3) := dk_167 255 210 (dk_at dksX1_reflect_3 7 rfl rfl)
theorem dX1_reflect_78 : decode cX1_reflect 78 = .ok (.aload_n 0, 1) := dk_42 (dk_at dksX1_reflect_3 10 rfl rfl)
theorem dX1_reflect_79 : decode cX1_reflect 79 = .ok (.iload_n 2, 1) := dk_28 (dk_at dksX1_reflect_3 11 rfl rfl)
theorem dX1_reflect_80 : decode cX1_reflect 80 = .ok (.new 21, 3) := dk_187 0 21 (dk_at dksX1_reflect_3 12 rfl rfl)
theorem dX1_reflect_83 : decode cX1_reflect 83 = .ok (.dup, 1) := dk_89 (dk_at dksX1_reflect_3 15 rfl rfl)
theorem dX1_reflect_84 : decode cX1_reflect 84 = .ok (.aload_n 3, 1) := dk_45 (dk_at dksX1_reflect_3 16 rfl rfl)
theorem dX1_reflect_85 : decode cX1_reflect 85 = .ok (.invokespecial 23, 3) := dk_183 0 23 (dk_at dksX1_reflect_3 17 rfl rfl)
theorem dX1_reflect_88 : decode cX1_reflect 88 = .ok (.invokevirtual 167, 3) := dk_182 0 167 (dk_at dksX1_reflect_3 20 rfl rfl)
theorem dX1_reflect_91 : decode cX1_reflect 91 = .ok (.ireturn, 1) := dk_172 (dk_at dksX1_reflect_3 23 rfl rfl)
abbrev cX1_scale : ByteArray := prog_1_method_31_code
def yX1_scale : MethodName := ⟨RX1, "scale", "(III)I"⟩
def dkwX1_scale_4 : List UInt8 := [167, 255, 213, 42, 29, 187, 0, 21, 89, 25, 4, 183, 0, 23, 182, 0, 167, 172]
abbrev dktX1_scale_4 : List UInt8 := dkwX1_scale_4 ++ []
def dkwX1_scale_3 : List UInt8 := [182, 0, 91, 182, 0, 100, 87, 25, 5, 28, 133, 184, 0, 74, 182, 0, 91, 58, 5, 132, 6, 255]
abbrev dktX1_scale_3 : List UInt8 := dkwX1_scale_3 ++ dktX1_scale_4
def dkwX1_scale_2 : List UInt8 := [100, 54, 6, 21, 6, 155, 0, 44, 25, 4, 21, 6, 25, 4, 21, 6, 182, 0, 117, 192, 0, 34, 25, 5]
abbrev dktX1_scale_2 : List UInt8 := dkwX1_scale_2 ++ dktX1_scale_3
def dkwX1_scale_1 : List UInt8 := [183, 0, 140, 191, 42, 27, 182, 0, 180, 58, 4, 28, 133, 184, 0, 74, 58, 5, 25, 4, 182, 0, 121, 5]
abbrev dktX1_scale_1 : List UInt8 := dkwX1_scale_1 ++ dktX1_scale_2
def dkwX1_scale_0 : List UInt8 := [27, 184, 0, 160, 29, 184, 0, 160, 28, 5, 161, 0, 9, 28, 16, 9, 164, 0, 11, 187, 0, 138, 89]
abbrev dktX1_scale_0 : List UInt8 := dkwX1_scale_0 ++ dktX1_scale_1
theorem dksX1_scale_0 : cX1_scale.data.toList.drop 0 = dktX1_scale_0 := by decide +kernel
theorem dksX1_scale_1 : cX1_scale.data.toList.drop 23 = dktX1_scale_1 := dk_seg dksX1_scale_0 23 rfl rfl
theorem dksX1_scale_2 : cX1_scale.data.toList.drop 47 = dktX1_scale_2 := dk_seg dksX1_scale_1 24 rfl rfl
theorem dksX1_scale_3 : cX1_scale.data.toList.drop 71 = dktX1_scale_3 := dk_seg dksX1_scale_2 24 rfl rfl
theorem dksX1_scale_4 : cX1_scale.data.toList.drop 93 = dktX1_scale_4 := dk_seg dksX1_scale_3 22 rfl rfl
theorem dX1_scale_0 : decode cX1_scale 0 = .ok (.iload_n 1, 1) := dk_27 (dk_at dksX1_scale_0 0 rfl rfl)
theorem dX1_scale_1 : decode cX1_scale 1 = .ok (.invokestatic 160, 3) := dk_184 0 160 (dk_at dksX1_scale_0 1 rfl rfl)
theorem dX1_scale_4 : decode cX1_scale 4 = .ok (.iload_n 3, 1) := dk_29 (dk_at dksX1_scale_0 4 rfl rfl)
theorem dX1_scale_5 : decode cX1_scale 5 = .ok (.invokestatic 160, 3) := dk_184 0 160 (dk_at dksX1_scale_0 5 rfl rfl)
theorem dX1_scale_8 : decode cX1_scale 8 = .ok (.iload_n 2, 1) := dk_28 (dk_at dksX1_scale_0 8 rfl rfl)
theorem dX1_scale_9 : decode cX1_scale 9 = .ok (.iconst 2, 1) := dk_5 (dk_at dksX1_scale_0 9 rfl rfl)
theorem dX1_scale_10 : decode cX1_scale 10 = .ok (.if_icmp .lt 9, 3) := dk_161 0 9 (dk_at dksX1_scale_0 10 rfl rfl)
theorem dX1_scale_13 : decode cX1_scale 13 = .ok (.iload_n 2, 1) := dk_28 (dk_at dksX1_scale_0 13 rfl rfl)
theorem dX1_scale_14 : decode cX1_scale 14 = .ok (.bipush 9, 2) := dk_16 9 (dk_at dksX1_scale_0 14 rfl rfl)
theorem dX1_scale_16 : decode cX1_scale 16 = .ok (.if_icmp .le 11, 3) := dk_164 0 11 (dk_at dksX1_scale_0 16 rfl rfl)
theorem dX1_scale_19 : decode cX1_scale 19 = .ok (.new 138, 3) := dk_187 0 138 (dk_at dksX1_scale_0 19 rfl rfl)
theorem dX1_scale_22 : decode cX1_scale 22 = .ok (.dup, 1) := dk_89 (dk_at dksX1_scale_0 22 rfl rfl)
theorem dX1_scale_23 : decode cX1_scale 23 = .ok (.invokespecial 140, 3) := dk_183 0 140 (dk_at dksX1_scale_1 0 rfl rfl)
theorem dX1_scale_26 : decode cX1_scale 26 = .ok (.athrow, 1) := dk_191 (dk_at dksX1_scale_1 3 rfl rfl)
theorem dX1_scale_27 : decode cX1_scale 27 = .ok (.aload_n 0, 1) := dk_42 (dk_at dksX1_scale_1 4 rfl rfl)
theorem dX1_scale_28 : decode cX1_scale 28 = .ok (.iload_n 1, 1) := dk_27 (dk_at dksX1_scale_1 5 rfl rfl)
theorem dX1_scale_29 : decode cX1_scale 29 = .ok (.invokevirtual 180, 3) := dk_182 0 180 (dk_at dksX1_scale_1 6 rfl rfl)
theorem dX1_scale_32 : decode cX1_scale 32 = .ok (.astore 4, 2) := dk_58 4 (dk_at dksX1_scale_1 9 rfl rfl)
theorem dX1_scale_34 : decode cX1_scale 34 = .ok (.iload_n 2, 1) := dk_28 (dk_at dksX1_scale_1 11 rfl rfl)
theorem dX1_scale_35 : decode cX1_scale 35 = .ok (.i2l, 1) := dk_133 (dk_at dksX1_scale_1 12 rfl rfl)
theorem dX1_scale_36 : decode cX1_scale 36 = .ok (.invokestatic 74, 3) := dk_184 0 74 (dk_at dksX1_scale_1 13 rfl rfl)
theorem dX1_scale_39 : decode cX1_scale 39 = .ok (.astore 5, 2) := dk_58 5 (dk_at dksX1_scale_1 16 rfl rfl)
theorem dX1_scale_41 : decode cX1_scale 41 = .ok (.aload 4, 2) := dk_25 4 (dk_at dksX1_scale_1 18 rfl rfl)
theorem dX1_scale_43 : decode cX1_scale 43 = .ok (.invokevirtual 121, 3) := dk_182 0 121 (dk_at dksX1_scale_1 20 rfl rfl)
theorem dX1_scale_46 : decode cX1_scale 46 = .ok (.iconst 2, 1) := dk_5 (dk_at dksX1_scale_1 23 rfl rfl)
theorem dX1_scale_47 : decode cX1_scale 47 = .ok (.isub, 1) := dk_100 (dk_at dksX1_scale_2 0 rfl rfl)
theorem dX1_scale_48 : decode cX1_scale 48 = .ok (.istore 6, 2) := dk_54 6 (dk_at dksX1_scale_2 1 rfl rfl)
theorem dX1_scale_50 : decode cX1_scale 50 = .ok (.iload 6, 2) := dk_21 6 (dk_at dksX1_scale_2 3 rfl rfl)
theorem dX1_scale_52 : decode cX1_scale 52 = .ok (.ifCond .lt 44, 3) := dk_155 0 44 (dk_at dksX1_scale_2 5 rfl rfl)
theorem dX1_scale_55 : decode cX1_scale 55 = .ok (.aload 4, 2) := dk_25 4 (dk_at dksX1_scale_2 8 rfl rfl)
theorem dX1_scale_57 : decode cX1_scale 57 = .ok (.iload 6, 2) := dk_21 6 (dk_at dksX1_scale_2 10 rfl rfl)
theorem dX1_scale_59 : decode cX1_scale 59 = .ok (.aload 4, 2) := dk_25 4 (dk_at dksX1_scale_2 12 rfl rfl)
theorem dX1_scale_61 : decode cX1_scale 61 = .ok (.iload 6, 2) := dk_21 6 (dk_at dksX1_scale_2 14 rfl rfl)
theorem dX1_scale_63 : decode cX1_scale 63 = .ok (.invokevirtual 117, 3) := dk_182 0 117 (dk_at dksX1_scale_2 16 rfl rfl)
theorem dX1_scale_66 : decode cX1_scale 66 = .ok (.checkcast 34, 3) := dk_192 0 34 (dk_at dksX1_scale_2 19 rfl rfl)
theorem dX1_scale_69 : decode cX1_scale 69 = .ok (.aload 5, 2) := dk_25 5 (dk_at dksX1_scale_2 22 rfl rfl)
theorem dX1_scale_71 : decode cX1_scale 71 = .ok (.invokevirtual 91, 3) := dk_182 0 91 (dk_at dksX1_scale_3 0 rfl rfl)
theorem dX1_scale_74 : decode cX1_scale 74 = .ok (.invokevirtual 100, 3) := dk_182 0 100 (dk_at dksX1_scale_3 3 rfl rfl)
theorem dX1_scale_77 : decode cX1_scale 77 = .ok (.pop, 1) := dk_87 (dk_at dksX1_scale_3 6 rfl rfl)
theorem dX1_scale_78 : decode cX1_scale 78 = .ok (.aload 5, 2) := dk_25 5 (dk_at dksX1_scale_3 7 rfl rfl)
theorem dX1_scale_80 : decode cX1_scale 80 = .ok (.iload_n 2, 1) := dk_28 (dk_at dksX1_scale_3 9 rfl rfl)
theorem dX1_scale_81 : decode cX1_scale 81 = .ok (.i2l, 1) := dk_133 (dk_at dksX1_scale_3 10 rfl rfl)
theorem dX1_scale_82 : decode cX1_scale 82 = .ok (.invokestatic 74, 3) := dk_184 0 74 (dk_at dksX1_scale_3 11 rfl rfl)
theorem dX1_scale_85 : decode cX1_scale 85 = .ok (.invokevirtual 91, 3) := dk_182 0 91 (dk_at dksX1_scale_3 14 rfl rfl)
theorem dX1_scale_88 : decode cX1_scale 88 = .ok (.astore 5, 2) := dk_58 5 (dk_at dksX1_scale_3 17 rfl rfl)
theorem dX1_scale_90 : decode cX1_scale 90 = .ok (.iinc 6 (-1), 3) := dk_132 6 255 (dk_at dksX1_scale_3 19 rfl rfl)
theorem dX1_scale_93 : decode cX1_scale 93 = .ok (.goto (-43), 3) := dk_167 255 213 (dk_at dksX1_scale_4 0 rfl rfl)
theorem dX1_scale_96 : decode cX1_scale 96 = .ok (.aload_n 0, 1) := dk_42 (dk_at dksX1_scale_4 3 rfl rfl)
theorem dX1_scale_97 : decode cX1_scale 97 = .ok (.iload_n 3, 1) := dk_29 (dk_at dksX1_scale_4 4 rfl rfl)
theorem dX1_scale_98 : decode cX1_scale 98 = .ok (.new 21, 3) := dk_187 0 21 (dk_at dksX1_scale_4 5 rfl rfl)
theorem dX1_scale_101 : decode cX1_scale 101 = .ok (.dup, 1) := dk_89 (dk_at dksX1_scale_4 8 rfl rfl)
theorem dX1_scale_102 : decode cX1_scale 102 = .ok (.aload 4, 2) := dk_25 4 (dk_at dksX1_scale_4 9 rfl rfl)
theorem dX1_scale_104 : decode cX1_scale 104 = .ok (.invokespecial 23, 3) := dk_183 0 23 (dk_at dksX1_scale_4 11 rfl rfl)
theorem dX1_scale_107 : decode cX1_scale 107 = .ok (.invokevirtual 167, 3) := dk_182 0 167 (dk_at dksX1_scale_4 14 rfl rfl)
theorem dX1_scale_110 : decode cX1_scale 110 = .ok (.ireturn, 1) := dk_172 (dk_at dksX1_scale_4 17 rfl rfl)
abbrev cX1_gcd : ByteArray := prog_1_method_32_code
def yX1_gcd : MethodName := ⟨RX1, "gcd", "(III)I"⟩
def dkwX1_gcd_1 : List UInt8 := [184, 0, 184, 182, 0, 167, 172]
abbrev dktX1_gcd_1 : List UInt8 := dkwX1_gcd_1 ++ []
def dkwX1_gcd_0 : List UInt8 := [27, 184, 0, 160, 28, 184, 0, 160, 29, 184, 0, 160, 42, 29, 42, 27, 182, 0, 145, 42, 28, 182, 0, 145]
abbrev dktX1_gcd_0 : List UInt8 := dkwX1_gcd_0 ++ dktX1_gcd_1
theorem dksX1_gcd_0 : cX1_gcd.data.toList.drop 0 = dktX1_gcd_0 := by decide +kernel
theorem dksX1_gcd_1 : cX1_gcd.data.toList.drop 24 = dktX1_gcd_1 := dk_seg dksX1_gcd_0 24 rfl rfl
theorem dX1_gcd_0 : decode cX1_gcd 0 = .ok (.iload_n 1, 1) := dk_27 (dk_at dksX1_gcd_0 0 rfl rfl)
theorem dX1_gcd_1 : decode cX1_gcd 1 = .ok (.invokestatic 160, 3) := dk_184 0 160 (dk_at dksX1_gcd_0 1 rfl rfl)
theorem dX1_gcd_4 : decode cX1_gcd 4 = .ok (.iload_n 2, 1) := dk_28 (dk_at dksX1_gcd_0 4 rfl rfl)
theorem dX1_gcd_5 : decode cX1_gcd 5 = .ok (.invokestatic 160, 3) := dk_184 0 160 (dk_at dksX1_gcd_0 5 rfl rfl)
theorem dX1_gcd_8 : decode cX1_gcd 8 = .ok (.iload_n 3, 1) := dk_29 (dk_at dksX1_gcd_0 8 rfl rfl)
theorem dX1_gcd_9 : decode cX1_gcd 9 = .ok (.invokestatic 160, 3) := dk_184 0 160 (dk_at dksX1_gcd_0 9 rfl rfl)
theorem dX1_gcd_12 : decode cX1_gcd 12 = .ok (.aload_n 0, 1) := dk_42 (dk_at dksX1_gcd_0 12 rfl rfl)
theorem dX1_gcd_13 : decode cX1_gcd 13 = .ok (.iload_n 3, 1) := dk_29 (dk_at dksX1_gcd_0 13 rfl rfl)
theorem dX1_gcd_14 : decode cX1_gcd 14 = .ok (.aload_n 0, 1) := dk_42 (dk_at dksX1_gcd_0 14 rfl rfl)
theorem dX1_gcd_15 : decode cX1_gcd 15 = .ok (.iload_n 1, 1) := dk_27 (dk_at dksX1_gcd_0 15 rfl rfl)
theorem dX1_gcd_16 : decode cX1_gcd 16 = .ok (.invokevirtual 145, 3) := dk_182 0 145 (dk_at dksX1_gcd_0 16 rfl rfl)
theorem dX1_gcd_19 : decode cX1_gcd 19 = .ok (.aload_n 0, 1) := dk_42 (dk_at dksX1_gcd_0 19 rfl rfl)
theorem dX1_gcd_20 : decode cX1_gcd 20 = .ok (.iload_n 2, 1) := dk_28 (dk_at dksX1_gcd_0 20 rfl rfl)
theorem dX1_gcd_21 : decode cX1_gcd 21 = .ok (.invokevirtual 145, 3) := dk_182 0 145 (dk_at dksX1_gcd_0 21 rfl rfl)
theorem dX1_gcd_24 : decode cX1_gcd 24 = .ok (.invokestatic 184, 3) := dk_184 0 184 (dk_at dksX1_gcd_1 0 rfl rfl)
theorem dX1_gcd_27 : decode cX1_gcd 27 = .ok (.invokevirtual 167, 3) := dk_182 0 167 (dk_at dksX1_gcd_1 3 rfl rfl)
theorem dX1_gcd_30 : decode cX1_gcd 30 = .ok (.ireturn, 1) := dk_172 (dk_at dksX1_gcd_1 6 rfl rfl)
abbrev cX1_divisorOf : ByteArray := prog_1_method_9_code
def yX1_divisorOf : MethodName := ⟨RX1, "divisorOf", "(LSturmRoots$Poly;LSturmRoots$Poly;)LSturmRoots$Poly;"⟩
def dkwX1_divisorOf_1 : List UInt8 := [184, 0, 108, 78, 167, 255, 234, 44, 184, 0, 108, 184, 0, 111, 176]
abbrev dktX1_divisorOf_1 : List UInt8 := dkwX1_divisorOf_1 ++ []
def dkwX1_divisorOf_0 : List UInt8 := [42, 77, 43, 78, 45, 182, 0, 60, 155, 0, 21, 44, 45, 184, 0, 104, 58, 4, 45, 77, 25, 4]
abbrev dktX1_divisorOf_0 : List UInt8 := dkwX1_divisorOf_0 ++ dktX1_divisorOf_1
theorem dksX1_divisorOf_0 : cX1_divisorOf.data.toList.drop 0 = dktX1_divisorOf_0 := by decide +kernel
theorem dksX1_divisorOf_1 : cX1_divisorOf.data.toList.drop 22 = dktX1_divisorOf_1 := dk_seg dksX1_divisorOf_0 22 rfl rfl
theorem dX1_divisorOf_0 : decode cX1_divisorOf 0 = .ok (.aload_n 0, 1) := dk_42 (dk_at dksX1_divisorOf_0 0 rfl rfl)
theorem dX1_divisorOf_1 : decode cX1_divisorOf 1 = .ok (.astore_n 2, 1) := dk_77 (dk_at dksX1_divisorOf_0 1 rfl rfl)
theorem dX1_divisorOf_2 : decode cX1_divisorOf 2 = .ok (.aload_n 1, 1) := dk_43 (dk_at dksX1_divisorOf_0 2 rfl rfl)
theorem dX1_divisorOf_3 : decode cX1_divisorOf 3 = .ok (.astore_n 3, 1) := dk_78 (dk_at dksX1_divisorOf_0 3 rfl rfl)
theorem dX1_divisorOf_4 : decode cX1_divisorOf 4 = .ok (.aload_n 3, 1) := dk_45 (dk_at dksX1_divisorOf_0 4 rfl rfl)
theorem dX1_divisorOf_5 : decode cX1_divisorOf 5 = .ok (.invokevirtual 60, 3) := dk_182 0 60 (dk_at dksX1_divisorOf_0 5 rfl rfl)
theorem dX1_divisorOf_8 : decode cX1_divisorOf 8 = .ok (.ifCond .lt 21, 3) := dk_155 0 21 (dk_at dksX1_divisorOf_0 8 rfl rfl)
theorem dX1_divisorOf_11 : decode cX1_divisorOf 11 = .ok (.aload_n 2, 1) := dk_44 (dk_at dksX1_divisorOf_0 11 rfl rfl)
theorem dX1_divisorOf_12 : decode cX1_divisorOf 12 = .ok (.aload_n 3, 1) := dk_45 (dk_at dksX1_divisorOf_0 12 rfl rfl)
theorem dX1_divisorOf_13 : decode cX1_divisorOf 13 = .ok (.invokestatic 104, 3) := dk_184 0 104 (dk_at dksX1_divisorOf_0 13 rfl rfl)
theorem dX1_divisorOf_16 : decode cX1_divisorOf 16 = .ok (.astore 4, 2) := dk_58 4 (dk_at dksX1_divisorOf_0 16 rfl rfl)
theorem dX1_divisorOf_18 : decode cX1_divisorOf 18 = .ok (.aload_n 3, 1) := dk_45 (dk_at dksX1_divisorOf_0 18 rfl rfl)
theorem dX1_divisorOf_19 : decode cX1_divisorOf 19 = .ok (.astore_n 2, 1) := dk_77 (dk_at dksX1_divisorOf_0 19 rfl rfl)
theorem dX1_divisorOf_20 : decode cX1_divisorOf 20 = .ok (.aload 4, 2) := dk_25 4 (dk_at dksX1_divisorOf_0 20 rfl rfl)
theorem dX1_divisorOf_22 : decode cX1_divisorOf 22 = .ok (.invokestatic 108, 3) := dk_184 0 108 (dk_at dksX1_divisorOf_1 0 rfl rfl)
theorem dX1_divisorOf_25 : decode cX1_divisorOf 25 = .ok (.astore_n 3, 1) := dk_78 (dk_at dksX1_divisorOf_1 3 rfl rfl)
theorem dX1_divisorOf_26 : decode cX1_divisorOf 26 = .ok (.goto (-22), 3) := dk_167 255 234 (dk_at dksX1_divisorOf_1 4 rfl rfl)
theorem dX1_divisorOf_29 : decode cX1_divisorOf 29 = .ok (.aload_n 2, 1) := dk_44 (dk_at dksX1_divisorOf_1 7 rfl rfl)
theorem dX1_divisorOf_30 : decode cX1_divisorOf 30 = .ok (.invokestatic 108, 3) := dk_184 0 108 (dk_at dksX1_divisorOf_1 8 rfl rfl)
theorem dX1_divisorOf_33 : decode cX1_divisorOf 33 = .ok (.invokestatic 111, 3) := dk_184 0 111 (dk_at dksX1_divisorOf_1 11 rfl rfl)
theorem dX1_divisorOf_36 : decode cX1_divisorOf 36 = .ok (.areturn, 1) := dk_176 (dk_at dksX1_divisorOf_1 14 rfl rfl)
abbrev cX1_remainder : ByteArray := prog_1_method_7_code
def yX1_remainder : MethodName := ⟨RX1, "remainder", "(LSturmRoots$Poly;LSturmRoots$Poly;)LSturmRoots$Poly;"⟩
def dkwX1_remainder_7 : List UInt8 := [25, 4, 176]
abbrev dktX1_remainder_7 : List UInt8 := dkwX1_remainder_7 ++ []
def dkwX1_remainder_6 : List UInt8 := [182, 0, 29, 87, 132, 8, 1, 167, 255, 193, 187, 0, 21, 89, 25, 7, 183, 0, 23, 58, 4, 167, 255, 121]
abbrev dktX1_remainder_6 : List UInt8 := dkwX1_remainder_6 ++ dktX1_remainder_7
def dkwX1_remainder_5 : List UInt8 := [167, 0, 22, 25, 9, 43, 21, 8, 21, 5, 100, 182, 0, 87, 25, 6, 182, 0, 91, 182, 0, 97]
abbrev dktX1_remainder_5 : List UInt8 := dkwX1_remainder_5 ++ dktX1_remainder_6
def dkwX1_remainder_4 : List UInt8 := [25, 4, 21, 8, 182, 0, 87, 44, 182, 0, 91, 58, 9, 25, 7, 21, 8, 21, 5, 162, 0, 8, 25, 9]
abbrev dktX1_remainder_4 : List UInt8 := dkwX1_remainder_4 ++ dktX1_remainder_5
def dkwX1_remainder_3 : List UInt8 := [58, 6, 187, 0, 7, 89, 183, 0, 9, 58, 7, 3, 54, 8, 21, 8, 25, 4, 182, 0, 60, 162, 0, 59]
abbrev dktX1_remainder_3 : List UInt8 := dkwX1_remainder_3 ++ dktX1_remainder_4
def dkwX1_remainder_2 : List UInt8 := [100, 54, 5, 29, 153, 0, 14, 25, 4, 182, 0, 64, 182, 0, 56, 167, 0, 8, 25, 4, 182, 0, 64]
abbrev dktX1_remainder_2 : List UInt8 := dkwX1_remainder_2 ++ dktX1_remainder_3
def dkwX1_remainder_1 : List UInt8 := [42, 58, 4, 25, 4, 182, 0, 60, 43, 182, 0, 60, 161, 0, 129, 25, 4, 182, 0, 60, 43, 182, 0, 60]
abbrev dktX1_remainder_1 : List UInt8 := dkwX1_remainder_1 ++ dktX1_remainder_2
def dkwX1_remainder_0 : List UInt8 := [43, 182, 0, 64, 182, 0, 94, 77, 43, 182, 0, 64, 182, 0, 67, 156, 0, 7, 4, 167, 0, 4, 3, 62]
abbrev dktX1_remainder_0 : List UInt8 := dkwX1_remainder_0 ++ dktX1_remainder_1
theorem dksX1_remainder_0 : cX1_remainder.data.toList.drop 0 = dktX1_remainder_0 := by decide +kernel
theorem dksX1_remainder_1 : cX1_remainder.data.toList.drop 24 = dktX1_remainder_1 := dk_seg dksX1_remainder_0 24 rfl rfl
theorem dksX1_remainder_2 : cX1_remainder.data.toList.drop 48 = dktX1_remainder_2 := dk_seg dksX1_remainder_1 24 rfl rfl
theorem dksX1_remainder_3 : cX1_remainder.data.toList.drop 71 = dktX1_remainder_3 := dk_seg dksX1_remainder_2 23 rfl rfl
theorem dksX1_remainder_4 : cX1_remainder.data.toList.drop 95 = dktX1_remainder_4 := dk_seg dksX1_remainder_3 24 rfl rfl
theorem dksX1_remainder_5 : cX1_remainder.data.toList.drop 119 = dktX1_remainder_5 := dk_seg dksX1_remainder_4 24 rfl rfl
theorem dksX1_remainder_6 : cX1_remainder.data.toList.drop 141 = dktX1_remainder_6 := dk_seg dksX1_remainder_5 22 rfl rfl
theorem dksX1_remainder_7 : cX1_remainder.data.toList.drop 165 = dktX1_remainder_7 := dk_seg dksX1_remainder_6 24 rfl rfl
theorem dX1_remainder_0 : decode cX1_remainder 0 = .ok (.aload_n 1, 1) := dk_43 (dk_at dksX1_remainder_0 0 rfl rfl)
theorem dX1_remainder_1 : decode cX1_remainder 1 = .ok (.invokevirtual 64, 3) := dk_182 0 64 (dk_at dksX1_remainder_0 1 rfl rfl)
theorem dX1_remainder_4 : decode cX1_remainder 4 = .ok (.invokevirtual 94, 3) := dk_182 0 94 (dk_at dksX1_remainder_0 4 rfl rfl)
theorem dX1_remainder_7 : decode cX1_remainder 7 = .ok (.astore_n 2, 1) := dk_77 (dk_at dksX1_remainder_0 7 rfl rfl)
theorem dX1_remainder_8 : decode cX1_remainder 8 = .ok (.aload_n 1, 1) := dk_43 (dk_at dksX1_remainder_0 8 rfl rfl)
theorem dX1_remainder_9 : decode cX1_remainder 9 = .ok (.invokevirtual 64, 3) := dk_182 0 64 (dk_at dksX1_remainder_0 9 rfl rfl)
theorem dX1_remainder_12 : decode cX1_remainder 12 = .ok (.invokevirtual 67, 3) := dk_182 0 67 (dk_at dksX1_remainder_0 12 rfl rfl)
theorem dX1_remainder_15 : decode cX1_remainder 15 = .ok (.ifCond .ge 7, 3) := dk_156 0 7 (dk_at dksX1_remainder_0 15 rfl rfl)
theorem dX1_remainder_18 : decode cX1_remainder 18 = .ok (.iconst 1, 1) := dk_4 (dk_at dksX1_remainder_0 18 rfl rfl)
theorem dX1_remainder_19 : decode cX1_remainder 19 = .ok (.goto 4, 3) := dk_167 0 4 (dk_at dksX1_remainder_0 19 rfl rfl)
theorem dX1_remainder_22 : decode cX1_remainder 22 = .ok (.iconst 0, 1) := dk_3 (dk_at dksX1_remainder_0 22 rfl rfl)
theorem dX1_remainder_23 : decode cX1_remainder 23 = .ok (.istore_n 3, 1) := dk_62 (dk_at dksX1_remainder_0 23 rfl rfl)
theorem dX1_remainder_24 : decode cX1_remainder 24 = .ok (.aload_n 0, 1) := dk_42 (dk_at dksX1_remainder_1 0 rfl rfl)
theorem dX1_remainder_25 : decode cX1_remainder 25 = .ok (.astore 4, 2) := dk_58 4 (dk_at dksX1_remainder_1 1 rfl rfl)
theorem dX1_remainder_27 : decode cX1_remainder 27 = .ok (.aload 4, 2) := dk_25 4 (dk_at dksX1_remainder_1 3 rfl rfl)
theorem dX1_remainder_29 : decode cX1_remainder 29 = .ok (.invokevirtual 60, 3) := dk_182 0 60 (dk_at dksX1_remainder_1 5 rfl rfl)
theorem dX1_remainder_32 : decode cX1_remainder 32 = .ok (.aload_n 1, 1) := dk_43 (dk_at dksX1_remainder_1 8 rfl rfl)
theorem dX1_remainder_33 : decode cX1_remainder 33 = .ok (.invokevirtual 60, 3) := dk_182 0 60 (dk_at dksX1_remainder_1 9 rfl rfl)
theorem dX1_remainder_36 : decode cX1_remainder 36 = .ok (.if_icmp .lt 129, 3) := dk_161 0 129 (dk_at dksX1_remainder_1 12 rfl rfl)
theorem dX1_remainder_39 : decode cX1_remainder 39 = .ok (.aload 4, 2) := dk_25 4 (dk_at dksX1_remainder_1 15 rfl rfl)
theorem dX1_remainder_41 : decode cX1_remainder 41 = .ok (.invokevirtual 60, 3) := dk_182 0 60 (dk_at dksX1_remainder_1 17 rfl rfl)
theorem dX1_remainder_44 : decode cX1_remainder 44 = .ok (.aload_n 1, 1) := dk_43 (dk_at dksX1_remainder_1 20 rfl rfl)
theorem dX1_remainder_45 : decode cX1_remainder 45 = .ok (.invokevirtual 60, 3) := dk_182 0 60 (dk_at dksX1_remainder_1 21 rfl rfl)
theorem dX1_remainder_48 : decode cX1_remainder 48 = .ok (.isub, 1) := dk_100 (dk_at dksX1_remainder_2 0 rfl rfl)
theorem dX1_remainder_49 : decode cX1_remainder 49 = .ok (.istore 5, 2) := dk_54 5 (dk_at dksX1_remainder_2 1 rfl rfl)
theorem dX1_remainder_51 : decode cX1_remainder 51 = .ok (.iload_n 3, 1) := dk_29 (dk_at dksX1_remainder_2 3 rfl rfl)
theorem dX1_remainder_52 : decode cX1_remainder 52 = .ok (.ifCond .eq 14, 3) := dk_153 0 14 (dk_at dksX1_remainder_2 4 rfl rfl)
theorem dX1_remainder_55 : decode cX1_remainder 55 = .ok (.aload 4, 2) := dk_25 4 (dk_at dksX1_remainder_2 7 rfl rfl)
theorem dX1_remainder_57 : decode cX1_remainder 57 = .ok (.invokevirtual 64, 3) := dk_182 0 64 (dk_at dksX1_remainder_2 9 rfl rfl)
theorem dX1_remainder_60 : decode cX1_remainder 60 = .ok (.invokevirtual 56, 3) := dk_182 0 56 (dk_at dksX1_remainder_2 12 rfl rfl)
theorem dX1_remainder_63 : decode cX1_remainder 63 = .ok (.goto 8, 3) := dk_167 0 8 (dk_at dksX1_remainder_2 15 rfl rfl)
theorem dX1_remainder_66 : decode cX1_remainder 66 = .ok (.aload 4, 2) := dk_25 4 (dk_at dksX1_remainder_2 18 rfl rfl)
theorem dX1_remainder_68 : decode cX1_remainder 68 = .ok (.invokevirtual 64, 3) := dk_182 0 64 (dk_at dksX1_remainder_2 20 rfl rfl)
theorem dX1_remainder_71 : decode cX1_remainder 71 = .ok (.astore 6, 2) := dk_58 6 (dk_at dksX1_remainder_3 0 rfl rfl)
theorem dX1_remainder_73 : decode cX1_remainder 73 = .ok (.new 7, 3) := dk_187 0 7 (dk_at dksX1_remainder_3 2 rfl rfl)
theorem dX1_remainder_76 : decode cX1_remainder 76 = .ok (.dup, 1) := dk_89 (dk_at dksX1_remainder_3 5 rfl rfl)
theorem dX1_remainder_77 : decode cX1_remainder 77 = .ok (.invokespecial 9, 3) := dk_183 0 9 (dk_at dksX1_remainder_3 6 rfl rfl)
theorem dX1_remainder_80 : decode cX1_remainder 80 = .ok (.astore 7, 2) := dk_58 7 (dk_at dksX1_remainder_3 9 rfl rfl)
theorem dX1_remainder_82 : decode cX1_remainder 82 = .ok (.iconst 0, 1) := dk_3 (dk_at dksX1_remainder_3 11 rfl rfl)
theorem dX1_remainder_83 : decode cX1_remainder 83 = .ok (.istore 8, 2) := dk_54 8 (dk_at dksX1_remainder_3 12 rfl rfl)
theorem dX1_remainder_85 : decode cX1_remainder 85 = .ok (.iload 8, 2) := dk_21 8 (dk_at dksX1_remainder_3 14 rfl rfl)
theorem dX1_remainder_87 : decode cX1_remainder 87 = .ok (.aload 4, 2) := dk_25 4 (dk_at dksX1_remainder_3 16 rfl rfl)
theorem dX1_remainder_89 : decode cX1_remainder 89 = .ok (.invokevirtual 60, 3) := dk_182 0 60 (dk_at dksX1_remainder_3 18 rfl rfl)
theorem dX1_remainder_92 : decode cX1_remainder 92 = .ok (.if_icmp .ge 59, 3) := dk_162 0 59 (dk_at dksX1_remainder_3 21 rfl rfl)
theorem dX1_remainder_95 : decode cX1_remainder 95 = .ok (.aload 4, 2) := dk_25 4 (dk_at dksX1_remainder_4 0 rfl rfl)
theorem dX1_remainder_97 : decode cX1_remainder 97 = .ok (.iload 8, 2) := dk_21 8 (dk_at dksX1_remainder_4 2 rfl rfl)
theorem dX1_remainder_99 : decode cX1_remainder 99 = .ok (.invokevirtual 87, 3) := dk_182 0 87 (dk_at dksX1_remainder_4 4 rfl rfl)
theorem dX1_remainder_102 : decode cX1_remainder 102 = .ok (.aload_n 2, 1) := dk_44 (dk_at dksX1_remainder_4 7 rfl rfl)
theorem dX1_remainder_103 : decode cX1_remainder 103 = .ok (.invokevirtual 91, 3) := dk_182 0 91 (dk_at dksX1_remainder_4 8 rfl rfl)
theorem dX1_remainder_106 : decode cX1_remainder 106 = .ok (.astore 9, 2) := dk_58 9 (dk_at dksX1_remainder_4 11 rfl rfl)
theorem dX1_remainder_108 : decode cX1_remainder 108 = .ok (.aload 7, 2) := dk_25 7 (dk_at dksX1_remainder_4 13 rfl rfl)
theorem dX1_remainder_110 : decode cX1_remainder 110 = .ok (.iload 8, 2) := dk_21 8 (dk_at dksX1_remainder_4 15 rfl rfl)
theorem dX1_remainder_112 : decode cX1_remainder 112 = .ok (.iload 5, 2) := dk_21 5 (dk_at dksX1_remainder_4 17 rfl rfl)
theorem dX1_remainder_114 : decode cX1_remainder 114 = .ok (.if_icmp .ge 8, 3) := dk_162 0 8 (dk_at dksX1_remainder_4 19 rfl rfl)
theorem dX1_remainder_117 : decode cX1_remainder 117 = .ok (.aload 9, 2) := dk_25 9 (dk_at dksX1_remainder_4 22 rfl rfl)
theorem dX1_remainder_119 : decode cX1_remainder 119 = .ok (.goto 22, 3) := dk_167 0 22 (dk_at dksX1_remainder_5 0 rfl rfl)
theorem dX1_remainder_122 : decode cX1_remainder 122 = .ok (.aload 9, 2) := dk_25 9 (dk_at dksX1_remainder_5 3 rfl rfl)
theorem dX1_remainder_124 : decode cX1_remainder 124 = .ok (.aload_n 1, 1) := dk_43 (dk_at dksX1_remainder_5 5 rfl rfl)
theorem dX1_remainder_125 : decode cX1_remainder 125 = .ok (.iload 8, 2) := dk_21 8 (dk_at dksX1_remainder_5 6 rfl rfl)
theorem dX1_remainder_127 : decode cX1_remainder 127 = .ok (.iload 5, 2) := dk_21 5 (dk_at dksX1_remainder_5 8 rfl rfl)
theorem dX1_remainder_129 : decode cX1_remainder 129 = .ok (.isub, 1) := dk_100 (dk_at dksX1_remainder_5 10 rfl rfl)
theorem dX1_remainder_130 : decode cX1_remainder 130 = .ok (.invokevirtual 87, 3) := dk_182 0 87 (dk_at dksX1_remainder_5 11 rfl rfl)
theorem dX1_remainder_133 : decode cX1_remainder 133 = .ok (.aload 6, 2) := dk_25 6 (dk_at dksX1_remainder_5 14 rfl rfl)
theorem dX1_remainder_135 : decode cX1_remainder 135 = .ok (.invokevirtual 91, 3) := dk_182 0 91 (dk_at dksX1_remainder_5 16 rfl rfl)
theorem dX1_remainder_138 : decode cX1_remainder 138 = .ok (.invokevirtual 97, 3) := dk_182 0 97 (dk_at dksX1_remainder_5 19 rfl rfl)
theorem dX1_remainder_141 : decode cX1_remainder 141 = .ok (.invokevirtual 29, 3) := dk_182 0 29 (dk_at dksX1_remainder_6 0 rfl rfl)
theorem dX1_remainder_144 : decode cX1_remainder 144 = .ok (.pop, 1) := dk_87 (dk_at dksX1_remainder_6 3 rfl rfl)
theorem dX1_remainder_145 : decode cX1_remainder 145 = .ok (.iinc 8 1, 3) := dk_132 8 1 (dk_at dksX1_remainder_6 4 rfl rfl)
theorem dX1_remainder_148 : decode cX1_remainder 148 = .ok (.goto (-63), 3) := dk_167 255 193 (dk_at dksX1_remainder_6 7 rfl rfl)
theorem dX1_remainder_151 : decode cX1_remainder 151 = .ok (.new 21, 3) := dk_187 0 21 (dk_at dksX1_remainder_6 10 rfl rfl)
theorem dX1_remainder_154 : decode cX1_remainder 154 = .ok (.dup, 1) := dk_89 (dk_at dksX1_remainder_6 13 rfl rfl)
theorem dX1_remainder_155 : decode cX1_remainder 155 = .ok (.aload 7, 2) := dk_25 7 (dk_at dksX1_remainder_6 14 rfl rfl)
theorem dX1_remainder_157 : decode cX1_remainder 157 = .ok (.invokespecial 23, 3) := dk_183 0 23 (dk_at dksX1_remainder_6 16 rfl rfl)
theorem dX1_remainder_160 : decode cX1_remainder 160 = .ok (.astore 4, 2) := dk_58 4 (dk_at dksX1_remainder_6 19 rfl rfl)
theorem dX1_remainder_162 : decode cX1_remainder 162 = .ok (.goto (-135), 3) := dk_167 255 121 (dk_at dksX1_remainder_6 21 rfl rfl)
theorem dX1_remainder_165 : decode cX1_remainder 165 = .ok (.aload 4, 2) := dk_25 4 (dk_at dksX1_remainder_7 0 rfl rfl)
theorem dX1_remainder_167 : decode cX1_remainder 167 = .ok (.areturn, 1) := dk_176 (dk_at dksX1_remainder_7 2 rfl rfl)
abbrev cX1_primitive : ByteArray := prog_1_method_5_code
def yX1_primitive : MethodName := ⟨RX1, "primitive", "(LSturmRoots$Poly;)LSturmRoots$Poly;"⟩
def dkwX1_primitive_5 : List UInt8 := [182, 0, 84, 182, 0, 29, 87, 167, 255, 223, 187, 0, 21, 89, 45, 183, 0, 23, 176]
abbrev dktX1_primitive_5 : List UInt8 := dkwX1_primitive_5 ++ []
def dkwX1_primitive_4 : List UInt8 := [185, 0, 46, 1, 0, 153, 0, 29, 25, 4, 185, 0, 52, 1, 0, 192, 0, 34, 58, 5, 45, 25, 5, 44]
abbrev dktX1_primitive_4 : List UInt8 := dkwX1_primitive_4 ++ dktX1_primitive_5
def dkwX1_primitive_3 : List UInt8 := [42, 176, 187, 0, 7, 89, 183, 0, 9, 78, 42, 180, 0, 39, 182, 0, 42, 58, 4, 25, 4]
abbrev dktX1_primitive_3 : List UInt8 := dkwX1_primitive_3 ++ dktX1_primitive_4
def dkwX1_primitive_2 : List UInt8 := [25, 4, 182, 0, 80, 77, 167, 255, 221, 44, 43, 182, 0, 77, 154, 0, 10, 44, 182, 0, 67, 154, 0, 5]
abbrev dktX1_primitive_2 : List UInt8 := dkwX1_primitive_2 ++ dktX1_primitive_3
def dkwX1_primitive_1 : List UInt8 := [153, 0, 32, 45, 185, 0, 52, 1, 0, 192, 0, 34, 58, 4, 44, 43, 182, 0, 77, 154, 0, 10, 44]
abbrev dktX1_primitive_1 : List UInt8 := dkwX1_primitive_1 ++ dktX1_primitive_2
def dkwX1_primitive_0 : List UInt8 := [10, 184, 0, 74, 76, 9, 184, 0, 74, 77, 42, 180, 0, 39, 182, 0, 42, 78, 45, 185, 0, 46, 1, 0]
abbrev dktX1_primitive_0 : List UInt8 := dkwX1_primitive_0 ++ dktX1_primitive_1
theorem dksX1_primitive_0 : cX1_primitive.data.toList.drop 0 = dktX1_primitive_0 := by decide +kernel
theorem dksX1_primitive_1 : cX1_primitive.data.toList.drop 24 = dktX1_primitive_1 := dk_seg dksX1_primitive_0 24 rfl rfl
theorem dksX1_primitive_2 : cX1_primitive.data.toList.drop 47 = dktX1_primitive_2 := dk_seg dksX1_primitive_1 23 rfl rfl
theorem dksX1_primitive_3 : cX1_primitive.data.toList.drop 71 = dktX1_primitive_3 := dk_seg dksX1_primitive_2 24 rfl rfl
theorem dksX1_primitive_4 : cX1_primitive.data.toList.drop 92 = dktX1_primitive_4 := dk_seg dksX1_primitive_3 21 rfl rfl
theorem dksX1_primitive_5 : cX1_primitive.data.toList.drop 116 = dktX1_primitive_5 := dk_seg dksX1_primitive_4 24 rfl rfl
theorem dX1_primitive_0 : decode cX1_primitive 0 = .ok (.lconst 1, 1) := dk_10 (dk_at dksX1_primitive_0 0 rfl rfl)
theorem dX1_primitive_1 : decode cX1_primitive 1 = .ok (.invokestatic 74, 3) := dk_184 0 74 (dk_at dksX1_primitive_0 1 rfl rfl)
theorem dX1_primitive_4 : decode cX1_primitive 4 = .ok (.astore_n 1, 1) := dk_76 (dk_at dksX1_primitive_0 4 rfl rfl)
theorem dX1_primitive_5 : decode cX1_primitive 5 = .ok (.lconst 0, 1) := dk_9 (dk_at dksX1_primitive_0 5 rfl rfl)
theorem dX1_primitive_6 : decode cX1_primitive 6 = .ok (.invokestatic 74, 3) := dk_184 0 74 (dk_at dksX1_primitive_0 6 rfl rfl)
theorem dX1_primitive_9 : decode cX1_primitive 9 = .ok (.astore_n 2, 1) := dk_77 (dk_at dksX1_primitive_0 9 rfl rfl)
theorem dX1_primitive_10 : decode cX1_primitive 10 = .ok (.aload_n 0, 1) := dk_42 (dk_at dksX1_primitive_0 10 rfl rfl)
theorem dX1_primitive_11 : decode cX1_primitive 11 = .ok (.getfield 39, 3) := dk_180 0 39 (dk_at dksX1_primitive_0 11 rfl rfl)
theorem dX1_primitive_14 : decode cX1_primitive 14 = .ok (.invokevirtual 42, 3) := dk_182 0 42 (dk_at dksX1_primitive_0 14 rfl rfl)
theorem dX1_primitive_17 : decode cX1_primitive 17 = .ok (.astore_n 3, 1) := dk_78 (dk_at dksX1_primitive_0 17 rfl rfl)
theorem dX1_primitive_18 : decode cX1_primitive 18 = .ok (.aload_n 3, 1) := dk_45 (dk_at dksX1_primitive_0 18 rfl rfl)
theorem dX1_primitive_19 : decode cX1_primitive 19 = .ok (.invokeinterface 46 1, 5) := by decide +kernel
theorem dX1_primitive_24 : decode cX1_primitive 24 = .ok (.ifCond .eq 32, 3) := dk_153 0 32 (dk_at dksX1_primitive_1 0 rfl rfl)
theorem dX1_primitive_27 : decode cX1_primitive 27 = .ok (.aload_n 3, 1) := dk_45 (dk_at dksX1_primitive_1 3 rfl rfl)
theorem dX1_primitive_28 : decode cX1_primitive 28 = .ok (.invokeinterface 52 1, 5) := by decide +kernel
theorem dX1_primitive_33 : decode cX1_primitive 33 = .ok (.checkcast 34, 3) := dk_192 0 34 (dk_at dksX1_primitive_1 9 rfl rfl)
theorem dX1_primitive_36 : decode cX1_primitive 36 = .ok (.astore 4, 2) := dk_58 4 (dk_at dksX1_primitive_1 12 rfl rfl)
theorem dX1_primitive_38 : decode cX1_primitive 38 = .ok (.aload_n 2, 1) := dk_44 (dk_at dksX1_primitive_1 14 rfl rfl)
theorem dX1_primitive_39 : decode cX1_primitive 39 = .ok (.aload_n 1, 1) := dk_43 (dk_at dksX1_primitive_1 15 rfl rfl)
theorem dX1_primitive_40 : decode cX1_primitive 40 = .ok (.invokevirtual 77, 3) := dk_182 0 77 (dk_at dksX1_primitive_1 16 rfl rfl)
theorem dX1_primitive_43 : decode cX1_primitive 43 = .ok (.ifCond .ne 10, 3) := dk_154 0 10 (dk_at dksX1_primitive_1 19 rfl rfl)
theorem dX1_primitive_46 : decode cX1_primitive 46 = .ok (.aload_n 2, 1) := dk_44 (dk_at dksX1_primitive_1 22 rfl rfl)
theorem dX1_primitive_47 : decode cX1_primitive 47 = .ok (.aload 4, 2) := dk_25 4 (dk_at dksX1_primitive_2 0 rfl rfl)
theorem dX1_primitive_49 : decode cX1_primitive 49 = .ok (.invokevirtual 80, 3) := dk_182 0 80 (dk_at dksX1_primitive_2 2 rfl rfl)
theorem dX1_primitive_52 : decode cX1_primitive 52 = .ok (.astore_n 2, 1) := dk_77 (dk_at dksX1_primitive_2 5 rfl rfl)
theorem dX1_primitive_53 : decode cX1_primitive 53 = .ok (.goto (-35), 3) := dk_167 255 221 (dk_at dksX1_primitive_2 6 rfl rfl)
theorem dX1_primitive_56 : decode cX1_primitive 56 = .ok (.aload_n 2, 1) := dk_44 (dk_at dksX1_primitive_2 9 rfl rfl)
theorem dX1_primitive_57 : decode cX1_primitive 57 = .ok (.aload_n 1, 1) := dk_43 (dk_at dksX1_primitive_2 10 rfl rfl)
theorem dX1_primitive_58 : decode cX1_primitive 58 = .ok (.invokevirtual 77, 3) := dk_182 0 77 (dk_at dksX1_primitive_2 11 rfl rfl)
theorem dX1_primitive_61 : decode cX1_primitive 61 = .ok (.ifCond .ne 10, 3) := dk_154 0 10 (dk_at dksX1_primitive_2 14 rfl rfl)
theorem dX1_primitive_64 : decode cX1_primitive 64 = .ok (.aload_n 2, 1) := dk_44 (dk_at dksX1_primitive_2 17 rfl rfl)
theorem dX1_primitive_65 : decode cX1_primitive 65 = .ok (.invokevirtual 67, 3) := dk_182 0 67 (dk_at dksX1_primitive_2 18 rfl rfl)
theorem dX1_primitive_68 : decode cX1_primitive 68 = .ok (.ifCond .ne 5, 3) := dk_154 0 5 (dk_at dksX1_primitive_2 21 rfl rfl)
theorem dX1_primitive_71 : decode cX1_primitive 71 = .ok (.aload_n 0, 1) := dk_42 (dk_at dksX1_primitive_3 0 rfl rfl)
theorem dX1_primitive_72 : decode cX1_primitive 72 = .ok (.areturn, 1) := dk_176 (dk_at dksX1_primitive_3 1 rfl rfl)
theorem dX1_primitive_73 : decode cX1_primitive 73 = .ok (.new 7, 3) := dk_187 0 7 (dk_at dksX1_primitive_3 2 rfl rfl)
theorem dX1_primitive_76 : decode cX1_primitive 76 = .ok (.dup, 1) := dk_89 (dk_at dksX1_primitive_3 5 rfl rfl)
theorem dX1_primitive_77 : decode cX1_primitive 77 = .ok (.invokespecial 9, 3) := dk_183 0 9 (dk_at dksX1_primitive_3 6 rfl rfl)
theorem dX1_primitive_80 : decode cX1_primitive 80 = .ok (.astore_n 3, 1) := dk_78 (dk_at dksX1_primitive_3 9 rfl rfl)
theorem dX1_primitive_81 : decode cX1_primitive 81 = .ok (.aload_n 0, 1) := dk_42 (dk_at dksX1_primitive_3 10 rfl rfl)
theorem dX1_primitive_82 : decode cX1_primitive 82 = .ok (.getfield 39, 3) := dk_180 0 39 (dk_at dksX1_primitive_3 11 rfl rfl)
theorem dX1_primitive_85 : decode cX1_primitive 85 = .ok (.invokevirtual 42, 3) := dk_182 0 42 (dk_at dksX1_primitive_3 14 rfl rfl)
theorem dX1_primitive_88 : decode cX1_primitive 88 = .ok (.astore 4, 2) := dk_58 4 (dk_at dksX1_primitive_3 17 rfl rfl)
theorem dX1_primitive_90 : decode cX1_primitive 90 = .ok (.aload 4, 2) := dk_25 4 (dk_at dksX1_primitive_3 19 rfl rfl)
theorem dX1_primitive_92 : decode cX1_primitive 92 = .ok (.invokeinterface 46 1, 5) := by decide +kernel
theorem dX1_primitive_97 : decode cX1_primitive 97 = .ok (.ifCond .eq 29, 3) := dk_153 0 29 (dk_at dksX1_primitive_4 5 rfl rfl)
theorem dX1_primitive_100 : decode cX1_primitive 100 = .ok (.aload 4, 2) := dk_25 4 (dk_at dksX1_primitive_4 8 rfl rfl)
theorem dX1_primitive_102 : decode cX1_primitive 102 = .ok (.invokeinterface 52 1, 5) := by decide +kernel
theorem dX1_primitive_107 : decode cX1_primitive 107 = .ok (.checkcast 34, 3) := dk_192 0 34 (dk_at dksX1_primitive_4 15 rfl rfl)
theorem dX1_primitive_110 : decode cX1_primitive 110 = .ok (.astore 5, 2) := dk_58 5 (dk_at dksX1_primitive_4 18 rfl rfl)
theorem dX1_primitive_112 : decode cX1_primitive 112 = .ok (.aload_n 3, 1) := dk_45 (dk_at dksX1_primitive_4 20 rfl rfl)
theorem dX1_primitive_113 : decode cX1_primitive 113 = .ok (.aload 5, 2) := dk_25 5 (dk_at dksX1_primitive_4 21 rfl rfl)
theorem dX1_primitive_115 : decode cX1_primitive 115 = .ok (.aload_n 2, 1) := dk_44 (dk_at dksX1_primitive_4 23 rfl rfl)
theorem dX1_primitive_116 : decode cX1_primitive 116 = .ok (.invokevirtual 84, 3) := dk_182 0 84 (dk_at dksX1_primitive_5 0 rfl rfl)
theorem dX1_primitive_119 : decode cX1_primitive 119 = .ok (.invokevirtual 29, 3) := dk_182 0 29 (dk_at dksX1_primitive_5 3 rfl rfl)
theorem dX1_primitive_122 : decode cX1_primitive 122 = .ok (.pop, 1) := dk_87 (dk_at dksX1_primitive_5 6 rfl rfl)
theorem dX1_primitive_123 : decode cX1_primitive 123 = .ok (.goto (-33), 3) := dk_167 255 223 (dk_at dksX1_primitive_5 7 rfl rfl)
theorem dX1_primitive_126 : decode cX1_primitive 126 = .ok (.new 21, 3) := dk_187 0 21 (dk_at dksX1_primitive_5 10 rfl rfl)
theorem dX1_primitive_129 : decode cX1_primitive 129 = .ok (.dup, 1) := dk_89 (dk_at dksX1_primitive_5 13 rfl rfl)
theorem dX1_primitive_130 : decode cX1_primitive 130 = .ok (.aload_n 3, 1) := dk_45 (dk_at dksX1_primitive_5 14 rfl rfl)
theorem dX1_primitive_131 : decode cX1_primitive 131 = .ok (.invokespecial 23, 3) := dk_183 0 23 (dk_at dksX1_primitive_5 15 rfl rfl)
theorem dX1_primitive_134 : decode cX1_primitive 134 = .ok (.areturn, 1) := dk_176 (dk_at dksX1_primitive_5 18 rfl rfl)
abbrev cX1_positive : ByteArray := prog_1_method_4_code
def yX1_positive : MethodName := ⟨RX1, "positive", "(LSturmRoots$Poly;)LSturmRoots$Poly;"⟩
def dkwX1_positive_1 : List UInt8 := [42, 176]
abbrev dktX1_positive_1 : List UInt8 := dkwX1_positive_1 ++ []
def dkwX1_positive_0 : List UInt8 := [42, 182, 0, 60, 155, 0, 20, 42, 182, 0, 64, 182, 0, 67, 156, 0, 10, 42, 184, 0, 70, 167, 0, 4]
abbrev dktX1_positive_0 : List UInt8 := dkwX1_positive_0 ++ dktX1_positive_1
theorem dksX1_positive_0 : cX1_positive.data.toList.drop 0 = dktX1_positive_0 := by decide +kernel
theorem dksX1_positive_1 : cX1_positive.data.toList.drop 24 = dktX1_positive_1 := dk_seg dksX1_positive_0 24 rfl rfl
theorem dX1_positive_0 : decode cX1_positive 0 = .ok (.aload_n 0, 1) := dk_42 (dk_at dksX1_positive_0 0 rfl rfl)
theorem dX1_positive_1 : decode cX1_positive 1 = .ok (.invokevirtual 60, 3) := dk_182 0 60 (dk_at dksX1_positive_0 1 rfl rfl)
theorem dX1_positive_4 : decode cX1_positive 4 = .ok (.ifCond .lt 20, 3) := dk_155 0 20 (dk_at dksX1_positive_0 4 rfl rfl)
theorem dX1_positive_7 : decode cX1_positive 7 = .ok (.aload_n 0, 1) := dk_42 (dk_at dksX1_positive_0 7 rfl rfl)
theorem dX1_positive_8 : decode cX1_positive 8 = .ok (.invokevirtual 64, 3) := dk_182 0 64 (dk_at dksX1_positive_0 8 rfl rfl)
theorem dX1_positive_11 : decode cX1_positive 11 = .ok (.invokevirtual 67, 3) := dk_182 0 67 (dk_at dksX1_positive_0 11 rfl rfl)
theorem dX1_positive_14 : decode cX1_positive 14 = .ok (.ifCond .ge 10, 3) := dk_156 0 10 (dk_at dksX1_positive_0 14 rfl rfl)
theorem dX1_positive_17 : decode cX1_positive 17 = .ok (.aload_n 0, 1) := dk_42 (dk_at dksX1_positive_0 17 rfl rfl)
theorem dX1_positive_18 : decode cX1_positive 18 = .ok (.invokestatic 70, 3) := dk_184 0 70 (dk_at dksX1_positive_0 18 rfl rfl)
theorem dX1_positive_21 : decode cX1_positive 21 = .ok (.goto 4, 3) := dk_167 0 4 (dk_at dksX1_positive_0 21 rfl rfl)
theorem dX1_positive_24 : decode cX1_positive 24 = .ok (.aload_n 0, 1) := dk_42 (dk_at dksX1_positive_1 0 rfl rfl)
theorem dX1_positive_25 : decode cX1_positive 25 = .ok (.areturn, 1) := dk_176 (dk_at dksX1_positive_1 1 rfl rfl)
abbrev cX1_negated : ByteArray := prog_1_method_3_code
def yX1_negated : MethodName := ⟨RX1, "negated", "(LSturmRoots$Poly;)LSturmRoots$Poly;"⟩
def dkwX1_negated_2 : List UInt8 := [167, 255, 228, 187, 0, 21, 89, 43, 183, 0, 23, 176]
abbrev dktX1_negated_2 : List UInt8 := dkwX1_negated_2 ++ []
def dkwX1_negated_1 : List UInt8 := [153, 0, 25, 44, 185, 0, 52, 1, 0, 192, 0, 34, 78, 43, 45, 182, 0, 56, 182, 0, 29, 87]
abbrev dktX1_negated_1 : List UInt8 := dkwX1_negated_1 ++ dktX1_negated_2
def dkwX1_negated_0 : List UInt8 := [187, 0, 7, 89, 183, 0, 9, 76, 42, 180, 0, 39, 182, 0, 42, 77, 44, 185, 0, 46, 1, 0]
abbrev dktX1_negated_0 : List UInt8 := dkwX1_negated_0 ++ dktX1_negated_1
theorem dksX1_negated_0 : cX1_negated.data.toList.drop 0 = dktX1_negated_0 := by decide +kernel
theorem dksX1_negated_1 : cX1_negated.data.toList.drop 22 = dktX1_negated_1 := dk_seg dksX1_negated_0 22 rfl rfl
theorem dksX1_negated_2 : cX1_negated.data.toList.drop 44 = dktX1_negated_2 := dk_seg dksX1_negated_1 22 rfl rfl
theorem dX1_negated_0 : decode cX1_negated 0 = .ok (.new 7, 3) := dk_187 0 7 (dk_at dksX1_negated_0 0 rfl rfl)
theorem dX1_negated_3 : decode cX1_negated 3 = .ok (.dup, 1) := dk_89 (dk_at dksX1_negated_0 3 rfl rfl)
theorem dX1_negated_4 : decode cX1_negated 4 = .ok (.invokespecial 9, 3) := dk_183 0 9 (dk_at dksX1_negated_0 4 rfl rfl)
theorem dX1_negated_7 : decode cX1_negated 7 = .ok (.astore_n 1, 1) := dk_76 (dk_at dksX1_negated_0 7 rfl rfl)
theorem dX1_negated_8 : decode cX1_negated 8 = .ok (.aload_n 0, 1) := dk_42 (dk_at dksX1_negated_0 8 rfl rfl)
theorem dX1_negated_9 : decode cX1_negated 9 = .ok (.getfield 39, 3) := dk_180 0 39 (dk_at dksX1_negated_0 9 rfl rfl)
theorem dX1_negated_12 : decode cX1_negated 12 = .ok (.invokevirtual 42, 3) := dk_182 0 42 (dk_at dksX1_negated_0 12 rfl rfl)
theorem dX1_negated_15 : decode cX1_negated 15 = .ok (.astore_n 2, 1) := dk_77 (dk_at dksX1_negated_0 15 rfl rfl)
theorem dX1_negated_16 : decode cX1_negated 16 = .ok (.aload_n 2, 1) := dk_44 (dk_at dksX1_negated_0 16 rfl rfl)
theorem dX1_negated_17 : decode cX1_negated 17 = .ok (.invokeinterface 46 1, 5) := by decide +kernel
theorem dX1_negated_22 : decode cX1_negated 22 = .ok (.ifCond .eq 25, 3) := dk_153 0 25 (dk_at dksX1_negated_1 0 rfl rfl)
theorem dX1_negated_25 : decode cX1_negated 25 = .ok (.aload_n 2, 1) := dk_44 (dk_at dksX1_negated_1 3 rfl rfl)
theorem dX1_negated_26 : decode cX1_negated 26 = .ok (.invokeinterface 52 1, 5) := by decide +kernel
theorem dX1_negated_31 : decode cX1_negated 31 = .ok (.checkcast 34, 3) := dk_192 0 34 (dk_at dksX1_negated_1 9 rfl rfl)
theorem dX1_negated_34 : decode cX1_negated 34 = .ok (.astore_n 3, 1) := dk_78 (dk_at dksX1_negated_1 12 rfl rfl)
theorem dX1_negated_35 : decode cX1_negated 35 = .ok (.aload_n 1, 1) := dk_43 (dk_at dksX1_negated_1 13 rfl rfl)
theorem dX1_negated_36 : decode cX1_negated 36 = .ok (.aload_n 3, 1) := dk_45 (dk_at dksX1_negated_1 14 rfl rfl)
theorem dX1_negated_37 : decode cX1_negated 37 = .ok (.invokevirtual 56, 3) := dk_182 0 56 (dk_at dksX1_negated_1 15 rfl rfl)
theorem dX1_negated_40 : decode cX1_negated 40 = .ok (.invokevirtual 29, 3) := dk_182 0 29 (dk_at dksX1_negated_1 18 rfl rfl)
theorem dX1_negated_43 : decode cX1_negated 43 = .ok (.pop, 1) := dk_87 (dk_at dksX1_negated_1 21 rfl rfl)
theorem dX1_negated_44 : decode cX1_negated 44 = .ok (.goto (-28), 3) := dk_167 255 228 (dk_at dksX1_negated_2 0 rfl rfl)
theorem dX1_negated_47 : decode cX1_negated 47 = .ok (.new 21, 3) := dk_187 0 21 (dk_at dksX1_negated_2 3 rfl rfl)
theorem dX1_negated_50 : decode cX1_negated 50 = .ok (.dup, 1) := dk_89 (dk_at dksX1_negated_2 6 rfl rfl)
theorem dX1_negated_51 : decode cX1_negated 51 = .ok (.aload_n 1, 1) := dk_43 (dk_at dksX1_negated_2 7 rfl rfl)
theorem dX1_negated_52 : decode cX1_negated 52 = .ok (.invokespecial 23, 3) := dk_183 0 23 (dk_at dksX1_negated_2 8 rfl rfl)
theorem dX1_negated_55 : decode cX1_negated 55 = .ok (.areturn, 1) := dk_176 (dk_at dksX1_negated_2 11 rfl rfl)
abbrev cX1_squareFreePart : ByteArray := prog_1_method_33_code
def yX1_squareFreePart : MethodName := ⟨RX1, "squareFreePart", "(II)I"⟩
def dkwX1_squareFreePart_0 : List UInt8 := [27, 184, 0, 160, 28, 184, 0, 160, 42, 28, 42, 27, 182, 0, 187, 182, 0, 191, 182, 0, 167, 172]
abbrev dktX1_squareFreePart_0 : List UInt8 := dkwX1_squareFreePart_0 ++ []
theorem dksX1_squareFreePart_0 : cX1_squareFreePart.data.toList.drop 0 = dktX1_squareFreePart_0 := by decide +kernel
theorem dX1_squareFreePart_0 : decode cX1_squareFreePart 0 = .ok (.iload_n 1, 1) := dk_27 (dk_at dksX1_squareFreePart_0 0 rfl rfl)
theorem dX1_squareFreePart_1 : decode cX1_squareFreePart 1 = .ok (.invokestatic 160, 3) := dk_184 0 160 (dk_at dksX1_squareFreePart_0 1 rfl rfl)
theorem dX1_squareFreePart_4 : decode cX1_squareFreePart 4 = .ok (.iload_n 2, 1) := dk_28 (dk_at dksX1_squareFreePart_0 4 rfl rfl)
theorem dX1_squareFreePart_5 : decode cX1_squareFreePart 5 = .ok (.invokestatic 160, 3) := dk_184 0 160 (dk_at dksX1_squareFreePart_0 5 rfl rfl)
theorem dX1_squareFreePart_8 : decode cX1_squareFreePart 8 = .ok (.aload_n 0, 1) := dk_42 (dk_at dksX1_squareFreePart_0 8 rfl rfl)
theorem dX1_squareFreePart_9 : decode cX1_squareFreePart 9 = .ok (.iload_n 2, 1) := dk_28 (dk_at dksX1_squareFreePart_0 9 rfl rfl)
theorem dX1_squareFreePart_10 : decode cX1_squareFreePart 10 = .ok (.aload_n 0, 1) := dk_42 (dk_at dksX1_squareFreePart_0 10 rfl rfl)
theorem dX1_squareFreePart_11 : decode cX1_squareFreePart 11 = .ok (.iload_n 1, 1) := dk_27 (dk_at dksX1_squareFreePart_0 11 rfl rfl)
theorem dX1_squareFreePart_12 : decode cX1_squareFreePart 12 = .ok (.invokevirtual 187, 3) := dk_182 0 187 (dk_at dksX1_squareFreePart_0 12 rfl rfl)
theorem dX1_squareFreePart_15 : decode cX1_squareFreePart 15 = .ok (.invokevirtual 191, 3) := dk_182 0 191 (dk_at dksX1_squareFreePart_0 15 rfl rfl)
theorem dX1_squareFreePart_18 : decode cX1_squareFreePart 18 = .ok (.invokevirtual 167, 3) := dk_182 0 167 (dk_at dksX1_squareFreePart_0 18 rfl rfl)
theorem dX1_squareFreePart_21 : decode cX1_squareFreePart 21 = .ok (.ireturn, 1) := dk_172 (dk_at dksX1_squareFreePart_0 21 rfl rfl)
abbrev cX1_mustNotBeZero : ByteArray := prog_1_method_20_code
def yX1_mustNotBeZero : MethodName := ⟨RX1, "mustNotBeZero", "(I)LSturmRoots$Known;"⟩
def dkwX1_mustNotBeZero_1 : List UInt8 := [182, 0, 117, 192, 0, 19, 176]
abbrev dktX1_mustNotBeZero_1 : List UInt8 := dkwX1_mustNotBeZero_1 ++ []
def dkwX1_mustNotBeZero_0 : List UInt8 := [42, 27, 182, 0, 145, 182, 0, 60, 156, 0, 11, 187, 0, 148, 89, 183, 0, 150, 191, 42, 180, 0, 10, 27]
abbrev dktX1_mustNotBeZero_0 : List UInt8 := dkwX1_mustNotBeZero_0 ++ dktX1_mustNotBeZero_1
theorem dksX1_mustNotBeZero_0 : cX1_mustNotBeZero.data.toList.drop 0 = dktX1_mustNotBeZero_0 := by decide +kernel
theorem dksX1_mustNotBeZero_1 : cX1_mustNotBeZero.data.toList.drop 24 = dktX1_mustNotBeZero_1 := dk_seg dksX1_mustNotBeZero_0 24 rfl rfl
theorem dX1_mustNotBeZero_0 : decode cX1_mustNotBeZero 0 = .ok (.aload_n 0, 1) := dk_42 (dk_at dksX1_mustNotBeZero_0 0 rfl rfl)
theorem dX1_mustNotBeZero_1 : decode cX1_mustNotBeZero 1 = .ok (.iload_n 1, 1) := dk_27 (dk_at dksX1_mustNotBeZero_0 1 rfl rfl)
theorem dX1_mustNotBeZero_2 : decode cX1_mustNotBeZero 2 = .ok (.invokevirtual 145, 3) := dk_182 0 145 (dk_at dksX1_mustNotBeZero_0 2 rfl rfl)
theorem dX1_mustNotBeZero_5 : decode cX1_mustNotBeZero 5 = .ok (.invokevirtual 60, 3) := dk_182 0 60 (dk_at dksX1_mustNotBeZero_0 5 rfl rfl)
theorem dX1_mustNotBeZero_8 : decode cX1_mustNotBeZero 8 = .ok (.ifCond .ge 11, 3) := dk_156 0 11 (dk_at dksX1_mustNotBeZero_0 8 rfl rfl)
theorem dX1_mustNotBeZero_11 : decode cX1_mustNotBeZero 11 = .ok (.new 148, 3) := dk_187 0 148 (dk_at dksX1_mustNotBeZero_0 11 rfl rfl)
theorem dX1_mustNotBeZero_14 : decode cX1_mustNotBeZero 14 = .ok (.dup, 1) := dk_89 (dk_at dksX1_mustNotBeZero_0 14 rfl rfl)
theorem dX1_mustNotBeZero_15 : decode cX1_mustNotBeZero 15 = .ok (.invokespecial 150, 3) := dk_183 0 150 (dk_at dksX1_mustNotBeZero_0 15 rfl rfl)
theorem dX1_mustNotBeZero_18 : decode cX1_mustNotBeZero 18 = .ok (.athrow, 1) := dk_191 (dk_at dksX1_mustNotBeZero_0 18 rfl rfl)
theorem dX1_mustNotBeZero_19 : decode cX1_mustNotBeZero 19 = .ok (.aload_n 0, 1) := dk_42 (dk_at dksX1_mustNotBeZero_0 19 rfl rfl)
theorem dX1_mustNotBeZero_20 : decode cX1_mustNotBeZero 20 = .ok (.getfield 10, 3) := dk_180 0 10 (dk_at dksX1_mustNotBeZero_0 20 rfl rfl)
theorem dX1_mustNotBeZero_23 : decode cX1_mustNotBeZero 23 = .ok (.iload_n 1, 1) := dk_27 (dk_at dksX1_mustNotBeZero_0 23 rfl rfl)
theorem dX1_mustNotBeZero_24 : decode cX1_mustNotBeZero 24 = .ok (.invokevirtual 117, 3) := dk_182 0 117 (dk_at dksX1_mustNotBeZero_1 0 rfl rfl)
theorem dX1_mustNotBeZero_27 : decode cX1_mustNotBeZero 27 = .ok (.checkcast 19, 3) := dk_192 0 19 (dk_at dksX1_mustNotBeZero_1 3 rfl rfl)
theorem dX1_mustNotBeZero_30 : decode cX1_mustNotBeZero 30 = .ok (.areturn, 1) := dk_176 (dk_at dksX1_mustNotBeZero_1 6 rfl rfl)
abbrev cX1_sturm : ByteArray := prog_1_method_10_code
def yX1_sturm : MethodName := ⟨RX1, "sturm", "(LSturmRoots$Poly;)Ljava/util/ArrayList;"⟩
def dkwX1_sturm_4 : List UInt8 := [4, 100, 182, 0, 117, 192, 0, 21, 184, 0, 104, 77, 167, 255, 208, 43, 176]
abbrev dktX1_sturm_4 : List UInt8 := dkwX1_sturm_4 ++ []
def dkwX1_sturm_3 : List UInt8 := [184, 0, 108, 182, 0, 29, 87, 43, 182, 0, 121, 62, 43, 29, 5, 100, 182, 0, 117, 192, 0, 21, 43, 29]
abbrev dktX1_sturm_3 : List UInt8 := dkwX1_sturm_3 ++ dktX1_sturm_4
def dkwX1_sturm_2 : List UInt8 := [182, 0, 117, 192, 0, 21, 184, 0, 104, 77, 44, 182, 0, 60, 155, 0, 47, 43, 44, 184, 0, 70]
abbrev dktX1_sturm_2 : List UInt8 := dkwX1_sturm_2 ++ dktX1_sturm_3
def dkwX1_sturm_1 : List UInt8 := [43, 42, 184, 0, 114, 184, 0, 108, 182, 0, 29, 87, 43, 3, 182, 0, 117, 192, 0, 21, 43, 4]
abbrev dktX1_sturm_1 : List UInt8 := dkwX1_sturm_1 ++ dktX1_sturm_2
def dkwX1_sturm_0 : List UInt8 := [187, 0, 7, 89, 183, 0, 9, 76, 43, 42, 184, 0, 108, 182, 0, 29, 87, 42, 182, 0, 60, 158, 0, 86]
abbrev dktX1_sturm_0 : List UInt8 := dkwX1_sturm_0 ++ dktX1_sturm_1
theorem dksX1_sturm_0 : cX1_sturm.data.toList.drop 0 = dktX1_sturm_0 := by decide +kernel
theorem dksX1_sturm_1 : cX1_sturm.data.toList.drop 24 = dktX1_sturm_1 := dk_seg dksX1_sturm_0 24 rfl rfl
theorem dksX1_sturm_2 : cX1_sturm.data.toList.drop 46 = dktX1_sturm_2 := dk_seg dksX1_sturm_1 22 rfl rfl
theorem dksX1_sturm_3 : cX1_sturm.data.toList.drop 68 = dktX1_sturm_3 := dk_seg dksX1_sturm_2 22 rfl rfl
theorem dksX1_sturm_4 : cX1_sturm.data.toList.drop 92 = dktX1_sturm_4 := dk_seg dksX1_sturm_3 24 rfl rfl
theorem dX1_sturm_0 : decode cX1_sturm 0 = .ok (.new 7, 3) := dk_187 0 7 (dk_at dksX1_sturm_0 0 rfl rfl)
theorem dX1_sturm_3 : decode cX1_sturm 3 = .ok (.dup, 1) := dk_89 (dk_at dksX1_sturm_0 3 rfl rfl)
theorem dX1_sturm_4 : decode cX1_sturm 4 = .ok (.invokespecial 9, 3) := dk_183 0 9 (dk_at dksX1_sturm_0 4 rfl rfl)
theorem dX1_sturm_7 : decode cX1_sturm 7 = .ok (.astore_n 1, 1) := dk_76 (dk_at dksX1_sturm_0 7 rfl rfl)
theorem dX1_sturm_8 : decode cX1_sturm 8 = .ok (.aload_n 1, 1) := dk_43 (dk_at dksX1_sturm_0 8 rfl rfl)
theorem dX1_sturm_9 : decode cX1_sturm 9 = .ok (.aload_n 0, 1) := dk_42 (dk_at dksX1_sturm_0 9 rfl rfl)
theorem dX1_sturm_10 : decode cX1_sturm 10 = .ok (.invokestatic 108, 3) := dk_184 0 108 (dk_at dksX1_sturm_0 10 rfl rfl)
theorem dX1_sturm_13 : decode cX1_sturm 13 = .ok (.invokevirtual 29, 3) := dk_182 0 29 (dk_at dksX1_sturm_0 13 rfl rfl)
theorem dX1_sturm_16 : decode cX1_sturm 16 = .ok (.pop, 1) := dk_87 (dk_at dksX1_sturm_0 16 rfl rfl)
theorem dX1_sturm_17 : decode cX1_sturm 17 = .ok (.aload_n 0, 1) := dk_42 (dk_at dksX1_sturm_0 17 rfl rfl)
theorem dX1_sturm_18 : decode cX1_sturm 18 = .ok (.invokevirtual 60, 3) := dk_182 0 60 (dk_at dksX1_sturm_0 18 rfl rfl)
theorem dX1_sturm_21 : decode cX1_sturm 21 = .ok (.ifCond .le 86, 3) := dk_158 0 86 (dk_at dksX1_sturm_0 21 rfl rfl)
theorem dX1_sturm_24 : decode cX1_sturm 24 = .ok (.aload_n 1, 1) := dk_43 (dk_at dksX1_sturm_1 0 rfl rfl)
theorem dX1_sturm_25 : decode cX1_sturm 25 = .ok (.aload_n 0, 1) := dk_42 (dk_at dksX1_sturm_1 1 rfl rfl)
theorem dX1_sturm_26 : decode cX1_sturm 26 = .ok (.invokestatic 114, 3) := dk_184 0 114 (dk_at dksX1_sturm_1 2 rfl rfl)
theorem dX1_sturm_29 : decode cX1_sturm 29 = .ok (.invokestatic 108, 3) := dk_184 0 108 (dk_at dksX1_sturm_1 5 rfl rfl)
theorem dX1_sturm_32 : decode cX1_sturm 32 = .ok (.invokevirtual 29, 3) := dk_182 0 29 (dk_at dksX1_sturm_1 8 rfl rfl)
theorem dX1_sturm_35 : decode cX1_sturm 35 = .ok (.pop, 1) := dk_87 (dk_at dksX1_sturm_1 11 rfl rfl)
theorem dX1_sturm_36 : decode cX1_sturm 36 = .ok (.aload_n 1, 1) := dk_43 (dk_at dksX1_sturm_1 12 rfl rfl)
theorem dX1_sturm_37 : decode cX1_sturm 37 = .ok (.iconst 0, 1) := dk_3 (dk_at dksX1_sturm_1 13 rfl rfl)
theorem dX1_sturm_38 : decode cX1_sturm 38 = .ok (.invokevirtual 117, 3) := dk_182 0 117 (dk_at dksX1_sturm_1 14 rfl rfl)
theorem dX1_sturm_41 : decode cX1_sturm 41 = .ok (.checkcast 21, 3) := dk_192 0 21 (dk_at dksX1_sturm_1 17 rfl rfl)
theorem dX1_sturm_44 : decode cX1_sturm 44 = .ok (.aload_n 1, 1) := dk_43 (dk_at dksX1_sturm_1 20 rfl rfl)
theorem dX1_sturm_45 : decode cX1_sturm 45 = .ok (.iconst 1, 1) := dk_4 (dk_at dksX1_sturm_1 21 rfl rfl)
theorem dX1_sturm_46 : decode cX1_sturm 46 = .ok (.invokevirtual 117, 3) := dk_182 0 117 (dk_at dksX1_sturm_2 0 rfl rfl)
theorem dX1_sturm_49 : decode cX1_sturm 49 = .ok (.checkcast 21, 3) := dk_192 0 21 (dk_at dksX1_sturm_2 3 rfl rfl)
theorem dX1_sturm_52 : decode cX1_sturm 52 = .ok (.invokestatic 104, 3) := dk_184 0 104 (dk_at dksX1_sturm_2 6 rfl rfl)
theorem dX1_sturm_55 : decode cX1_sturm 55 = .ok (.astore_n 2, 1) := dk_77 (dk_at dksX1_sturm_2 9 rfl rfl)
theorem dX1_sturm_56 : decode cX1_sturm 56 = .ok (.aload_n 2, 1) := dk_44 (dk_at dksX1_sturm_2 10 rfl rfl)
theorem dX1_sturm_57 : decode cX1_sturm 57 = .ok (.invokevirtual 60, 3) := dk_182 0 60 (dk_at dksX1_sturm_2 11 rfl rfl)
theorem dX1_sturm_60 : decode cX1_sturm 60 = .ok (.ifCond .lt 47, 3) := dk_155 0 47 (dk_at dksX1_sturm_2 14 rfl rfl)
theorem dX1_sturm_63 : decode cX1_sturm 63 = .ok (.aload_n 1, 1) := dk_43 (dk_at dksX1_sturm_2 17 rfl rfl)
theorem dX1_sturm_64 : decode cX1_sturm 64 = .ok (.aload_n 2, 1) := dk_44 (dk_at dksX1_sturm_2 18 rfl rfl)
theorem dX1_sturm_65 : decode cX1_sturm 65 = .ok (.invokestatic 70, 3) := dk_184 0 70 (dk_at dksX1_sturm_2 19 rfl rfl)
theorem dX1_sturm_68 : decode cX1_sturm 68 = .ok (.invokestatic 108, 3) := dk_184 0 108 (dk_at dksX1_sturm_3 0 rfl rfl)
theorem dX1_sturm_71 : decode cX1_sturm 71 = .ok (.invokevirtual 29, 3) := dk_182 0 29 (dk_at dksX1_sturm_3 3 rfl rfl)
theorem dX1_sturm_74 : decode cX1_sturm 74 = .ok (.pop, 1) := dk_87 (dk_at dksX1_sturm_3 6 rfl rfl)
theorem dX1_sturm_75 : decode cX1_sturm 75 = .ok (.aload_n 1, 1) := dk_43 (dk_at dksX1_sturm_3 7 rfl rfl)
theorem dX1_sturm_76 : decode cX1_sturm 76 = .ok (.invokevirtual 121, 3) := dk_182 0 121 (dk_at dksX1_sturm_3 8 rfl rfl)
theorem dX1_sturm_79 : decode cX1_sturm 79 = .ok (.istore_n 3, 1) := dk_62 (dk_at dksX1_sturm_3 11 rfl rfl)
theorem dX1_sturm_80 : decode cX1_sturm 80 = .ok (.aload_n 1, 1) := dk_43 (dk_at dksX1_sturm_3 12 rfl rfl)
theorem dX1_sturm_81 : decode cX1_sturm 81 = .ok (.iload_n 3, 1) := dk_29 (dk_at dksX1_sturm_3 13 rfl rfl)
theorem dX1_sturm_82 : decode cX1_sturm 82 = .ok (.iconst 2, 1) := dk_5 (dk_at dksX1_sturm_3 14 rfl rfl)
theorem dX1_sturm_83 : decode cX1_sturm 83 = .ok (.isub, 1) := dk_100 (dk_at dksX1_sturm_3 15 rfl rfl)
theorem dX1_sturm_84 : decode cX1_sturm 84 = .ok (.invokevirtual 117, 3) := dk_182 0 117 (dk_at dksX1_sturm_3 16 rfl rfl)
theorem dX1_sturm_87 : decode cX1_sturm 87 = .ok (.checkcast 21, 3) := dk_192 0 21 (dk_at dksX1_sturm_3 19 rfl rfl)
theorem dX1_sturm_90 : decode cX1_sturm 90 = .ok (.aload_n 1, 1) := dk_43 (dk_at dksX1_sturm_3 22 rfl rfl)
theorem dX1_sturm_91 : decode cX1_sturm 91 = .ok (.iload_n 3, 1) := dk_29 (dk_at dksX1_sturm_3 23 rfl rfl)
theorem dX1_sturm_92 : decode cX1_sturm 92 = .ok (.iconst 1, 1) := dk_4 (dk_at dksX1_sturm_4 0 rfl rfl)
theorem dX1_sturm_93 : decode cX1_sturm 93 = .ok (.isub, 1) := dk_100 (dk_at dksX1_sturm_4 1 rfl rfl)
theorem dX1_sturm_94 : decode cX1_sturm 94 = .ok (.invokevirtual 117, 3) := dk_182 0 117 (dk_at dksX1_sturm_4 2 rfl rfl)
theorem dX1_sturm_97 : decode cX1_sturm 97 = .ok (.checkcast 21, 3) := dk_192 0 21 (dk_at dksX1_sturm_4 5 rfl rfl)
theorem dX1_sturm_100 : decode cX1_sturm 100 = .ok (.invokestatic 104, 3) := dk_184 0 104 (dk_at dksX1_sturm_4 8 rfl rfl)
theorem dX1_sturm_103 : decode cX1_sturm 103 = .ok (.astore_n 2, 1) := dk_77 (dk_at dksX1_sturm_4 11 rfl rfl)
theorem dX1_sturm_104 : decode cX1_sturm 104 = .ok (.goto (-48), 3) := dk_167 255 208 (dk_at dksX1_sturm_4 12 rfl rfl)
theorem dX1_sturm_107 : decode cX1_sturm 107 = .ok (.aload_n 1, 1) := dk_43 (dk_at dksX1_sturm_4 15 rfl rfl)
theorem dX1_sturm_108 : decode cX1_sturm 108 = .ok (.areturn, 1) := dk_176 (dk_at dksX1_sturm_4 16 rfl rfl)
abbrev cX1_quotient : ByteArray := prog_1_method_8_code
def yX1_quotient : MethodName := ⟨RX1, "quotient", "(LSturmRoots$Poly;LSturmRoots$Poly;)LSturmRoots$Poly;"⟩
def dkwX1_quotient_7 : List UInt8 := [183, 0, 23, 78, 167, 255, 130, 187, 0, 21, 89, 44, 183, 0, 23, 176]
abbrev dktX1_quotient_7 : List UInt8 := dkwX1_quotient_7 ++ []
def dkwX1_quotient_6 : List UInt8 := [182, 0, 91, 182, 0, 97, 182, 0, 29, 87, 132, 7, 1, 167, 255, 199, 187, 0, 21, 89, 25, 6]
abbrev dktX1_quotient_6 : List UInt8 := dkwX1_quotient_6 ++ dktX1_quotient_7
def dkwX1_quotient_5 : List UInt8 := [182, 0, 87, 167, 0, 26, 45, 21, 7, 182, 0, 87, 43, 21, 7, 21, 4, 100, 182, 0, 87, 25, 5]
abbrev dktX1_quotient_5 : List UInt8 := dkwX1_quotient_5 ++ dktX1_quotient_6
def dkwX1_quotient_4 : List UInt8 := [54, 7, 21, 7, 45, 182, 0, 60, 162, 0, 54, 25, 6, 21, 7, 21, 4, 162, 0, 12, 45, 21, 7]
abbrev dktX1_quotient_4 : List UInt8 := dkwX1_quotient_4 ++ dktX1_quotient_5
def dkwX1_quotient_3 : List UInt8 := [182, 0, 84, 58, 5, 44, 21, 4, 25, 5, 182, 0, 100, 87, 187, 0, 7, 89, 183, 0, 9, 58, 6, 3]
abbrev dktX1_quotient_3 : List UInt8 := dkwX1_quotient_3 ++ dktX1_quotient_4
def dkwX1_quotient_2 : List UInt8 := [161, 0, 121, 45, 182, 0, 60, 43, 182, 0, 60, 100, 54, 4, 45, 182, 0, 64, 43, 182, 0, 64]
abbrev dktX1_quotient_2 : List UInt8 := dkwX1_quotient_2 ++ dktX1_quotient_3
def dkwX1_quotient_1 : List UInt8 := [9, 184, 0, 74, 182, 0, 29, 87, 132, 3, 1, 167, 255, 231, 42, 78, 45, 182, 0, 60, 43, 182, 0, 60]
abbrev dktX1_quotient_1 : List UInt8 := dkwX1_quotient_1 ++ dktX1_quotient_2
def dkwX1_quotient_0 : List UInt8 := [187, 0, 7, 89, 183, 0, 9, 77, 3, 62, 29, 42, 182, 0, 60, 43, 182, 0, 60, 100, 163, 0, 18, 44]
abbrev dktX1_quotient_0 : List UInt8 := dkwX1_quotient_0 ++ dktX1_quotient_1
theorem dksX1_quotient_0 : cX1_quotient.data.toList.drop 0 = dktX1_quotient_0 := by decide +kernel
theorem dksX1_quotient_1 : cX1_quotient.data.toList.drop 24 = dktX1_quotient_1 := dk_seg dksX1_quotient_0 24 rfl rfl
theorem dksX1_quotient_2 : cX1_quotient.data.toList.drop 48 = dktX1_quotient_2 := dk_seg dksX1_quotient_1 24 rfl rfl
theorem dksX1_quotient_3 : cX1_quotient.data.toList.drop 70 = dktX1_quotient_3 := dk_seg dksX1_quotient_2 22 rfl rfl
theorem dksX1_quotient_4 : cX1_quotient.data.toList.drop 94 = dktX1_quotient_4 := dk_seg dksX1_quotient_3 24 rfl rfl
theorem dksX1_quotient_5 : cX1_quotient.data.toList.drop 117 = dktX1_quotient_5 := dk_seg dksX1_quotient_4 23 rfl rfl
theorem dksX1_quotient_6 : cX1_quotient.data.toList.drop 140 = dktX1_quotient_6 := dk_seg dksX1_quotient_5 23 rfl rfl
theorem dksX1_quotient_7 : cX1_quotient.data.toList.drop 162 = dktX1_quotient_7 := dk_seg dksX1_quotient_6 22 rfl rfl
theorem dX1_quotient_0 : decode cX1_quotient 0 = .ok (.new 7, 3) := dk_187 0 7 (dk_at dksX1_quotient_0 0 rfl rfl)
theorem dX1_quotient_3 : decode cX1_quotient 3 = .ok (.dup, 1) := dk_89 (dk_at dksX1_quotient_0 3 rfl rfl)
theorem dX1_quotient_4 : decode cX1_quotient 4 = .ok (.invokespecial 9, 3) := dk_183 0 9 (dk_at dksX1_quotient_0 4 rfl rfl)
theorem dX1_quotient_7 : decode cX1_quotient 7 = .ok (.astore_n 2, 1) := dk_77 (dk_at dksX1_quotient_0 7 rfl rfl)
theorem dX1_quotient_8 : decode cX1_quotient 8 = .ok (.iconst 0, 1) := dk_3 (dk_at dksX1_quotient_0 8 rfl rfl)
theorem dX1_quotient_9 : decode cX1_quotient 9 = .ok (.istore_n 3, 1) := dk_62 (dk_at dksX1_quotient_0 9 rfl rfl)
theorem dX1_quotient_10 : decode cX1_quotient 10 = .ok (.iload_n 3, 1) := dk_29 (dk_at dksX1_quotient_0 10 rfl rfl)
theorem dX1_quotient_11 : decode cX1_quotient 11 = .ok (.aload_n 0, 1) := dk_42 (dk_at dksX1_quotient_0 11 rfl rfl)
theorem dX1_quotient_12 : decode cX1_quotient 12 = .ok (.invokevirtual 60, 3) := dk_182 0 60 (dk_at dksX1_quotient_0 12 rfl rfl)
theorem dX1_quotient_15 : decode cX1_quotient 15 = .ok (.aload_n 1, 1) := dk_43 (dk_at dksX1_quotient_0 15 rfl rfl)
theorem dX1_quotient_16 : decode cX1_quotient 16 = .ok (.invokevirtual 60, 3) := dk_182 0 60 (dk_at dksX1_quotient_0 16 rfl rfl)
theorem dX1_quotient_19 : decode cX1_quotient 19 = .ok (.isub, 1) := dk_100 (dk_at dksX1_quotient_0 19 rfl rfl)
theorem dX1_quotient_20 : decode cX1_quotient 20 = .ok (.if_icmp .gt 18, 3) := dk_163 0 18 (dk_at dksX1_quotient_0 20 rfl rfl)
theorem dX1_quotient_23 : decode cX1_quotient 23 = .ok (.aload_n 2, 1) := dk_44 (dk_at dksX1_quotient_0 23 rfl rfl)
theorem dX1_quotient_24 : decode cX1_quotient 24 = .ok (.lconst 0, 1) := dk_9 (dk_at dksX1_quotient_1 0 rfl rfl)
theorem dX1_quotient_25 : decode cX1_quotient 25 = .ok (.invokestatic 74, 3) := dk_184 0 74 (dk_at dksX1_quotient_1 1 rfl rfl)
theorem dX1_quotient_28 : decode cX1_quotient 28 = .ok (.invokevirtual 29, 3) := dk_182 0 29 (dk_at dksX1_quotient_1 4 rfl rfl)
theorem dX1_quotient_31 : decode cX1_quotient 31 = .ok (.pop, 1) := dk_87 (dk_at dksX1_quotient_1 7 rfl rfl)
theorem dX1_quotient_32 : decode cX1_quotient 32 = .ok (.iinc 3 1, 3) := dk_132 3 1 (dk_at dksX1_quotient_1 8 rfl rfl)
theorem dX1_quotient_35 : decode cX1_quotient 35 = .ok (.goto (-25), 3) := dk_167 255 231 (dk_at dksX1_quotient_1 11 rfl rfl)
theorem dX1_quotient_38 : decode cX1_quotient 38 = .ok (.aload_n 0, 1) := dk_42 (dk_at dksX1_quotient_1 14 rfl rfl)
theorem dX1_quotient_39 : decode cX1_quotient 39 = .ok (.astore_n 3, 1) := dk_78 (dk_at dksX1_quotient_1 15 rfl rfl)
theorem dX1_quotient_40 : decode cX1_quotient 40 = .ok (.aload_n 3, 1) := dk_45 (dk_at dksX1_quotient_1 16 rfl rfl)
theorem dX1_quotient_41 : decode cX1_quotient 41 = .ok (.invokevirtual 60, 3) := dk_182 0 60 (dk_at dksX1_quotient_1 17 rfl rfl)
theorem dX1_quotient_44 : decode cX1_quotient 44 = .ok (.aload_n 1, 1) := dk_43 (dk_at dksX1_quotient_1 20 rfl rfl)
theorem dX1_quotient_45 : decode cX1_quotient 45 = .ok (.invokevirtual 60, 3) := dk_182 0 60 (dk_at dksX1_quotient_1 21 rfl rfl)
theorem dX1_quotient_48 : decode cX1_quotient 48 = .ok (.if_icmp .lt 121, 3) := dk_161 0 121 (dk_at dksX1_quotient_2 0 rfl rfl)
theorem dX1_quotient_51 : decode cX1_quotient 51 = .ok (.aload_n 3, 1) := dk_45 (dk_at dksX1_quotient_2 3 rfl rfl)
theorem dX1_quotient_52 : decode cX1_quotient 52 = .ok (.invokevirtual 60, 3) := dk_182 0 60 (dk_at dksX1_quotient_2 4 rfl rfl)
theorem dX1_quotient_55 : decode cX1_quotient 55 = .ok (.aload_n 1, 1) := dk_43 (dk_at dksX1_quotient_2 7 rfl rfl)
theorem dX1_quotient_56 : decode cX1_quotient 56 = .ok (.invokevirtual 60, 3) := dk_182 0 60 (dk_at dksX1_quotient_2 8 rfl rfl)
theorem dX1_quotient_59 : decode cX1_quotient 59 = .ok (.isub, 1) := dk_100 (dk_at dksX1_quotient_2 11 rfl rfl)
theorem dX1_quotient_60 : decode cX1_quotient 60 = .ok (.istore 4, 2) := dk_54 4 (dk_at dksX1_quotient_2 12 rfl rfl)
theorem dX1_quotient_62 : decode cX1_quotient 62 = .ok (.aload_n 3, 1) := dk_45 (dk_at dksX1_quotient_2 14 rfl rfl)
theorem dX1_quotient_63 : decode cX1_quotient 63 = .ok (.invokevirtual 64, 3) := dk_182 0 64 (dk_at dksX1_quotient_2 15 rfl rfl)
theorem dX1_quotient_66 : decode cX1_quotient 66 = .ok (.aload_n 1, 1) := dk_43 (dk_at dksX1_quotient_2 18 rfl rfl)
theorem dX1_quotient_67 : decode cX1_quotient 67 = .ok (.invokevirtual 64, 3) := dk_182 0 64 (dk_at dksX1_quotient_2 19 rfl rfl)
theorem dX1_quotient_70 : decode cX1_quotient 70 = .ok (.invokevirtual 84, 3) := dk_182 0 84 (dk_at dksX1_quotient_3 0 rfl rfl)
theorem dX1_quotient_73 : decode cX1_quotient 73 = .ok (.astore 5, 2) := dk_58 5 (dk_at dksX1_quotient_3 3 rfl rfl)
theorem dX1_quotient_75 : decode cX1_quotient 75 = .ok (.aload_n 2, 1) := dk_44 (dk_at dksX1_quotient_3 5 rfl rfl)
theorem dX1_quotient_76 : decode cX1_quotient 76 = .ok (.iload 4, 2) := dk_21 4 (dk_at dksX1_quotient_3 6 rfl rfl)
theorem dX1_quotient_78 : decode cX1_quotient 78 = .ok (.aload 5, 2) := dk_25 5 (dk_at dksX1_quotient_3 8 rfl rfl)
theorem dX1_quotient_80 : decode cX1_quotient 80 = .ok (.invokevirtual 100, 3) := dk_182 0 100 (dk_at dksX1_quotient_3 10 rfl rfl)
theorem dX1_quotient_83 : decode cX1_quotient 83 = .ok (.pop, 1) := dk_87 (dk_at dksX1_quotient_3 13 rfl rfl)
theorem dX1_quotient_84 : decode cX1_quotient 84 = .ok (.new 7, 3) := dk_187 0 7 (dk_at dksX1_quotient_3 14 rfl rfl)
theorem dX1_quotient_87 : decode cX1_quotient 87 = .ok (.dup, 1) := dk_89 (dk_at dksX1_quotient_3 17 rfl rfl)
theorem dX1_quotient_88 : decode cX1_quotient 88 = .ok (.invokespecial 9, 3) := dk_183 0 9 (dk_at dksX1_quotient_3 18 rfl rfl)
theorem dX1_quotient_91 : decode cX1_quotient 91 = .ok (.astore 6, 2) := dk_58 6 (dk_at dksX1_quotient_3 21 rfl rfl)
theorem dX1_quotient_93 : decode cX1_quotient 93 = .ok (.iconst 0, 1) := dk_3 (dk_at dksX1_quotient_3 23 rfl rfl)
theorem dX1_quotient_94 : decode cX1_quotient 94 = .ok (.istore 7, 2) := dk_54 7 (dk_at dksX1_quotient_4 0 rfl rfl)
theorem dX1_quotient_96 : decode cX1_quotient 96 = .ok (.iload 7, 2) := dk_21 7 (dk_at dksX1_quotient_4 2 rfl rfl)
theorem dX1_quotient_98 : decode cX1_quotient 98 = .ok (.aload_n 3, 1) := dk_45 (dk_at dksX1_quotient_4 4 rfl rfl)
theorem dX1_quotient_99 : decode cX1_quotient 99 = .ok (.invokevirtual 60, 3) := dk_182 0 60 (dk_at dksX1_quotient_4 5 rfl rfl)
theorem dX1_quotient_102 : decode cX1_quotient 102 = .ok (.if_icmp .ge 54, 3) := dk_162 0 54 (dk_at dksX1_quotient_4 8 rfl rfl)
theorem dX1_quotient_105 : decode cX1_quotient 105 = .ok (.aload 6, 2) := dk_25 6 (dk_at dksX1_quotient_4 11 rfl rfl)
theorem dX1_quotient_107 : decode cX1_quotient 107 = .ok (.iload 7, 2) := dk_21 7 (dk_at dksX1_quotient_4 13 rfl rfl)
theorem dX1_quotient_109 : decode cX1_quotient 109 = .ok (.iload 4, 2) := dk_21 4 (dk_at dksX1_quotient_4 15 rfl rfl)
theorem dX1_quotient_111 : decode cX1_quotient 111 = .ok (.if_icmp .ge 12, 3) := dk_162 0 12 (dk_at dksX1_quotient_4 17 rfl rfl)
theorem dX1_quotient_114 : decode cX1_quotient 114 = .ok (.aload_n 3, 1) := dk_45 (dk_at dksX1_quotient_4 20 rfl rfl)
theorem dX1_quotient_115 : decode cX1_quotient 115 = .ok (.iload 7, 2) := dk_21 7 (dk_at dksX1_quotient_4 21 rfl rfl)
theorem dX1_quotient_117 : decode cX1_quotient 117 = .ok (.invokevirtual 87, 3) := dk_182 0 87 (dk_at dksX1_quotient_5 0 rfl rfl)
theorem dX1_quotient_120 : decode cX1_quotient 120 = .ok (.goto 26, 3) := dk_167 0 26 (dk_at dksX1_quotient_5 3 rfl rfl)
theorem dX1_quotient_123 : decode cX1_quotient 123 = .ok (.aload_n 3, 1) := dk_45 (dk_at dksX1_quotient_5 6 rfl rfl)
theorem dX1_quotient_124 : decode cX1_quotient 124 = .ok (.iload 7, 2) := dk_21 7 (dk_at dksX1_quotient_5 7 rfl rfl)
theorem dX1_quotient_126 : decode cX1_quotient 126 = .ok (.invokevirtual 87, 3) := dk_182 0 87 (dk_at dksX1_quotient_5 9 rfl rfl)
theorem dX1_quotient_129 : decode cX1_quotient 129 = .ok (.aload_n 1, 1) := dk_43 (dk_at dksX1_quotient_5 12 rfl rfl)
theorem dX1_quotient_130 : decode cX1_quotient 130 = .ok (.iload 7, 2) := dk_21 7 (dk_at dksX1_quotient_5 13 rfl rfl)
theorem dX1_quotient_132 : decode cX1_quotient 132 = .ok (.iload 4, 2) := dk_21 4 (dk_at dksX1_quotient_5 15 rfl rfl)
theorem dX1_quotient_134 : decode cX1_quotient 134 = .ok (.isub, 1) := dk_100 (dk_at dksX1_quotient_5 17 rfl rfl)
theorem dX1_quotient_135 : decode cX1_quotient 135 = .ok (.invokevirtual 87, 3) := dk_182 0 87 (dk_at dksX1_quotient_5 18 rfl rfl)
theorem dX1_quotient_138 : decode cX1_quotient 138 = .ok (.aload 5, 2) := dk_25 5 (dk_at dksX1_quotient_5 21 rfl rfl)
theorem dX1_quotient_140 : decode cX1_quotient 140 = .ok (.invokevirtual 91, 3) := dk_182 0 91 (dk_at dksX1_quotient_6 0 rfl rfl)
theorem dX1_quotient_143 : decode cX1_quotient 143 = .ok (.invokevirtual 97, 3) := dk_182 0 97 (dk_at dksX1_quotient_6 3 rfl rfl)
theorem dX1_quotient_146 : decode cX1_quotient 146 = .ok (.invokevirtual 29, 3) := dk_182 0 29 (dk_at dksX1_quotient_6 6 rfl rfl)
theorem dX1_quotient_149 : decode cX1_quotient 149 = .ok (.pop, 1) := dk_87 (dk_at dksX1_quotient_6 9 rfl rfl)
theorem dX1_quotient_150 : decode cX1_quotient 150 = .ok (.iinc 7 1, 3) := dk_132 7 1 (dk_at dksX1_quotient_6 10 rfl rfl)
theorem dX1_quotient_153 : decode cX1_quotient 153 = .ok (.goto (-57), 3) := dk_167 255 199 (dk_at dksX1_quotient_6 13 rfl rfl)
theorem dX1_quotient_156 : decode cX1_quotient 156 = .ok (.new 21, 3) := dk_187 0 21 (dk_at dksX1_quotient_6 16 rfl rfl)
theorem dX1_quotient_159 : decode cX1_quotient 159 = .ok (.dup, 1) := dk_89 (dk_at dksX1_quotient_6 19 rfl rfl)
theorem dX1_quotient_160 : decode cX1_quotient 160 = .ok (.aload 6, 2) := dk_25 6 (dk_at dksX1_quotient_6 20 rfl rfl)
theorem dX1_quotient_162 : decode cX1_quotient 162 = .ok (.invokespecial 23, 3) := dk_183 0 23 (dk_at dksX1_quotient_7 0 rfl rfl)
theorem dX1_quotient_165 : decode cX1_quotient 165 = .ok (.astore_n 3, 1) := dk_78 (dk_at dksX1_quotient_7 3 rfl rfl)
theorem dX1_quotient_166 : decode cX1_quotient 166 = .ok (.goto (-126), 3) := dk_167 255 130 (dk_at dksX1_quotient_7 4 rfl rfl)
theorem dX1_quotient_169 : decode cX1_quotient 169 = .ok (.new 21, 3) := dk_187 0 21 (dk_at dksX1_quotient_7 7 rfl rfl)
theorem dX1_quotient_172 : decode cX1_quotient 172 = .ok (.dup, 1) := dk_89 (dk_at dksX1_quotient_7 10 rfl rfl)
theorem dX1_quotient_173 : decode cX1_quotient 173 = .ok (.aload_n 2, 1) := dk_44 (dk_at dksX1_quotient_7 11 rfl rfl)
theorem dX1_quotient_174 : decode cX1_quotient 174 = .ok (.invokespecial 23, 3) := dk_183 0 23 (dk_at dksX1_quotient_7 12 rfl rfl)
theorem dX1_quotient_177 : decode cX1_quotient 177 = .ok (.areturn, 1) := dk_176 (dk_at dksX1_quotient_7 15 rfl rfl)
abbrev cX1_sturmLength : ByteArray := prog_1_method_34_code
def yX1_sturmLength : MethodName := ⟨RX1, "sturmLength", "(I)I"⟩
def dkwX1_sturmLength_0 : List UInt8 := [27, 184, 0, 160, 42, 27, 182, 0, 187, 182, 0, 195, 182, 0, 121, 172]
abbrev dktX1_sturmLength_0 : List UInt8 := dkwX1_sturmLength_0 ++ []
theorem dksX1_sturmLength_0 : cX1_sturmLength.data.toList.drop 0 = dktX1_sturmLength_0 := by decide +kernel
theorem dX1_sturmLength_0 : decode cX1_sturmLength 0 = .ok (.iload_n 1, 1) := dk_27 (dk_at dksX1_sturmLength_0 0 rfl rfl)
theorem dX1_sturmLength_1 : decode cX1_sturmLength 1 = .ok (.invokestatic 160, 3) := dk_184 0 160 (dk_at dksX1_sturmLength_0 1 rfl rfl)
theorem dX1_sturmLength_4 : decode cX1_sturmLength 4 = .ok (.aload_n 0, 1) := dk_42 (dk_at dksX1_sturmLength_0 4 rfl rfl)
theorem dX1_sturmLength_5 : decode cX1_sturmLength 5 = .ok (.iload_n 1, 1) := dk_27 (dk_at dksX1_sturmLength_0 5 rfl rfl)
theorem dX1_sturmLength_6 : decode cX1_sturmLength 6 = .ok (.invokevirtual 187, 3) := dk_182 0 187 (dk_at dksX1_sturmLength_0 6 rfl rfl)
theorem dX1_sturmLength_9 : decode cX1_sturmLength 9 = .ok (.invokevirtual 195, 3) := dk_182 0 195 (dk_at dksX1_sturmLength_0 9 rfl rfl)
theorem dX1_sturmLength_12 : decode cX1_sturmLength 12 = .ok (.invokevirtual 121, 3) := dk_182 0 121 (dk_at dksX1_sturmLength_0 12 rfl rfl)
theorem dX1_sturmLength_15 : decode cX1_sturmLength 15 = .ok (.ireturn, 1) := dk_172 (dk_at dksX1_sturmLength_0 15 rfl rfl)
abbrev cX1_sturmCoefficient : ByteArray := prog_1_method_36_code
def yX1_sturmCoefficient : MethodName := ⟨RX1, "sturmCoefficient", "(III)J"⟩
def dkwX1_sturmCoefficient_0 : List UInt8 := [27, 184, 0, 160, 29, 184, 0, 164, 42, 27, 28, 182, 0, 202, 29, 182, 0, 87, 182, 0, 206, 173]
abbrev dktX1_sturmCoefficient_0 : List UInt8 := dkwX1_sturmCoefficient_0 ++ []
theorem dksX1_sturmCoefficient_0 : cX1_sturmCoefficient.data.toList.drop 0 = dktX1_sturmCoefficient_0 := by decide +kernel
theorem dX1_sturmCoefficient_0 : decode cX1_sturmCoefficient 0 = .ok (.iload_n 1, 1) := dk_27 (dk_at dksX1_sturmCoefficient_0 0 rfl rfl)
theorem dX1_sturmCoefficient_1 : decode cX1_sturmCoefficient 1 = .ok (.invokestatic 160, 3) := dk_184 0 160 (dk_at dksX1_sturmCoefficient_0 1 rfl rfl)
theorem dX1_sturmCoefficient_4 : decode cX1_sturmCoefficient 4 = .ok (.iload_n 3, 1) := dk_29 (dk_at dksX1_sturmCoefficient_0 4 rfl rfl)
theorem dX1_sturmCoefficient_5 : decode cX1_sturmCoefficient 5 = .ok (.invokestatic 164, 3) := dk_184 0 164 (dk_at dksX1_sturmCoefficient_0 5 rfl rfl)
theorem dX1_sturmCoefficient_8 : decode cX1_sturmCoefficient 8 = .ok (.aload_n 0, 1) := dk_42 (dk_at dksX1_sturmCoefficient_0 8 rfl rfl)
theorem dX1_sturmCoefficient_9 : decode cX1_sturmCoefficient 9 = .ok (.iload_n 1, 1) := dk_27 (dk_at dksX1_sturmCoefficient_0 9 rfl rfl)
theorem dX1_sturmCoefficient_10 : decode cX1_sturmCoefficient 10 = .ok (.iload_n 2, 1) := dk_28 (dk_at dksX1_sturmCoefficient_0 10 rfl rfl)
theorem dX1_sturmCoefficient_11 : decode cX1_sturmCoefficient 11 = .ok (.invokevirtual 202, 3) := dk_182 0 202 (dk_at dksX1_sturmCoefficient_0 11 rfl rfl)
theorem dX1_sturmCoefficient_14 : decode cX1_sturmCoefficient 14 = .ok (.iload_n 3, 1) := dk_29 (dk_at dksX1_sturmCoefficient_0 14 rfl rfl)
theorem dX1_sturmCoefficient_15 : decode cX1_sturmCoefficient 15 = .ok (.invokevirtual 87, 3) := dk_182 0 87 (dk_at dksX1_sturmCoefficient_0 15 rfl rfl)
theorem dX1_sturmCoefficient_18 : decode cX1_sturmCoefficient 18 = .ok (.invokevirtual 206, 3) := dk_182 0 206 (dk_at dksX1_sturmCoefficient_0 18 rfl rfl)
theorem dX1_sturmCoefficient_21 : decode cX1_sturmCoefficient 21 = .ok (.lreturn, 1) := dk_173 (dk_at dksX1_sturmCoefficient_0 21 rfl rfl)
abbrev cX1_element : ByteArray := prog_1_method_35_code
def yX1_element : MethodName := ⟨RX1, "element", "(II)LSturmRoots$Poly;"⟩
def dkwX1_element_1 : List UInt8 := [89, 183, 0, 201, 191, 45, 28, 182, 0, 117, 192, 0, 21, 176]
abbrev dktX1_element_1 : List UInt8 := dkwX1_element_1 ++ []
def dkwX1_element_0 : List UInt8 := [42, 27, 182, 0, 187, 182, 0, 195, 78, 28, 155, 0, 11, 28, 45, 182, 0, 121, 161, 0, 11, 187, 0, 199]
abbrev dktX1_element_0 : List UInt8 := dkwX1_element_0 ++ dktX1_element_1
theorem dksX1_element_0 : cX1_element.data.toList.drop 0 = dktX1_element_0 := by decide +kernel
theorem dksX1_element_1 : cX1_element.data.toList.drop 24 = dktX1_element_1 := dk_seg dksX1_element_0 24 rfl rfl
theorem dX1_element_0 : decode cX1_element 0 = .ok (.aload_n 0, 1) := dk_42 (dk_at dksX1_element_0 0 rfl rfl)
theorem dX1_element_1 : decode cX1_element 1 = .ok (.iload_n 1, 1) := dk_27 (dk_at dksX1_element_0 1 rfl rfl)
theorem dX1_element_2 : decode cX1_element 2 = .ok (.invokevirtual 187, 3) := dk_182 0 187 (dk_at dksX1_element_0 2 rfl rfl)
theorem dX1_element_5 : decode cX1_element 5 = .ok (.invokevirtual 195, 3) := dk_182 0 195 (dk_at dksX1_element_0 5 rfl rfl)
theorem dX1_element_8 : decode cX1_element 8 = .ok (.astore_n 3, 1) := dk_78 (dk_at dksX1_element_0 8 rfl rfl)
theorem dX1_element_9 : decode cX1_element 9 = .ok (.iload_n 2, 1) := dk_28 (dk_at dksX1_element_0 9 rfl rfl)
theorem dX1_element_10 : decode cX1_element 10 = .ok (.ifCond .lt 11, 3) := dk_155 0 11 (dk_at dksX1_element_0 10 rfl rfl)
theorem dX1_element_13 : decode cX1_element 13 = .ok (.iload_n 2, 1) := dk_28 (dk_at dksX1_element_0 13 rfl rfl)
theorem dX1_element_14 : decode cX1_element 14 = .ok (.aload_n 3, 1) := dk_45 (dk_at dksX1_element_0 14 rfl rfl)
theorem dX1_element_15 : decode cX1_element 15 = .ok (.invokevirtual 121, 3) := dk_182 0 121 (dk_at dksX1_element_0 15 rfl rfl)
theorem dX1_element_18 : decode cX1_element 18 = .ok (.if_icmp .lt 11, 3) := dk_161 0 11 (dk_at dksX1_element_0 18 rfl rfl)
theorem dX1_element_21 : decode cX1_element 21 = .ok (.new 199, 3) := dk_187 0 199 (dk_at dksX1_element_0 21 rfl rfl)
theorem dX1_element_24 : decode cX1_element 24 = .ok (.dup, 1) := dk_89 (dk_at dksX1_element_1 0 rfl rfl)
theorem dX1_element_25 : decode cX1_element 25 = .ok (.invokespecial 201, 3) := dk_183 0 201 (dk_at dksX1_element_1 1 rfl rfl)
theorem dX1_element_28 : decode cX1_element 28 = .ok (.athrow, 1) := dk_191 (dk_at dksX1_element_1 4 rfl rfl)
theorem dX1_element_29 : decode cX1_element 29 = .ok (.aload_n 3, 1) := dk_45 (dk_at dksX1_element_1 5 rfl rfl)
theorem dX1_element_30 : decode cX1_element 30 = .ok (.iload_n 2, 1) := dk_28 (dk_at dksX1_element_1 6 rfl rfl)
theorem dX1_element_31 : decode cX1_element 31 = .ok (.invokevirtual 117, 3) := dk_182 0 117 (dk_at dksX1_element_1 7 rfl rfl)
theorem dX1_element_34 : decode cX1_element 34 = .ok (.checkcast 21, 3) := dk_192 0 21 (dk_at dksX1_element_1 10 rfl rfl)
theorem dX1_element_37 : decode cX1_element 37 = .ok (.areturn, 1) := dk_176 (dk_at dksX1_element_1 13 rfl rfl)
abbrev cX1_sturmDegree : ByteArray := prog_1_method_37_code
def yX1_sturmDegree : MethodName := ⟨RX1, "sturmDegree", "(II)I"⟩
def dkwX1_sturmDegree_0 : List UInt8 := [27, 184, 0, 160, 42, 27, 28, 182, 0, 202, 182, 0, 60, 172]
abbrev dktX1_sturmDegree_0 : List UInt8 := dkwX1_sturmDegree_0 ++ []
theorem dksX1_sturmDegree_0 : cX1_sturmDegree.data.toList.drop 0 = dktX1_sturmDegree_0 := by decide +kernel
theorem dX1_sturmDegree_0 : decode cX1_sturmDegree 0 = .ok (.iload_n 1, 1) := dk_27 (dk_at dksX1_sturmDegree_0 0 rfl rfl)
theorem dX1_sturmDegree_1 : decode cX1_sturmDegree 1 = .ok (.invokestatic 160, 3) := dk_184 0 160 (dk_at dksX1_sturmDegree_0 1 rfl rfl)
theorem dX1_sturmDegree_4 : decode cX1_sturmDegree 4 = .ok (.aload_n 0, 1) := dk_42 (dk_at dksX1_sturmDegree_0 4 rfl rfl)
theorem dX1_sturmDegree_5 : decode cX1_sturmDegree 5 = .ok (.iload_n 1, 1) := dk_27 (dk_at dksX1_sturmDegree_0 5 rfl rfl)
theorem dX1_sturmDegree_6 : decode cX1_sturmDegree 6 = .ok (.iload_n 2, 1) := dk_28 (dk_at dksX1_sturmDegree_0 6 rfl rfl)
theorem dX1_sturmDegree_7 : decode cX1_sturmDegree 7 = .ok (.invokevirtual 202, 3) := dk_182 0 202 (dk_at dksX1_sturmDegree_0 7 rfl rfl)
theorem dX1_sturmDegree_10 : decode cX1_sturmDegree 10 = .ok (.invokevirtual 60, 3) := dk_182 0 60 (dk_at dksX1_sturmDegree_0 10 rfl rfl)
theorem dX1_sturmDegree_13 : decode cX1_sturmDegree 13 = .ok (.ireturn, 1) := dk_172 (dk_at dksX1_sturmDegree_0 13 rfl rfl)
abbrev cX1_signChanges : ByteArray := prog_1_method_38_code
def yX1_signChanges : MethodName := ⟨RX1, "signChanges", "(III)I"⟩
def dkwX1_signChanges_0 : List UInt8 := [27, 184, 0, 160, 28, 29, 184, 0, 210, 42, 27, 182, 0, 187, 182, 0, 195, 28, 133, 29, 184, 0, 214, 172]
abbrev dktX1_signChanges_0 : List UInt8 := dkwX1_signChanges_0 ++ []
theorem dksX1_signChanges_0 : cX1_signChanges.data.toList.drop 0 = dktX1_signChanges_0 := by decide +kernel
theorem dX1_signChanges_0 : decode cX1_signChanges 0 = .ok (.iload_n 1, 1) := dk_27 (dk_at dksX1_signChanges_0 0 rfl rfl)
theorem dX1_signChanges_1 : decode cX1_signChanges 1 = .ok (.invokestatic 160, 3) := dk_184 0 160 (dk_at dksX1_signChanges_0 1 rfl rfl)
theorem dX1_signChanges_4 : decode cX1_signChanges 4 = .ok (.iload_n 2, 1) := dk_28 (dk_at dksX1_signChanges_0 4 rfl rfl)
theorem dX1_signChanges_5 : decode cX1_signChanges 5 = .ok (.iload_n 3, 1) := dk_29 (dk_at dksX1_signChanges_0 5 rfl rfl)
theorem dX1_signChanges_6 : decode cX1_signChanges 6 = .ok (.invokestatic 210, 3) := dk_184 0 210 (dk_at dksX1_signChanges_0 6 rfl rfl)
theorem dX1_signChanges_9 : decode cX1_signChanges 9 = .ok (.aload_n 0, 1) := dk_42 (dk_at dksX1_signChanges_0 9 rfl rfl)
theorem dX1_signChanges_10 : decode cX1_signChanges 10 = .ok (.iload_n 1, 1) := dk_27 (dk_at dksX1_signChanges_0 10 rfl rfl)
theorem dX1_signChanges_11 : decode cX1_signChanges 11 = .ok (.invokevirtual 187, 3) := dk_182 0 187 (dk_at dksX1_signChanges_0 11 rfl rfl)
theorem dX1_signChanges_14 : decode cX1_signChanges 14 = .ok (.invokevirtual 195, 3) := dk_182 0 195 (dk_at dksX1_signChanges_0 14 rfl rfl)
theorem dX1_signChanges_17 : decode cX1_signChanges 17 = .ok (.iload_n 2, 1) := dk_28 (dk_at dksX1_signChanges_0 17 rfl rfl)
theorem dX1_signChanges_18 : decode cX1_signChanges 18 = .ok (.i2l, 1) := dk_133 (dk_at dksX1_signChanges_0 18 rfl rfl)
theorem dX1_signChanges_19 : decode cX1_signChanges 19 = .ok (.iload_n 3, 1) := dk_29 (dk_at dksX1_signChanges_0 19 rfl rfl)
theorem dX1_signChanges_20 : decode cX1_signChanges 20 = .ok (.invokestatic 214, 3) := dk_184 0 214 (dk_at dksX1_signChanges_0 20 rfl rfl)
theorem dX1_signChanges_23 : decode cX1_signChanges 23 = .ok (.ireturn, 1) := dk_172 (dk_at dksX1_signChanges_0 23 rfl rfl)
abbrev cX1_mustBePoint : ByteArray := prog_1_method_17_code
def yX1_mustBePoint : MethodName := ⟨RX1, "mustBePoint", "(II)V"⟩
def dkwX1_mustBePoint_1 : List UInt8 := [187, 0, 138, 89, 183, 0, 140, 191, 177]
abbrev dktX1_mustBePoint_1 : List UInt8 := dkwX1_mustBePoint_1 ++ []
def dkwX1_mustBePoint_0 : List UInt8 := [26, 18, 136, 161, 0, 19, 26, 18, 137, 163, 0, 13, 27, 155, 0, 9, 27, 16, 12, 164, 0, 11]
abbrev dktX1_mustBePoint_0 : List UInt8 := dkwX1_mustBePoint_0 ++ dktX1_mustBePoint_1
theorem dksX1_mustBePoint_0 : cX1_mustBePoint.data.toList.drop 0 = dktX1_mustBePoint_0 := by decide +kernel
theorem dksX1_mustBePoint_1 : cX1_mustBePoint.data.toList.drop 22 = dktX1_mustBePoint_1 := dk_seg dksX1_mustBePoint_0 22 rfl rfl
theorem dX1_mustBePoint_0 : decode cX1_mustBePoint 0 = .ok (.iload_n 0, 1) := dk_26 (dk_at dksX1_mustBePoint_0 0 rfl rfl)
theorem dX1_mustBePoint_1 : decode cX1_mustBePoint 1 = .ok (.ldc 136, 2) := dk_18 136 (dk_at dksX1_mustBePoint_0 1 rfl rfl)
theorem dX1_mustBePoint_3 : decode cX1_mustBePoint 3 = .ok (.if_icmp .lt 19, 3) := dk_161 0 19 (dk_at dksX1_mustBePoint_0 3 rfl rfl)
theorem dX1_mustBePoint_6 : decode cX1_mustBePoint 6 = .ok (.iload_n 0, 1) := dk_26 (dk_at dksX1_mustBePoint_0 6 rfl rfl)
theorem dX1_mustBePoint_7 : decode cX1_mustBePoint 7 = .ok (.ldc 137, 2) := dk_18 137 (dk_at dksX1_mustBePoint_0 7 rfl rfl)
theorem dX1_mustBePoint_9 : decode cX1_mustBePoint 9 = .ok (.if_icmp .gt 13, 3) := dk_163 0 13 (dk_at dksX1_mustBePoint_0 9 rfl rfl)
theorem dX1_mustBePoint_12 : decode cX1_mustBePoint 12 = .ok (.iload_n 1, 1) := dk_27 (dk_at dksX1_mustBePoint_0 12 rfl rfl)
theorem dX1_mustBePoint_13 : decode cX1_mustBePoint 13 = .ok (.ifCond .lt 9, 3) := dk_155 0 9 (dk_at dksX1_mustBePoint_0 13 rfl rfl)
theorem dX1_mustBePoint_16 : decode cX1_mustBePoint 16 = .ok (.iload_n 1, 1) := dk_27 (dk_at dksX1_mustBePoint_0 16 rfl rfl)
theorem dX1_mustBePoint_17 : decode cX1_mustBePoint 17 = .ok (.bipush 12, 2) := dk_16 12 (dk_at dksX1_mustBePoint_0 17 rfl rfl)
theorem dX1_mustBePoint_19 : decode cX1_mustBePoint 19 = .ok (.if_icmp .le 11, 3) := dk_164 0 11 (dk_at dksX1_mustBePoint_0 19 rfl rfl)
theorem dX1_mustBePoint_22 : decode cX1_mustBePoint 22 = .ok (.new 138, 3) := dk_187 0 138 (dk_at dksX1_mustBePoint_1 0 rfl rfl)
theorem dX1_mustBePoint_25 : decode cX1_mustBePoint 25 = .ok (.dup, 1) := dk_89 (dk_at dksX1_mustBePoint_1 3 rfl rfl)
theorem dX1_mustBePoint_26 : decode cX1_mustBePoint 26 = .ok (.invokespecial 140, 3) := dk_183 0 140 (dk_at dksX1_mustBePoint_1 4 rfl rfl)
theorem dX1_mustBePoint_29 : decode cX1_mustBePoint 29 = .ok (.athrow, 1) := dk_191 (dk_at dksX1_mustBePoint_1 7 rfl rfl)
theorem dX1_mustBePoint_30 : decode cX1_mustBePoint 30 = .ok (.return_, 1) := dk_177 (dk_at dksX1_mustBePoint_1 8 rfl rfl)
abbrev cX1_changesAt : ByteArray := prog_1_method_12_code
def yX1_changesAt : MethodName := ⟨RX1, "changesAt", "(Ljava/util/ArrayList;JI)I"⟩
def dkwX1_changesAt_3 : List UInt8 := [21, 8, 54, 5, 167, 255, 193, 21, 4, 172]
abbrev dktX1_changesAt_3 : List UInt8 := dkwX1_changesAt_3 ++ []
def dkwX1_changesAt_2 : List UInt8 := [21, 5, 104, 156, 0, 7, 4, 167, 0, 4, 3, 96, 54, 4, 21, 8, 154, 0, 8, 21, 5, 167, 0, 5]
abbrev dktX1_changesAt_2 : List UInt8 := dkwX1_changesAt_2 ++ dktX1_changesAt_3
def dkwX1_changesAt_1 : List UInt8 := [185, 0, 52, 1, 0, 192, 0, 21, 58, 7, 25, 7, 31, 29, 184, 0, 129, 54, 8, 21, 4, 21, 8]
abbrev dktX1_changesAt_1 : List UInt8 := dkwX1_changesAt_1 ++ dktX1_changesAt_2
def dkwX1_changesAt_0 : List UInt8 := [3, 54, 4, 3, 54, 5, 42, 182, 0, 42, 58, 6, 25, 6, 185, 0, 46, 1, 0, 153, 0, 59, 25, 6]
abbrev dktX1_changesAt_0 : List UInt8 := dkwX1_changesAt_0 ++ dktX1_changesAt_1
theorem dksX1_changesAt_0 : cX1_changesAt.data.toList.drop 0 = dktX1_changesAt_0 := by decide +kernel
theorem dksX1_changesAt_1 : cX1_changesAt.data.toList.drop 24 = dktX1_changesAt_1 := dk_seg dksX1_changesAt_0 24 rfl rfl
theorem dksX1_changesAt_2 : cX1_changesAt.data.toList.drop 47 = dktX1_changesAt_2 := dk_seg dksX1_changesAt_1 23 rfl rfl
theorem dksX1_changesAt_3 : cX1_changesAt.data.toList.drop 71 = dktX1_changesAt_3 := dk_seg dksX1_changesAt_2 24 rfl rfl
theorem dX1_changesAt_0 : decode cX1_changesAt 0 = .ok (.iconst 0, 1) := dk_3 (dk_at dksX1_changesAt_0 0 rfl rfl)
theorem dX1_changesAt_1 : decode cX1_changesAt 1 = .ok (.istore 4, 2) := dk_54 4 (dk_at dksX1_changesAt_0 1 rfl rfl)
theorem dX1_changesAt_3 : decode cX1_changesAt 3 = .ok (.iconst 0, 1) := dk_3 (dk_at dksX1_changesAt_0 3 rfl rfl)
theorem dX1_changesAt_4 : decode cX1_changesAt 4 = .ok (.istore 5, 2) := dk_54 5 (dk_at dksX1_changesAt_0 4 rfl rfl)
theorem dX1_changesAt_6 : decode cX1_changesAt 6 = .ok (.aload_n 0, 1) := dk_42 (dk_at dksX1_changesAt_0 6 rfl rfl)
theorem dX1_changesAt_7 : decode cX1_changesAt 7 = .ok (.invokevirtual 42, 3) := dk_182 0 42 (dk_at dksX1_changesAt_0 7 rfl rfl)
theorem dX1_changesAt_10 : decode cX1_changesAt 10 = .ok (.astore 6, 2) := dk_58 6 (dk_at dksX1_changesAt_0 10 rfl rfl)
theorem dX1_changesAt_12 : decode cX1_changesAt 12 = .ok (.aload 6, 2) := dk_25 6 (dk_at dksX1_changesAt_0 12 rfl rfl)
theorem dX1_changesAt_14 : decode cX1_changesAt 14 = .ok (.invokeinterface 46 1, 5) := by decide +kernel
theorem dX1_changesAt_19 : decode cX1_changesAt 19 = .ok (.ifCond .eq 59, 3) := dk_153 0 59 (dk_at dksX1_changesAt_0 19 rfl rfl)
theorem dX1_changesAt_22 : decode cX1_changesAt 22 = .ok (.aload 6, 2) := dk_25 6 (dk_at dksX1_changesAt_0 22 rfl rfl)
theorem dX1_changesAt_24 : decode cX1_changesAt 24 = .ok (.invokeinterface 52 1, 5) := by decide +kernel
theorem dX1_changesAt_29 : decode cX1_changesAt 29 = .ok (.checkcast 21, 3) := dk_192 0 21 (dk_at dksX1_changesAt_1 5 rfl rfl)
theorem dX1_changesAt_32 : decode cX1_changesAt 32 = .ok (.astore 7, 2) := dk_58 7 (dk_at dksX1_changesAt_1 8 rfl rfl)
theorem dX1_changesAt_34 : decode cX1_changesAt 34 = .ok (.aload 7, 2) := dk_25 7 (dk_at dksX1_changesAt_1 10 rfl rfl)
theorem dX1_changesAt_36 : decode cX1_changesAt 36 = .ok (.lload_n 1, 1) := dk_31 (dk_at dksX1_changesAt_1 12 rfl rfl)
theorem dX1_changesAt_37 : decode cX1_changesAt 37 = .ok (.iload_n 3, 1) := dk_29 (dk_at dksX1_changesAt_1 13 rfl rfl)
theorem dX1_changesAt_38 : decode cX1_changesAt 38 = .ok (.invokestatic 129, 3) := dk_184 0 129 (dk_at dksX1_changesAt_1 14 rfl rfl)
theorem dX1_changesAt_41 : decode cX1_changesAt 41 = .ok (.istore 8, 2) := dk_54 8 (dk_at dksX1_changesAt_1 17 rfl rfl)
theorem dX1_changesAt_43 : decode cX1_changesAt 43 = .ok (.iload 4, 2) := dk_21 4 (dk_at dksX1_changesAt_1 19 rfl rfl)
theorem dX1_changesAt_45 : decode cX1_changesAt 45 = .ok (.iload 8, 2) := dk_21 8 (dk_at dksX1_changesAt_1 21 rfl rfl)
theorem dX1_changesAt_47 : decode cX1_changesAt 47 = .ok (.iload 5, 2) := dk_21 5 (dk_at dksX1_changesAt_2 0 rfl rfl)
theorem dX1_changesAt_49 : decode cX1_changesAt 49 = .ok (.imul, 1) := dk_104 (dk_at dksX1_changesAt_2 2 rfl rfl)
theorem dX1_changesAt_50 : decode cX1_changesAt 50 = .ok (.ifCond .ge 7, 3) := dk_156 0 7 (dk_at dksX1_changesAt_2 3 rfl rfl)
theorem dX1_changesAt_53 : decode cX1_changesAt 53 = .ok (.iconst 1, 1) := dk_4 (dk_at dksX1_changesAt_2 6 rfl rfl)
theorem dX1_changesAt_54 : decode cX1_changesAt 54 = .ok (.goto 4, 3) := dk_167 0 4 (dk_at dksX1_changesAt_2 7 rfl rfl)
theorem dX1_changesAt_57 : decode cX1_changesAt 57 = .ok (.iconst 0, 1) := dk_3 (dk_at dksX1_changesAt_2 10 rfl rfl)
theorem dX1_changesAt_58 : decode cX1_changesAt 58 = .ok (.iadd, 1) := dk_96 (dk_at dksX1_changesAt_2 11 rfl rfl)
theorem dX1_changesAt_59 : decode cX1_changesAt 59 = .ok (.istore 4, 2) := dk_54 4 (dk_at dksX1_changesAt_2 12 rfl rfl)
theorem dX1_changesAt_61 : decode cX1_changesAt 61 = .ok (.iload 8, 2) := dk_21 8 (dk_at dksX1_changesAt_2 14 rfl rfl)
theorem dX1_changesAt_63 : decode cX1_changesAt 63 = .ok (.ifCond .ne 8, 3) := dk_154 0 8 (dk_at dksX1_changesAt_2 16 rfl rfl)
theorem dX1_changesAt_66 : decode cX1_changesAt 66 = .ok (.iload 5, 2) := dk_21 5 (dk_at dksX1_changesAt_2 19 rfl rfl)
theorem dX1_changesAt_68 : decode cX1_changesAt 68 = .ok (.goto 5, 3) := dk_167 0 5 (dk_at dksX1_changesAt_2 21 rfl rfl)
theorem dX1_changesAt_71 : decode cX1_changesAt 71 = .ok (.iload 8, 2) := dk_21 8 (dk_at dksX1_changesAt_3 0 rfl rfl)
theorem dX1_changesAt_73 : decode cX1_changesAt 73 = .ok (.istore 5, 2) := dk_54 5 (dk_at dksX1_changesAt_3 2 rfl rfl)
theorem dX1_changesAt_75 : decode cX1_changesAt 75 = .ok (.goto (-63), 3) := dk_167 255 193 (dk_at dksX1_changesAt_3 4 rfl rfl)
theorem dX1_changesAt_78 : decode cX1_changesAt 78 = .ok (.iload 4, 2) := dk_21 4 (dk_at dksX1_changesAt_3 7 rfl rfl)
theorem dX1_changesAt_80 : decode cX1_changesAt 80 = .ok (.ireturn, 1) := dk_172 (dk_at dksX1_changesAt_3 9 rfl rfl)
abbrev cX1_signAt : ByteArray := prog_1_method_11_code
def yX1_signAt : MethodName := ⟨RX1, "signAt", "(LSturmRoots$Poly;JI)I"⟩
def dkwX1_signAt_3 : List UInt8 := [167, 255, 218, 25, 5, 182, 0, 67, 172]
abbrev dktX1_signAt_3 : List UInt8 := dkwX1_signAt_3 ++ []
def dkwX1_signAt_2 : List UInt8 := [182, 0, 87, 29, 42, 182, 0, 60, 21, 6, 100, 104, 182, 0, 124, 182, 0, 127, 58, 5, 132, 6, 255]
abbrev dktX1_signAt_2 : List UInt8 := dkwX1_signAt_2 ++ dktX1_signAt_3
def dkwX1_signAt_1 : List UInt8 := [182, 0, 60, 4, 100, 54, 6, 21, 6, 155, 0, 39, 25, 5, 25, 4, 182, 0, 91, 42, 21, 6]
abbrev dktX1_signAt_1 : List UInt8 := dkwX1_signAt_1 ++ dktX1_signAt_2
def dkwX1_signAt_0 : List UInt8 := [42, 182, 0, 60, 156, 0, 5, 3, 172, 31, 184, 0, 74, 58, 4, 42, 182, 0, 64, 58, 5, 42]
abbrev dktX1_signAt_0 : List UInt8 := dkwX1_signAt_0 ++ dktX1_signAt_1
theorem dksX1_signAt_0 : cX1_signAt.data.toList.drop 0 = dktX1_signAt_0 := by decide +kernel
theorem dksX1_signAt_1 : cX1_signAt.data.toList.drop 22 = dktX1_signAt_1 := dk_seg dksX1_signAt_0 22 rfl rfl
theorem dksX1_signAt_2 : cX1_signAt.data.toList.drop 44 = dktX1_signAt_2 := dk_seg dksX1_signAt_1 22 rfl rfl
theorem dksX1_signAt_3 : cX1_signAt.data.toList.drop 67 = dktX1_signAt_3 := dk_seg dksX1_signAt_2 23 rfl rfl
theorem dX1_signAt_0 : decode cX1_signAt 0 = .ok (.aload_n 0, 1) := dk_42 (dk_at dksX1_signAt_0 0 rfl rfl)
theorem dX1_signAt_1 : decode cX1_signAt 1 = .ok (.invokevirtual 60, 3) := dk_182 0 60 (dk_at dksX1_signAt_0 1 rfl rfl)
theorem dX1_signAt_4 : decode cX1_signAt 4 = .ok (.ifCond .ge 5, 3) := dk_156 0 5 (dk_at dksX1_signAt_0 4 rfl rfl)
theorem dX1_signAt_7 : decode cX1_signAt 7 = .ok (.iconst 0, 1) := dk_3 (dk_at dksX1_signAt_0 7 rfl rfl)
theorem dX1_signAt_8 : decode cX1_signAt 8 = .ok (.ireturn, 1) := dk_172 (dk_at dksX1_signAt_0 8 rfl rfl)
theorem dX1_signAt_9 : decode cX1_signAt 9 = .ok (.lload_n 1, 1) := dk_31 (dk_at dksX1_signAt_0 9 rfl rfl)
theorem dX1_signAt_10 : decode cX1_signAt 10 = .ok (.invokestatic 74, 3) := dk_184 0 74 (dk_at dksX1_signAt_0 10 rfl rfl)
theorem dX1_signAt_13 : decode cX1_signAt 13 = .ok (.astore 4, 2) := dk_58 4 (dk_at dksX1_signAt_0 13 rfl rfl)
theorem dX1_signAt_15 : decode cX1_signAt 15 = .ok (.aload_n 0, 1) := dk_42 (dk_at dksX1_signAt_0 15 rfl rfl)
theorem dX1_signAt_16 : decode cX1_signAt 16 = .ok (.invokevirtual 64, 3) := dk_182 0 64 (dk_at dksX1_signAt_0 16 rfl rfl)
theorem dX1_signAt_19 : decode cX1_signAt 19 = .ok (.astore 5, 2) := dk_58 5 (dk_at dksX1_signAt_0 19 rfl rfl)
theorem dX1_signAt_21 : decode cX1_signAt 21 = .ok (.aload_n 0, 1) := dk_42 (dk_at dksX1_signAt_0 21 rfl rfl)
theorem dX1_signAt_22 : decode cX1_signAt 22 = .ok (.invokevirtual 60, 3) := dk_182 0 60 (dk_at dksX1_signAt_1 0 rfl rfl)
theorem dX1_signAt_25 : decode cX1_signAt 25 = .ok (.iconst 1, 1) := dk_4 (dk_at dksX1_signAt_1 3 rfl rfl)
theorem dX1_signAt_26 : decode cX1_signAt 26 = .ok (.isub, 1) := dk_100 (dk_at dksX1_signAt_1 4 rfl rfl)
theorem dX1_signAt_27 : decode cX1_signAt 27 = .ok (.istore 6, 2) := dk_54 6 (dk_at dksX1_signAt_1 5 rfl rfl)
theorem dX1_signAt_29 : decode cX1_signAt 29 = .ok (.iload 6, 2) := dk_21 6 (dk_at dksX1_signAt_1 7 rfl rfl)
theorem dX1_signAt_31 : decode cX1_signAt 31 = .ok (.ifCond .lt 39, 3) := dk_155 0 39 (dk_at dksX1_signAt_1 9 rfl rfl)
theorem dX1_signAt_34 : decode cX1_signAt 34 = .ok (.aload 5, 2) := dk_25 5 (dk_at dksX1_signAt_1 12 rfl rfl)
theorem dX1_signAt_36 : decode cX1_signAt 36 = .ok (.aload 4, 2) := dk_25 4 (dk_at dksX1_signAt_1 14 rfl rfl)
theorem dX1_signAt_38 : decode cX1_signAt 38 = .ok (.invokevirtual 91, 3) := dk_182 0 91 (dk_at dksX1_signAt_1 16 rfl rfl)
theorem dX1_signAt_41 : decode cX1_signAt 41 = .ok (.aload_n 0, 1) := dk_42 (dk_at dksX1_signAt_1 19 rfl rfl)
theorem dX1_signAt_42 : decode cX1_signAt 42 = .ok (.iload 6, 2) := dk_21 6 (dk_at dksX1_signAt_1 20 rfl rfl)
theorem dX1_signAt_44 : decode cX1_signAt 44 = .ok (.invokevirtual 87, 3) := dk_182 0 87 (dk_at dksX1_signAt_2 0 rfl rfl)
theorem dX1_signAt_47 : decode cX1_signAt 47 = .ok (.iload_n 3, 1) := dk_29 (dk_at dksX1_signAt_2 3 rfl rfl)
theorem dX1_signAt_48 : decode cX1_signAt 48 = .ok (.aload_n 0, 1) := dk_42 (dk_at dksX1_signAt_2 4 rfl rfl)
theorem dX1_signAt_49 : decode cX1_signAt 49 = .ok (.invokevirtual 60, 3) := dk_182 0 60 (dk_at dksX1_signAt_2 5 rfl rfl)
theorem dX1_signAt_52 : decode cX1_signAt 52 = .ok (.iload 6, 2) := dk_21 6 (dk_at dksX1_signAt_2 8 rfl rfl)
theorem dX1_signAt_54 : decode cX1_signAt 54 = .ok (.isub, 1) := dk_100 (dk_at dksX1_signAt_2 10 rfl rfl)
theorem dX1_signAt_55 : decode cX1_signAt 55 = .ok (.imul, 1) := dk_104 (dk_at dksX1_signAt_2 11 rfl rfl)
theorem dX1_signAt_56 : decode cX1_signAt 56 = .ok (.invokevirtual 124, 3) := dk_182 0 124 (dk_at dksX1_signAt_2 12 rfl rfl)
theorem dX1_signAt_59 : decode cX1_signAt 59 = .ok (.invokevirtual 127, 3) := dk_182 0 127 (dk_at dksX1_signAt_2 15 rfl rfl)
theorem dX1_signAt_62 : decode cX1_signAt 62 = .ok (.astore 5, 2) := dk_58 5 (dk_at dksX1_signAt_2 18 rfl rfl)
theorem dX1_signAt_64 : decode cX1_signAt 64 = .ok (.iinc 6 (-1), 3) := dk_132 6 255 (dk_at dksX1_signAt_2 20 rfl rfl)
theorem dX1_signAt_67 : decode cX1_signAt 67 = .ok (.goto (-38), 3) := dk_167 255 218 (dk_at dksX1_signAt_3 0 rfl rfl)
theorem dX1_signAt_70 : decode cX1_signAt 70 = .ok (.aload 5, 2) := dk_25 5 (dk_at dksX1_signAt_3 3 rfl rfl)
theorem dX1_signAt_72 : decode cX1_signAt 72 = .ok (.invokevirtual 67, 3) := dk_182 0 67 (dk_at dksX1_signAt_3 5 rfl rfl)
theorem dX1_signAt_75 : decode cX1_signAt 75 = .ok (.ireturn, 1) := dk_172 (dk_at dksX1_signAt_3 8 rfl rfl)
abbrev cX1_sign : ByteArray := prog_1_method_39_code
def yX1_sign : MethodName := ⟨RX1, "sign", "(III)I"⟩
def dkwX1_sign_0 : List UInt8 := [27, 184, 0, 160, 28, 29, 184, 0, 210, 42, 27, 182, 0, 145, 28, 133, 29, 184, 0, 129, 172]
abbrev dktX1_sign_0 : List UInt8 := dkwX1_sign_0 ++ []
theorem dksX1_sign_0 : cX1_sign.data.toList.drop 0 = dktX1_sign_0 := by decide +kernel
theorem dX1_sign_0 : decode cX1_sign 0 = .ok (.iload_n 1, 1) := dk_27 (dk_at dksX1_sign_0 0 rfl rfl)
theorem dX1_sign_1 : decode cX1_sign 1 = .ok (.invokestatic 160, 3) := dk_184 0 160 (dk_at dksX1_sign_0 1 rfl rfl)
theorem dX1_sign_4 : decode cX1_sign 4 = .ok (.iload_n 2, 1) := dk_28 (dk_at dksX1_sign_0 4 rfl rfl)
theorem dX1_sign_5 : decode cX1_sign 5 = .ok (.iload_n 3, 1) := dk_29 (dk_at dksX1_sign_0 5 rfl rfl)
theorem dX1_sign_6 : decode cX1_sign 6 = .ok (.invokestatic 210, 3) := dk_184 0 210 (dk_at dksX1_sign_0 6 rfl rfl)
theorem dX1_sign_9 : decode cX1_sign 9 = .ok (.aload_n 0, 1) := dk_42 (dk_at dksX1_sign_0 9 rfl rfl)
theorem dX1_sign_10 : decode cX1_sign 10 = .ok (.iload_n 1, 1) := dk_27 (dk_at dksX1_sign_0 10 rfl rfl)
theorem dX1_sign_11 : decode cX1_sign 11 = .ok (.invokevirtual 145, 3) := dk_182 0 145 (dk_at dksX1_sign_0 11 rfl rfl)
theorem dX1_sign_14 : decode cX1_sign 14 = .ok (.iload_n 2, 1) := dk_28 (dk_at dksX1_sign_0 14 rfl rfl)
theorem dX1_sign_15 : decode cX1_sign 15 = .ok (.i2l, 1) := dk_133 (dk_at dksX1_sign_0 15 rfl rfl)
theorem dX1_sign_16 : decode cX1_sign 16 = .ok (.iload_n 3, 1) := dk_29 (dk_at dksX1_sign_0 16 rfl rfl)
theorem dX1_sign_17 : decode cX1_sign 17 = .ok (.invokestatic 129, 3) := dk_184 0 129 (dk_at dksX1_sign_0 17 rfl rfl)
theorem dX1_sign_20 : decode cX1_sign 20 = .ok (.ireturn, 1) := dk_172 (dk_at dksX1_sign_0 20 rfl rfl)
abbrev cX1_countDistinct : ByteArray := prog_1_method_41_code
def yX1_countDistinct : MethodName := ⟨RX1, "countDistinct", "(IIIII)I"⟩
def dkwX1_countDistinct_1 : List UInt8 := [25, 6, 21, 4, 133, 21, 5, 184, 0, 214, 100, 172]
abbrev dktX1_countDistinct_1 : List UInt8 := dkwX1_countDistinct_1 ++ []
def dkwX1_countDistinct_0 : List UInt8 := [42, 27, 28, 29, 21, 4, 21, 5, 182, 0, 218, 182, 0, 195, 58, 6, 25, 6, 28, 133, 29, 184, 0, 214]
abbrev dktX1_countDistinct_0 : List UInt8 := dkwX1_countDistinct_0 ++ dktX1_countDistinct_1
theorem dksX1_countDistinct_0 : cX1_countDistinct.data.toList.drop 0 = dktX1_countDistinct_0 := by decide +kernel
theorem dksX1_countDistinct_1 : cX1_countDistinct.data.toList.drop 24 = dktX1_countDistinct_1 := dk_seg dksX1_countDistinct_0 24 rfl rfl
theorem dX1_countDistinct_0 : decode cX1_countDistinct 0 = .ok (.aload_n 0, 1) := dk_42 (dk_at dksX1_countDistinct_0 0 rfl rfl)
theorem dX1_countDistinct_1 : decode cX1_countDistinct 1 = .ok (.iload_n 1, 1) := dk_27 (dk_at dksX1_countDistinct_0 1 rfl rfl)
theorem dX1_countDistinct_2 : decode cX1_countDistinct 2 = .ok (.iload_n 2, 1) := dk_28 (dk_at dksX1_countDistinct_0 2 rfl rfl)
theorem dX1_countDistinct_3 : decode cX1_countDistinct 3 = .ok (.iload_n 3, 1) := dk_29 (dk_at dksX1_countDistinct_0 3 rfl rfl)
theorem dX1_countDistinct_4 : decode cX1_countDistinct 4 = .ok (.iload 4, 2) := dk_21 4 (dk_at dksX1_countDistinct_0 4 rfl rfl)
theorem dX1_countDistinct_6 : decode cX1_countDistinct 6 = .ok (.iload 5, 2) := dk_21 5 (dk_at dksX1_countDistinct_0 6 rfl rfl)
theorem dX1_countDistinct_8 : decode cX1_countDistinct 8 = .ok (.invokevirtual 218, 3) := dk_182 0 218 (dk_at dksX1_countDistinct_0 8 rfl rfl)
theorem dX1_countDistinct_11 : decode cX1_countDistinct 11 = .ok (.invokevirtual 195, 3) := dk_182 0 195 (dk_at dksX1_countDistinct_0 11 rfl rfl)
theorem dX1_countDistinct_14 : decode cX1_countDistinct 14 = .ok (.astore 6, 2) := dk_58 6 (dk_at dksX1_countDistinct_0 14 rfl rfl)
theorem dX1_countDistinct_16 : decode cX1_countDistinct 16 = .ok (.aload 6, 2) := dk_25 6 (dk_at dksX1_countDistinct_0 16 rfl rfl)
theorem dX1_countDistinct_18 : decode cX1_countDistinct 18 = .ok (.iload_n 2, 1) := dk_28 (dk_at dksX1_countDistinct_0 18 rfl rfl)
theorem dX1_countDistinct_19 : decode cX1_countDistinct 19 = .ok (.i2l, 1) := dk_133 (dk_at dksX1_countDistinct_0 19 rfl rfl)
theorem dX1_countDistinct_20 : decode cX1_countDistinct 20 = .ok (.iload_n 3, 1) := dk_29 (dk_at dksX1_countDistinct_0 20 rfl rfl)
theorem dX1_countDistinct_21 : decode cX1_countDistinct 21 = .ok (.invokestatic 214, 3) := dk_184 0 214 (dk_at dksX1_countDistinct_0 21 rfl rfl)
theorem dX1_countDistinct_24 : decode cX1_countDistinct 24 = .ok (.aload 6, 2) := dk_25 6 (dk_at dksX1_countDistinct_1 0 rfl rfl)
theorem dX1_countDistinct_26 : decode cX1_countDistinct 26 = .ok (.iload 4, 2) := dk_21 4 (dk_at dksX1_countDistinct_1 2 rfl rfl)
theorem dX1_countDistinct_28 : decode cX1_countDistinct 28 = .ok (.i2l, 1) := dk_133 (dk_at dksX1_countDistinct_1 4 rfl rfl)
theorem dX1_countDistinct_29 : decode cX1_countDistinct 29 = .ok (.iload 5, 2) := dk_21 5 (dk_at dksX1_countDistinct_1 5 rfl rfl)
theorem dX1_countDistinct_31 : decode cX1_countDistinct 31 = .ok (.invokestatic 214, 3) := dk_184 0 214 (dk_at dksX1_countDistinct_1 7 rfl rfl)
theorem dX1_countDistinct_34 : decode cX1_countDistinct 34 = .ok (.isub, 1) := dk_100 (dk_at dksX1_countDistinct_1 10 rfl rfl)
theorem dX1_countDistinct_35 : decode cX1_countDistinct 35 = .ok (.ireturn, 1) := dk_172 (dk_at dksX1_countDistinct_1 11 rfl rfl)
abbrev cX1_between : ByteArray := prog_1_method_40_code
def yX1_between : MethodName := ⟨RX1, "between", "(IIIII)LSturmRoots$Known;"⟩
def dkwX1_between_3 : List UInt8 := [184, 0, 129, 154, 0, 11, 187, 0, 157, 89, 183, 0, 159, 191, 25, 6, 176]
abbrev dktX1_between_3 : List UInt8 := dkwX1_between_3 ++ []
def dkwX1_between_2 : List UInt8 := [180, 0, 141, 28, 133, 29, 184, 0, 129, 153, 0, 19, 25, 6, 180, 0, 141, 21, 4, 133, 21, 5]
abbrev dktX1_between_2 : List UInt8 := dkwX1_between_2 ++ dktX1_between_3
def dkwX1_between_1 : List UInt8 := [29, 121, 148, 155, 0, 11, 187, 0, 138, 89, 183, 0, 140, 191, 42, 27, 182, 0, 187, 58, 6, 25, 6]
abbrev dktX1_between_1 : List UInt8 := dkwX1_between_1 ++ dktX1_between_2
def dkwX1_between_0 : List UInt8 := [27, 184, 0, 160, 28, 29, 184, 0, 210, 21, 4, 21, 5, 184, 0, 210, 28, 133, 21, 5, 121, 21, 4, 133]
abbrev dktX1_between_0 : List UInt8 := dkwX1_between_0 ++ dktX1_between_1
theorem dksX1_between_0 : cX1_between.data.toList.drop 0 = dktX1_between_0 := by decide +kernel
theorem dksX1_between_1 : cX1_between.data.toList.drop 24 = dktX1_between_1 := dk_seg dksX1_between_0 24 rfl rfl
theorem dksX1_between_2 : cX1_between.data.toList.drop 47 = dktX1_between_2 := dk_seg dksX1_between_1 23 rfl rfl
theorem dksX1_between_3 : cX1_between.data.toList.drop 69 = dktX1_between_3 := dk_seg dksX1_between_2 22 rfl rfl
theorem dX1_between_0 : decode cX1_between 0 = .ok (.iload_n 1, 1) := dk_27 (dk_at dksX1_between_0 0 rfl rfl)
theorem dX1_between_1 : decode cX1_between 1 = .ok (.invokestatic 160, 3) := dk_184 0 160 (dk_at dksX1_between_0 1 rfl rfl)
theorem dX1_between_4 : decode cX1_between 4 = .ok (.iload_n 2, 1) := dk_28 (dk_at dksX1_between_0 4 rfl rfl)
theorem dX1_between_5 : decode cX1_between 5 = .ok (.iload_n 3, 1) := dk_29 (dk_at dksX1_between_0 5 rfl rfl)
theorem dX1_between_6 : decode cX1_between 6 = .ok (.invokestatic 210, 3) := dk_184 0 210 (dk_at dksX1_between_0 6 rfl rfl)
theorem dX1_between_9 : decode cX1_between 9 = .ok (.iload 4, 2) := dk_21 4 (dk_at dksX1_between_0 9 rfl rfl)
theorem dX1_between_11 : decode cX1_between 11 = .ok (.iload 5, 2) := dk_21 5 (dk_at dksX1_between_0 11 rfl rfl)
theorem dX1_between_13 : decode cX1_between 13 = .ok (.invokestatic 210, 3) := dk_184 0 210 (dk_at dksX1_between_0 13 rfl rfl)
theorem dX1_between_16 : decode cX1_between 16 = .ok (.iload_n 2, 1) := dk_28 (dk_at dksX1_between_0 16 rfl rfl)
theorem dX1_between_17 : decode cX1_between 17 = .ok (.i2l, 1) := dk_133 (dk_at dksX1_between_0 17 rfl rfl)
theorem dX1_between_18 : decode cX1_between 18 = .ok (.iload 5, 2) := dk_21 5 (dk_at dksX1_between_0 18 rfl rfl)
theorem dX1_between_20 : decode cX1_between 20 = .ok (.lshl, 1) := dk_121 (dk_at dksX1_between_0 20 rfl rfl)
theorem dX1_between_21 : decode cX1_between 21 = .ok (.iload 4, 2) := dk_21 4 (dk_at dksX1_between_0 21 rfl rfl)
theorem dX1_between_23 : decode cX1_between 23 = .ok (.i2l, 1) := dk_133 (dk_at dksX1_between_0 23 rfl rfl)
theorem dX1_between_24 : decode cX1_between 24 = .ok (.iload_n 3, 1) := dk_29 (dk_at dksX1_between_1 0 rfl rfl)
theorem dX1_between_25 : decode cX1_between 25 = .ok (.lshl, 1) := dk_121 (dk_at dksX1_between_1 1 rfl rfl)
theorem dX1_between_26 : decode cX1_between 26 = .ok (.lcmp, 1) := dk_148 (dk_at dksX1_between_1 2 rfl rfl)
theorem dX1_between_27 : decode cX1_between 27 = .ok (.ifCond .lt 11, 3) := dk_155 0 11 (dk_at dksX1_between_1 3 rfl rfl)
theorem dX1_between_30 : decode cX1_between 30 = .ok (.new 138, 3) := dk_187 0 138 (dk_at dksX1_between_1 6 rfl rfl)
theorem dX1_between_33 : decode cX1_between 33 = .ok (.dup, 1) := dk_89 (dk_at dksX1_between_1 9 rfl rfl)
theorem dX1_between_34 : decode cX1_between 34 = .ok (.invokespecial 140, 3) := dk_183 0 140 (dk_at dksX1_between_1 10 rfl rfl)
theorem dX1_between_37 : decode cX1_between 37 = .ok (.athrow, 1) := dk_191 (dk_at dksX1_between_1 13 rfl rfl)
theorem dX1_between_38 : decode cX1_between 38 = .ok (.aload_n 0, 1) := dk_42 (dk_at dksX1_between_1 14 rfl rfl)
theorem dX1_between_39 : decode cX1_between 39 = .ok (.iload_n 1, 1) := dk_27 (dk_at dksX1_between_1 15 rfl rfl)
theorem dX1_between_40 : decode cX1_between 40 = .ok (.invokevirtual 187, 3) := dk_182 0 187 (dk_at dksX1_between_1 16 rfl rfl)
theorem dX1_between_43 : decode cX1_between 43 = .ok (.astore 6, 2) := dk_58 6 (dk_at dksX1_between_1 19 rfl rfl)
theorem dX1_between_45 : decode cX1_between 45 = .ok (.aload 6, 2) := dk_25 6 (dk_at dksX1_between_1 21 rfl rfl)
theorem dX1_between_47 : decode cX1_between 47 = .ok (.getfield 141, 3) := dk_180 0 141 (dk_at dksX1_between_2 0 rfl rfl)
theorem dX1_between_50 : decode cX1_between 50 = .ok (.iload_n 2, 1) := dk_28 (dk_at dksX1_between_2 3 rfl rfl)
theorem dX1_between_51 : decode cX1_between 51 = .ok (.i2l, 1) := dk_133 (dk_at dksX1_between_2 4 rfl rfl)
theorem dX1_between_52 : decode cX1_between 52 = .ok (.iload_n 3, 1) := dk_29 (dk_at dksX1_between_2 5 rfl rfl)
theorem dX1_between_53 : decode cX1_between 53 = .ok (.invokestatic 129, 3) := dk_184 0 129 (dk_at dksX1_between_2 6 rfl rfl)
theorem dX1_between_56 : decode cX1_between 56 = .ok (.ifCond .eq 19, 3) := dk_153 0 19 (dk_at dksX1_between_2 9 rfl rfl)
theorem dX1_between_59 : decode cX1_between 59 = .ok (.aload 6, 2) := dk_25 6 (dk_at dksX1_between_2 12 rfl rfl)
theorem dX1_between_61 : decode cX1_between 61 = .ok (.getfield 141, 3) := dk_180 0 141 (dk_at dksX1_between_2 14 rfl rfl)
theorem dX1_between_64 : decode cX1_between 64 = .ok (.iload 4, 2) := dk_21 4 (dk_at dksX1_between_2 17 rfl rfl)
theorem dX1_between_66 : decode cX1_between 66 = .ok (.i2l, 1) := dk_133 (dk_at dksX1_between_2 19 rfl rfl)
theorem dX1_between_67 : decode cX1_between 67 = .ok (.iload 5, 2) := dk_21 5 (dk_at dksX1_between_2 20 rfl rfl)
theorem dX1_between_69 : decode cX1_between 69 = .ok (.invokestatic 129, 3) := dk_184 0 129 (dk_at dksX1_between_3 0 rfl rfl)
theorem dX1_between_72 : decode cX1_between 72 = .ok (.ifCond .ne 11, 3) := dk_154 0 11 (dk_at dksX1_between_3 3 rfl rfl)
theorem dX1_between_75 : decode cX1_between 75 = .ok (.new 157, 3) := dk_187 0 157 (dk_at dksX1_between_3 6 rfl rfl)
theorem dX1_between_78 : decode cX1_between 78 = .ok (.dup, 1) := dk_89 (dk_at dksX1_between_3 9 rfl rfl)
theorem dX1_between_79 : decode cX1_between 79 = .ok (.invokespecial 159, 3) := dk_183 0 159 (dk_at dksX1_between_3 10 rfl rfl)
theorem dX1_between_82 : decode cX1_between 82 = .ok (.athrow, 1) := dk_191 (dk_at dksX1_between_3 13 rfl rfl)
theorem dX1_between_83 : decode cX1_between 83 = .ok (.aload 6, 2) := dk_25 6 (dk_at dksX1_between_3 14 rfl rfl)
theorem dX1_between_85 : decode cX1_between 85 = .ok (.areturn, 1) := dk_176 (dk_at dksX1_between_3 16 rfl rfl)
abbrev cX1_countAll : ByteArray := prog_1_method_42_code
def yX1_countAll : MethodName := ⟨RX1, "countAll", "(IIIII)I"⟩
def dkwX1_countAll_3 : List UInt8 := [167, 255, 201, 21, 7, 172]
abbrev dktX1_countAll_3 : List UInt8 := dkwX1_countAll_3 ++ []
def dkwX1_countAll_2 : List UInt8 := [21, 5, 184, 0, 214, 100, 96, 54, 7, 187, 0, 19, 89, 25, 6, 182, 0, 222, 183, 0, 26, 58, 6]
abbrev dktX1_countAll_2 : List UInt8 := dkwX1_countAll_2 ++ dktX1_countAll_3
def dkwX1_countAll_1 : List UInt8 := [158, 0, 50, 21, 7, 25, 6, 182, 0, 195, 28, 133, 29, 184, 0, 214, 25, 6, 182, 0, 195, 21, 4, 133]
abbrev dktX1_countAll_1 : List UInt8 := dkwX1_countAll_1 ++ dktX1_countAll_2
def dkwX1_countAll_0 : List UInt8 := [42, 27, 28, 29, 21, 4, 21, 5, 182, 0, 218, 58, 6, 3, 54, 7, 25, 6, 180, 0, 141, 182, 0, 60]
abbrev dktX1_countAll_0 : List UInt8 := dkwX1_countAll_0 ++ dktX1_countAll_1
theorem dksX1_countAll_0 : cX1_countAll.data.toList.drop 0 = dktX1_countAll_0 := by decide +kernel
theorem dksX1_countAll_1 : cX1_countAll.data.toList.drop 24 = dktX1_countAll_1 := dk_seg dksX1_countAll_0 24 rfl rfl
theorem dksX1_countAll_2 : cX1_countAll.data.toList.drop 48 = dktX1_countAll_2 := dk_seg dksX1_countAll_1 24 rfl rfl
theorem dksX1_countAll_3 : cX1_countAll.data.toList.drop 71 = dktX1_countAll_3 := dk_seg dksX1_countAll_2 23 rfl rfl
theorem dX1_countAll_0 : decode cX1_countAll 0 = .ok (.aload_n 0, 1) := dk_42 (dk_at dksX1_countAll_0 0 rfl rfl)
theorem dX1_countAll_1 : decode cX1_countAll 1 = .ok (.iload_n 1, 1) := dk_27 (dk_at dksX1_countAll_0 1 rfl rfl)
theorem dX1_countAll_2 : decode cX1_countAll 2 = .ok (.iload_n 2, 1) := dk_28 (dk_at dksX1_countAll_0 2 rfl rfl)
theorem dX1_countAll_3 : decode cX1_countAll 3 = .ok (.iload_n 3, 1) := dk_29 (dk_at dksX1_countAll_0 3 rfl rfl)
theorem dX1_countAll_4 : decode cX1_countAll 4 = .ok (.iload 4, 2) := dk_21 4 (dk_at dksX1_countAll_0 4 rfl rfl)
theorem dX1_countAll_6 : decode cX1_countAll 6 = .ok (.iload 5, 2) := dk_21 5 (dk_at dksX1_countAll_0 6 rfl rfl)
theorem dX1_countAll_8 : decode cX1_countAll 8 = .ok (.invokevirtual 218, 3) := dk_182 0 218 (dk_at dksX1_countAll_0 8 rfl rfl)
theorem dX1_countAll_11 : decode cX1_countAll 11 = .ok (.astore 6, 2) := dk_58 6 (dk_at dksX1_countAll_0 11 rfl rfl)
theorem dX1_countAll_13 : decode cX1_countAll 13 = .ok (.iconst 0, 1) := dk_3 (dk_at dksX1_countAll_0 13 rfl rfl)
theorem dX1_countAll_14 : decode cX1_countAll 14 = .ok (.istore 7, 2) := dk_54 7 (dk_at dksX1_countAll_0 14 rfl rfl)
theorem dX1_countAll_16 : decode cX1_countAll 16 = .ok (.aload 6, 2) := dk_25 6 (dk_at dksX1_countAll_0 16 rfl rfl)
theorem dX1_countAll_18 : decode cX1_countAll 18 = .ok (.getfield 141, 3) := dk_180 0 141 (dk_at dksX1_countAll_0 18 rfl rfl)
theorem dX1_countAll_21 : decode cX1_countAll 21 = .ok (.invokevirtual 60, 3) := dk_182 0 60 (dk_at dksX1_countAll_0 21 rfl rfl)
theorem dX1_countAll_24 : decode cX1_countAll 24 = .ok (.ifCond .le 50, 3) := dk_158 0 50 (dk_at dksX1_countAll_1 0 rfl rfl)
theorem dX1_countAll_27 : decode cX1_countAll 27 = .ok (.iload 7, 2) := dk_21 7 (dk_at dksX1_countAll_1 3 rfl rfl)
theorem dX1_countAll_29 : decode cX1_countAll 29 = .ok (.aload 6, 2) := dk_25 6 (dk_at dksX1_countAll_1 5 rfl rfl)
theorem dX1_countAll_31 : decode cX1_countAll 31 = .ok (.invokevirtual 195, 3) := dk_182 0 195 (dk_at dksX1_countAll_1 7 rfl rfl)
theorem dX1_countAll_34 : decode cX1_countAll 34 = .ok (.iload_n 2, 1) := dk_28 (dk_at dksX1_countAll_1 10 rfl rfl)
theorem dX1_countAll_35 : decode cX1_countAll 35 = .ok (.i2l, 1) := dk_133 (dk_at dksX1_countAll_1 11 rfl rfl)
theorem dX1_countAll_36 : decode cX1_countAll 36 = .ok (.iload_n 3, 1) := dk_29 (dk_at dksX1_countAll_1 12 rfl rfl)
theorem dX1_countAll_37 : decode cX1_countAll 37 = .ok (.invokestatic 214, 3) := dk_184 0 214 (dk_at dksX1_countAll_1 13 rfl rfl)
theorem dX1_countAll_40 : decode cX1_countAll 40 = .ok (.aload 6, 2) := dk_25 6 (dk_at dksX1_countAll_1 16 rfl rfl)
theorem dX1_countAll_42 : decode cX1_countAll 42 = .ok (.invokevirtual 195, 3) := dk_182 0 195 (dk_at dksX1_countAll_1 18 rfl rfl)
theorem dX1_countAll_45 : decode cX1_countAll 45 = .ok (.iload 4, 2) := dk_21 4 (dk_at dksX1_countAll_1 21 rfl rfl)
theorem dX1_countAll_47 : decode cX1_countAll 47 = .ok (.i2l, 1) := dk_133 (dk_at dksX1_countAll_1 23 rfl rfl)
theorem dX1_countAll_48 : decode cX1_countAll 48 = .ok (.iload 5, 2) := dk_21 5 (dk_at dksX1_countAll_2 0 rfl rfl)
theorem dX1_countAll_50 : decode cX1_countAll 50 = .ok (.invokestatic 214, 3) := dk_184 0 214 (dk_at dksX1_countAll_2 2 rfl rfl)
theorem dX1_countAll_53 : decode cX1_countAll 53 = .ok (.isub, 1) := dk_100 (dk_at dksX1_countAll_2 5 rfl rfl)
theorem dX1_countAll_54 : decode cX1_countAll 54 = .ok (.iadd, 1) := dk_96 (dk_at dksX1_countAll_2 6 rfl rfl)
theorem dX1_countAll_55 : decode cX1_countAll 55 = .ok (.istore 7, 2) := dk_54 7 (dk_at dksX1_countAll_2 7 rfl rfl)
theorem dX1_countAll_57 : decode cX1_countAll 57 = .ok (.new 19, 3) := dk_187 0 19 (dk_at dksX1_countAll_2 9 rfl rfl)
theorem dX1_countAll_60 : decode cX1_countAll 60 = .ok (.dup, 1) := dk_89 (dk_at dksX1_countAll_2 12 rfl rfl)
theorem dX1_countAll_61 : decode cX1_countAll 61 = .ok (.aload 6, 2) := dk_25 6 (dk_at dksX1_countAll_2 13 rfl rfl)
theorem dX1_countAll_63 : decode cX1_countAll 63 = .ok (.invokevirtual 222, 3) := dk_182 0 222 (dk_at dksX1_countAll_2 15 rfl rfl)
theorem dX1_countAll_66 : decode cX1_countAll 66 = .ok (.invokespecial 26, 3) := dk_183 0 26 (dk_at dksX1_countAll_2 18 rfl rfl)
theorem dX1_countAll_69 : decode cX1_countAll 69 = .ok (.astore 6, 2) := dk_58 6 (dk_at dksX1_countAll_2 21 rfl rfl)
theorem dX1_countAll_71 : decode cX1_countAll 71 = .ok (.goto (-55), 3) := dk_167 255 201 (dk_at dksX1_countAll_3 0 rfl rfl)
theorem dX1_countAll_74 : decode cX1_countAll 74 = .ok (.iload 7, 2) := dk_21 7 (dk_at dksX1_countAll_3 3 rfl rfl)
theorem dX1_countAll_76 : decode cX1_countAll 76 = .ok (.ireturn, 1) := dk_172 (dk_at dksX1_countAll_3 5 rfl rfl)
abbrev cX1_distinctRoots : ByteArray := prog_1_method_43_code
def yX1_distinctRoots : MethodName := ⟨RX1, "distinctRoots", "(I)I"⟩
def dkwX1_distinctRoots_0 : List UInt8 := [27, 184, 0, 160, 42, 27, 182, 0, 187, 182, 0, 195, 184, 0, 225, 172]
abbrev dktX1_distinctRoots_0 : List UInt8 := dkwX1_distinctRoots_0 ++ []
theorem dksX1_distinctRoots_0 : cX1_distinctRoots.data.toList.drop 0 = dktX1_distinctRoots_0 := by decide +kernel
theorem dX1_distinctRoots_0 : decode cX1_distinctRoots 0 = .ok (.iload_n 1, 1) := dk_27 (dk_at dksX1_distinctRoots_0 0 rfl rfl)
theorem dX1_distinctRoots_1 : decode cX1_distinctRoots 1 = .ok (.invokestatic 160, 3) := dk_184 0 160 (dk_at dksX1_distinctRoots_0 1 rfl rfl)
theorem dX1_distinctRoots_4 : decode cX1_distinctRoots 4 = .ok (.aload_n 0, 1) := dk_42 (dk_at dksX1_distinctRoots_0 4 rfl rfl)
theorem dX1_distinctRoots_5 : decode cX1_distinctRoots 5 = .ok (.iload_n 1, 1) := dk_27 (dk_at dksX1_distinctRoots_0 5 rfl rfl)
theorem dX1_distinctRoots_6 : decode cX1_distinctRoots 6 = .ok (.invokevirtual 187, 3) := dk_182 0 187 (dk_at dksX1_distinctRoots_0 6 rfl rfl)
theorem dX1_distinctRoots_9 : decode cX1_distinctRoots 9 = .ok (.invokevirtual 195, 3) := dk_182 0 195 (dk_at dksX1_distinctRoots_0 9 rfl rfl)
theorem dX1_distinctRoots_12 : decode cX1_distinctRoots 12 = .ok (.invokestatic 225, 3) := dk_184 0 225 (dk_at dksX1_distinctRoots_0 12 rfl rfl)
theorem dX1_distinctRoots_15 : decode cX1_distinctRoots 15 = .ok (.ireturn, 1) := dk_172 (dk_at dksX1_distinctRoots_0 15 rfl rfl)
abbrev cX1_allRoots : ByteArray := prog_1_method_13_code
def yX1_allRoots : MethodName := ⟨RX1, "allRoots", "(Ljava/util/ArrayList;)I"⟩
def dkwX1_allRoots_4 : List UInt8 := [60, 21, 7, 61, 21, 6, 62, 167, 255, 168, 27, 172]
abbrev dktX1_allRoots_4 : List UInt8 := dkwX1_allRoots_4 ++ []
def dkwX1_allRoots_3 : List UInt8 := [156, 0, 7, 4, 167, 0, 4, 3, 96, 60, 27, 21, 6, 29, 104, 156, 0, 7, 4, 167, 0, 4, 3, 100]
abbrev dktX1_allRoots_3 : List UInt8 := dkwX1_allRoots_3 ++ dktX1_allRoots_4
def dkwX1_allRoots_2 : List UInt8 := [182, 0, 60, 5, 112, 154, 0, 8, 21, 6, 167, 0, 6, 21, 6, 116, 54, 7, 27, 21, 7, 28, 104]
abbrev dktX1_allRoots_2 : List UInt8 := dkwX1_allRoots_2 ++ dktX1_allRoots_3
def dkwX1_allRoots_1 : List UInt8 := [185, 0, 52, 1, 0, 192, 0, 21, 58, 5, 25, 5, 182, 0, 64, 182, 0, 67, 54, 6, 25, 5]
abbrev dktX1_allRoots_1 : List UInt8 := dkwX1_allRoots_1 ++ dktX1_allRoots_2
def dkwX1_allRoots_0 : List UInt8 := [3, 60, 3, 61, 3, 62, 42, 182, 0, 42, 58, 4, 25, 4, 185, 0, 46, 1, 0, 153, 0, 84, 25, 4]
abbrev dktX1_allRoots_0 : List UInt8 := dkwX1_allRoots_0 ++ dktX1_allRoots_1
theorem dksX1_allRoots_0 : cX1_allRoots.data.toList.drop 0 = dktX1_allRoots_0 := by decide +kernel
theorem dksX1_allRoots_1 : cX1_allRoots.data.toList.drop 24 = dktX1_allRoots_1 := dk_seg dksX1_allRoots_0 24 rfl rfl
theorem dksX1_allRoots_2 : cX1_allRoots.data.toList.drop 46 = dktX1_allRoots_2 := dk_seg dksX1_allRoots_1 22 rfl rfl
theorem dksX1_allRoots_3 : cX1_allRoots.data.toList.drop 69 = dktX1_allRoots_3 := dk_seg dksX1_allRoots_2 23 rfl rfl
theorem dksX1_allRoots_4 : cX1_allRoots.data.toList.drop 93 = dktX1_allRoots_4 := dk_seg dksX1_allRoots_3 24 rfl rfl
theorem dX1_allRoots_0 : decode cX1_allRoots 0 = .ok (.iconst 0, 1) := dk_3 (dk_at dksX1_allRoots_0 0 rfl rfl)
theorem dX1_allRoots_1 : decode cX1_allRoots 1 = .ok (.istore_n 1, 1) := dk_60 (dk_at dksX1_allRoots_0 1 rfl rfl)
theorem dX1_allRoots_2 : decode cX1_allRoots 2 = .ok (.iconst 0, 1) := dk_3 (dk_at dksX1_allRoots_0 2 rfl rfl)
theorem dX1_allRoots_3 : decode cX1_allRoots 3 = .ok (.istore_n 2, 1) := dk_61 (dk_at dksX1_allRoots_0 3 rfl rfl)
theorem dX1_allRoots_4 : decode cX1_allRoots 4 = .ok (.iconst 0, 1) := dk_3 (dk_at dksX1_allRoots_0 4 rfl rfl)
theorem dX1_allRoots_5 : decode cX1_allRoots 5 = .ok (.istore_n 3, 1) := dk_62 (dk_at dksX1_allRoots_0 5 rfl rfl)
theorem dX1_allRoots_6 : decode cX1_allRoots 6 = .ok (.aload_n 0, 1) := dk_42 (dk_at dksX1_allRoots_0 6 rfl rfl)
theorem dX1_allRoots_7 : decode cX1_allRoots 7 = .ok (.invokevirtual 42, 3) := dk_182 0 42 (dk_at dksX1_allRoots_0 7 rfl rfl)
theorem dX1_allRoots_10 : decode cX1_allRoots 10 = .ok (.astore 4, 2) := dk_58 4 (dk_at dksX1_allRoots_0 10 rfl rfl)
theorem dX1_allRoots_12 : decode cX1_allRoots 12 = .ok (.aload 4, 2) := dk_25 4 (dk_at dksX1_allRoots_0 12 rfl rfl)
theorem dX1_allRoots_14 : decode cX1_allRoots 14 = .ok (.invokeinterface 46 1, 5) := by decide +kernel
theorem dX1_allRoots_19 : decode cX1_allRoots 19 = .ok (.ifCond .eq 84, 3) := dk_153 0 84 (dk_at dksX1_allRoots_0 19 rfl rfl)
theorem dX1_allRoots_22 : decode cX1_allRoots 22 = .ok (.aload 4, 2) := dk_25 4 (dk_at dksX1_allRoots_0 22 rfl rfl)
theorem dX1_allRoots_24 : decode cX1_allRoots 24 = .ok (.invokeinterface 52 1, 5) := by decide +kernel
theorem dX1_allRoots_29 : decode cX1_allRoots 29 = .ok (.checkcast 21, 3) := dk_192 0 21 (dk_at dksX1_allRoots_1 5 rfl rfl)
theorem dX1_allRoots_32 : decode cX1_allRoots 32 = .ok (.astore 5, 2) := dk_58 5 (dk_at dksX1_allRoots_1 8 rfl rfl)
theorem dX1_allRoots_34 : decode cX1_allRoots 34 = .ok (.aload 5, 2) := dk_25 5 (dk_at dksX1_allRoots_1 10 rfl rfl)
theorem dX1_allRoots_36 : decode cX1_allRoots 36 = .ok (.invokevirtual 64, 3) := dk_182 0 64 (dk_at dksX1_allRoots_1 12 rfl rfl)
theorem dX1_allRoots_39 : decode cX1_allRoots 39 = .ok (.invokevirtual 67, 3) := dk_182 0 67 (dk_at dksX1_allRoots_1 15 rfl rfl)
theorem dX1_allRoots_42 : decode cX1_allRoots 42 = .ok (.istore 6, 2) := dk_54 6 (dk_at dksX1_allRoots_1 18 rfl rfl)
theorem dX1_allRoots_44 : decode cX1_allRoots 44 = .ok (.aload 5, 2) := dk_25 5 (dk_at dksX1_allRoots_1 20 rfl rfl)
theorem dX1_allRoots_46 : decode cX1_allRoots 46 = .ok (.invokevirtual 60, 3) := dk_182 0 60 (dk_at dksX1_allRoots_2 0 rfl rfl)
theorem dX1_allRoots_49 : decode cX1_allRoots 49 = .ok (.iconst 2, 1) := dk_5 (dk_at dksX1_allRoots_2 3 rfl rfl)
theorem dX1_allRoots_50 : decode cX1_allRoots 50 = .ok (.irem, 1) := dk_112 (dk_at dksX1_allRoots_2 4 rfl rfl)
theorem dX1_allRoots_51 : decode cX1_allRoots 51 = .ok (.ifCond .ne 8, 3) := dk_154 0 8 (dk_at dksX1_allRoots_2 5 rfl rfl)
theorem dX1_allRoots_54 : decode cX1_allRoots 54 = .ok (.iload 6, 2) := dk_21 6 (dk_at dksX1_allRoots_2 8 rfl rfl)
theorem dX1_allRoots_56 : decode cX1_allRoots 56 = .ok (.goto 6, 3) := dk_167 0 6 (dk_at dksX1_allRoots_2 10 rfl rfl)
theorem dX1_allRoots_59 : decode cX1_allRoots 59 = .ok (.iload 6, 2) := dk_21 6 (dk_at dksX1_allRoots_2 13 rfl rfl)
theorem dX1_allRoots_61 : decode cX1_allRoots 61 = .ok (.ineg, 1) := dk_116 (dk_at dksX1_allRoots_2 15 rfl rfl)
theorem dX1_allRoots_62 : decode cX1_allRoots 62 = .ok (.istore 7, 2) := dk_54 7 (dk_at dksX1_allRoots_2 16 rfl rfl)
theorem dX1_allRoots_64 : decode cX1_allRoots 64 = .ok (.iload_n 1, 1) := dk_27 (dk_at dksX1_allRoots_2 18 rfl rfl)
theorem dX1_allRoots_65 : decode cX1_allRoots 65 = .ok (.iload 7, 2) := dk_21 7 (dk_at dksX1_allRoots_2 19 rfl rfl)
theorem dX1_allRoots_67 : decode cX1_allRoots 67 = .ok (.iload_n 2, 1) := dk_28 (dk_at dksX1_allRoots_2 21 rfl rfl)
theorem dX1_allRoots_68 : decode cX1_allRoots 68 = .ok (.imul, 1) := dk_104 (dk_at dksX1_allRoots_2 22 rfl rfl)
theorem dX1_allRoots_69 : decode cX1_allRoots 69 = .ok (.ifCond .ge 7, 3) := dk_156 0 7 (dk_at dksX1_allRoots_3 0 rfl rfl)
theorem dX1_allRoots_72 : decode cX1_allRoots 72 = .ok (.iconst 1, 1) := dk_4 (dk_at dksX1_allRoots_3 3 rfl rfl)
theorem dX1_allRoots_73 : decode cX1_allRoots 73 = .ok (.goto 4, 3) := dk_167 0 4 (dk_at dksX1_allRoots_3 4 rfl rfl)
theorem dX1_allRoots_76 : decode cX1_allRoots 76 = .ok (.iconst 0, 1) := dk_3 (dk_at dksX1_allRoots_3 7 rfl rfl)
theorem dX1_allRoots_77 : decode cX1_allRoots 77 = .ok (.iadd, 1) := dk_96 (dk_at dksX1_allRoots_3 8 rfl rfl)
theorem dX1_allRoots_78 : decode cX1_allRoots 78 = .ok (.istore_n 1, 1) := dk_60 (dk_at dksX1_allRoots_3 9 rfl rfl)
theorem dX1_allRoots_79 : decode cX1_allRoots 79 = .ok (.iload_n 1, 1) := dk_27 (dk_at dksX1_allRoots_3 10 rfl rfl)
theorem dX1_allRoots_80 : decode cX1_allRoots 80 = .ok (.iload 6, 2) := dk_21 6 (dk_at dksX1_allRoots_3 11 rfl rfl)
theorem dX1_allRoots_82 : decode cX1_allRoots 82 = .ok (.iload_n 3, 1) := dk_29 (dk_at dksX1_allRoots_3 13 rfl rfl)
theorem dX1_allRoots_83 : decode cX1_allRoots 83 = .ok (.imul, 1) := dk_104 (dk_at dksX1_allRoots_3 14 rfl rfl)
theorem dX1_allRoots_84 : decode cX1_allRoots 84 = .ok (.ifCond .ge 7, 3) := dk_156 0 7 (dk_at dksX1_allRoots_3 15 rfl rfl)
theorem dX1_allRoots_87 : decode cX1_allRoots 87 = .ok (.iconst 1, 1) := dk_4 (dk_at dksX1_allRoots_3 18 rfl rfl)
theorem dX1_allRoots_88 : decode cX1_allRoots 88 = .ok (.goto 4, 3) := dk_167 0 4 (dk_at dksX1_allRoots_3 19 rfl rfl)
theorem dX1_allRoots_91 : decode cX1_allRoots 91 = .ok (.iconst 0, 1) := dk_3 (dk_at dksX1_allRoots_3 22 rfl rfl)
theorem dX1_allRoots_92 : decode cX1_allRoots 92 = .ok (.isub, 1) := dk_100 (dk_at dksX1_allRoots_3 23 rfl rfl)
theorem dX1_allRoots_93 : decode cX1_allRoots 93 = .ok (.istore_n 1, 1) := dk_60 (dk_at dksX1_allRoots_4 0 rfl rfl)
theorem dX1_allRoots_94 : decode cX1_allRoots 94 = .ok (.iload 7, 2) := dk_21 7 (dk_at dksX1_allRoots_4 1 rfl rfl)
theorem dX1_allRoots_96 : decode cX1_allRoots 96 = .ok (.istore_n 2, 1) := dk_61 (dk_at dksX1_allRoots_4 3 rfl rfl)
theorem dX1_allRoots_97 : decode cX1_allRoots 97 = .ok (.iload 6, 2) := dk_21 6 (dk_at dksX1_allRoots_4 4 rfl rfl)
theorem dX1_allRoots_99 : decode cX1_allRoots 99 = .ok (.istore_n 3, 1) := dk_62 (dk_at dksX1_allRoots_4 6 rfl rfl)
theorem dX1_allRoots_100 : decode cX1_allRoots 100 = .ok (.goto (-88), 3) := dk_167 255 168 (dk_at dksX1_allRoots_4 7 rfl rfl)
theorem dX1_allRoots_103 : decode cX1_allRoots 103 = .ok (.iload_n 1, 1) := dk_27 (dk_at dksX1_allRoots_4 10 rfl rfl)
theorem dX1_allRoots_104 : decode cX1_allRoots 104 = .ok (.ireturn, 1) := dk_172 (dk_at dksX1_allRoots_4 11 rfl rfl)
abbrev cX1_coefficientSignChanges : ByteArray := prog_1_method_44_code
def yX1_coefficientSignChanges : MethodName := ⟨RX1, "coefficientSignChanges", "(I)I"⟩
def dkwX1_coefficientSignChanges_0 : List UInt8 := [27, 184, 0, 160, 42, 27, 182, 0, 145, 184, 0, 229, 172]
abbrev dktX1_coefficientSignChanges_0 : List UInt8 := dkwX1_coefficientSignChanges_0 ++ []
theorem dksX1_coefficientSignChanges_0 : cX1_coefficientSignChanges.data.toList.drop 0 = dktX1_coefficientSignChanges_0 := by decide +kernel
theorem dX1_coefficientSignChanges_0 : decode cX1_coefficientSignChanges 0 = .ok (.iload_n 1, 1) := dk_27 (dk_at dksX1_coefficientSignChanges_0 0 rfl rfl)
theorem dX1_coefficientSignChanges_1 : decode cX1_coefficientSignChanges 1 = .ok (.invokestatic 160, 3) := dk_184 0 160 (dk_at dksX1_coefficientSignChanges_0 1 rfl rfl)
theorem dX1_coefficientSignChanges_4 : decode cX1_coefficientSignChanges 4 = .ok (.aload_n 0, 1) := dk_42 (dk_at dksX1_coefficientSignChanges_0 4 rfl rfl)
theorem dX1_coefficientSignChanges_5 : decode cX1_coefficientSignChanges 5 = .ok (.iload_n 1, 1) := dk_27 (dk_at dksX1_coefficientSignChanges_0 5 rfl rfl)
theorem dX1_coefficientSignChanges_6 : decode cX1_coefficientSignChanges 6 = .ok (.invokevirtual 145, 3) := dk_182 0 145 (dk_at dksX1_coefficientSignChanges_0 6 rfl rfl)
theorem dX1_coefficientSignChanges_9 : decode cX1_coefficientSignChanges 9 = .ok (.invokestatic 229, 3) := dk_184 0 229 (dk_at dksX1_coefficientSignChanges_0 9 rfl rfl)
theorem dX1_coefficientSignChanges_12 : decode cX1_coefficientSignChanges 12 = .ok (.ireturn, 1) := dk_172 (dk_at dksX1_coefficientSignChanges_0 12 rfl rfl)
abbrev cX1_signChangesOf : ByteArray := prog_1_method_14_code
def yX1_signChangesOf : MethodName := ⟨RX1, "signChangesOf", "(LSturmRoots$Poly;)I"⟩
def dkwX1_signChangesOf_3 : List UInt8 := [167, 255, 200, 27, 172]
abbrev dktX1_signChangesOf_3 : List UInt8 := dkwX1_signChangesOf_3 ++ []
def dkwX1_signChangesOf_2 : List UInt8 := [167, 0, 4, 3, 96, 60, 25, 4, 182, 0, 67, 154, 0, 7, 28, 167, 0, 8, 25, 4, 182, 0, 67, 61]
abbrev dktX1_signChangesOf_2 : List UInt8 := dkwX1_signChangesOf_2 ++ dktX1_signChangesOf_3
def dkwX1_signChangesOf_1 : List UInt8 := [185, 0, 52, 1, 0, 192, 0, 34, 58, 4, 27, 25, 4, 182, 0, 67, 28, 104, 156, 0, 7, 4]
abbrev dktX1_signChangesOf_1 : List UInt8 := dkwX1_signChangesOf_1 ++ dktX1_signChangesOf_2
def dkwX1_signChangesOf_0 : List UInt8 := [3, 60, 3, 61, 42, 180, 0, 39, 182, 0, 42, 78, 45, 185, 0, 46, 1, 0, 153, 0, 53, 45]
abbrev dktX1_signChangesOf_0 : List UInt8 := dkwX1_signChangesOf_0 ++ dktX1_signChangesOf_1
theorem dksX1_signChangesOf_0 : cX1_signChangesOf.data.toList.drop 0 = dktX1_signChangesOf_0 := by decide +kernel
theorem dksX1_signChangesOf_1 : cX1_signChangesOf.data.toList.drop 22 = dktX1_signChangesOf_1 := dk_seg dksX1_signChangesOf_0 22 rfl rfl
theorem dksX1_signChangesOf_2 : cX1_signChangesOf.data.toList.drop 44 = dktX1_signChangesOf_2 := dk_seg dksX1_signChangesOf_1 22 rfl rfl
theorem dksX1_signChangesOf_3 : cX1_signChangesOf.data.toList.drop 68 = dktX1_signChangesOf_3 := dk_seg dksX1_signChangesOf_2 24 rfl rfl
theorem dX1_signChangesOf_0 : decode cX1_signChangesOf 0 = .ok (.iconst 0, 1) := dk_3 (dk_at dksX1_signChangesOf_0 0 rfl rfl)
theorem dX1_signChangesOf_1 : decode cX1_signChangesOf 1 = .ok (.istore_n 1, 1) := dk_60 (dk_at dksX1_signChangesOf_0 1 rfl rfl)
theorem dX1_signChangesOf_2 : decode cX1_signChangesOf 2 = .ok (.iconst 0, 1) := dk_3 (dk_at dksX1_signChangesOf_0 2 rfl rfl)
theorem dX1_signChangesOf_3 : decode cX1_signChangesOf 3 = .ok (.istore_n 2, 1) := dk_61 (dk_at dksX1_signChangesOf_0 3 rfl rfl)
theorem dX1_signChangesOf_4 : decode cX1_signChangesOf 4 = .ok (.aload_n 0, 1) := dk_42 (dk_at dksX1_signChangesOf_0 4 rfl rfl)
theorem dX1_signChangesOf_5 : decode cX1_signChangesOf 5 = .ok (.getfield 39, 3) := dk_180 0 39 (dk_at dksX1_signChangesOf_0 5 rfl rfl)
theorem dX1_signChangesOf_8 : decode cX1_signChangesOf 8 = .ok (.invokevirtual 42, 3) := dk_182 0 42 (dk_at dksX1_signChangesOf_0 8 rfl rfl)
theorem dX1_signChangesOf_11 : decode cX1_signChangesOf 11 = .ok (.astore_n 3, 1) := dk_78 (dk_at dksX1_signChangesOf_0 11 rfl rfl)
theorem dX1_signChangesOf_12 : decode cX1_signChangesOf 12 = .ok (.aload_n 3, 1) := dk_45 (dk_at dksX1_signChangesOf_0 12 rfl rfl)
theorem dX1_signChangesOf_13 : decode cX1_signChangesOf 13 = .ok (.invokeinterface 46 1, 5) := by decide +kernel
theorem dX1_signChangesOf_18 : decode cX1_signChangesOf 18 = .ok (.ifCond .eq 53, 3) := dk_153 0 53 (dk_at dksX1_signChangesOf_0 18 rfl rfl)
theorem dX1_signChangesOf_21 : decode cX1_signChangesOf 21 = .ok (.aload_n 3, 1) := dk_45 (dk_at dksX1_signChangesOf_0 21 rfl rfl)
theorem dX1_signChangesOf_22 : decode cX1_signChangesOf 22 = .ok (.invokeinterface 52 1, 5) := by decide +kernel
theorem dX1_signChangesOf_27 : decode cX1_signChangesOf 27 = .ok (.checkcast 34, 3) := dk_192 0 34 (dk_at dksX1_signChangesOf_1 5 rfl rfl)
theorem dX1_signChangesOf_30 : decode cX1_signChangesOf 30 = .ok (.astore 4, 2) := dk_58 4 (dk_at dksX1_signChangesOf_1 8 rfl rfl)
theorem dX1_signChangesOf_32 : decode cX1_signChangesOf 32 = .ok (.iload_n 1, 1) := dk_27 (dk_at dksX1_signChangesOf_1 10 rfl rfl)
theorem dX1_signChangesOf_33 : decode cX1_signChangesOf 33 = .ok (.aload 4, 2) := dk_25 4 (dk_at dksX1_signChangesOf_1 11 rfl rfl)
theorem dX1_signChangesOf_35 : decode cX1_signChangesOf 35 = .ok (.invokevirtual 67, 3) := dk_182 0 67 (dk_at dksX1_signChangesOf_1 13 rfl rfl)
theorem dX1_signChangesOf_38 : decode cX1_signChangesOf 38 = .ok (.iload_n 2, 1) := dk_28 (dk_at dksX1_signChangesOf_1 16 rfl rfl)
theorem dX1_signChangesOf_39 : decode cX1_signChangesOf 39 = .ok (.imul, 1) := dk_104 (dk_at dksX1_signChangesOf_1 17 rfl rfl)
theorem dX1_signChangesOf_40 : decode cX1_signChangesOf 40 = .ok (.ifCond .ge 7, 3) := dk_156 0 7 (dk_at dksX1_signChangesOf_1 18 rfl rfl)
theorem dX1_signChangesOf_43 : decode cX1_signChangesOf 43 = .ok (.iconst 1, 1) := dk_4 (dk_at dksX1_signChangesOf_1 21 rfl rfl)
theorem dX1_signChangesOf_44 : decode cX1_signChangesOf 44 = .ok (.goto 4, 3) := dk_167 0 4 (dk_at dksX1_signChangesOf_2 0 rfl rfl)
theorem dX1_signChangesOf_47 : decode cX1_signChangesOf 47 = .ok (.iconst 0, 1) := dk_3 (dk_at dksX1_signChangesOf_2 3 rfl rfl)
theorem dX1_signChangesOf_48 : decode cX1_signChangesOf 48 = .ok (.iadd, 1) := dk_96 (dk_at dksX1_signChangesOf_2 4 rfl rfl)
theorem dX1_signChangesOf_49 : decode cX1_signChangesOf 49 = .ok (.istore_n 1, 1) := dk_60 (dk_at dksX1_signChangesOf_2 5 rfl rfl)
theorem dX1_signChangesOf_50 : decode cX1_signChangesOf 50 = .ok (.aload 4, 2) := dk_25 4 (dk_at dksX1_signChangesOf_2 6 rfl rfl)
theorem dX1_signChangesOf_52 : decode cX1_signChangesOf 52 = .ok (.invokevirtual 67, 3) := dk_182 0 67 (dk_at dksX1_signChangesOf_2 8 rfl rfl)
theorem dX1_signChangesOf_55 : decode cX1_signChangesOf 55 = .ok (.ifCond .ne 7, 3) := dk_154 0 7 (dk_at dksX1_signChangesOf_2 11 rfl rfl)
theorem dX1_signChangesOf_58 : decode cX1_signChangesOf 58 = .ok (.iload_n 2, 1) := dk_28 (dk_at dksX1_signChangesOf_2 14 rfl rfl)
theorem dX1_signChangesOf_59 : decode cX1_signChangesOf 59 = .ok (.goto 8, 3) := dk_167 0 8 (dk_at dksX1_signChangesOf_2 15 rfl rfl)
theorem dX1_signChangesOf_62 : decode cX1_signChangesOf 62 = .ok (.aload 4, 2) := dk_25 4 (dk_at dksX1_signChangesOf_2 18 rfl rfl)
theorem dX1_signChangesOf_64 : decode cX1_signChangesOf 64 = .ok (.invokevirtual 67, 3) := dk_182 0 67 (dk_at dksX1_signChangesOf_2 20 rfl rfl)
theorem dX1_signChangesOf_67 : decode cX1_signChangesOf 67 = .ok (.istore_n 2, 1) := dk_61 (dk_at dksX1_signChangesOf_2 23 rfl rfl)
theorem dX1_signChangesOf_68 : decode cX1_signChangesOf 68 = .ok (.goto (-56), 3) := dk_167 255 200 (dk_at dksX1_signChangesOf_3 0 rfl rfl)
theorem dX1_signChangesOf_71 : decode cX1_signChangesOf 71 = .ok (.iload_n 1, 1) := dk_27 (dk_at dksX1_signChangesOf_3 3 rfl rfl)
theorem dX1_signChangesOf_72 : decode cX1_signChangesOf 72 = .ok (.ireturn, 1) := dk_172 (dk_at dksX1_signChangesOf_3 4 rfl rfl)
abbrev cX1_isolate : ByteArray := prog_1_method_45_code
def yX1_isolate : MethodName := ⟨RX1, "isolate", "(I)I"⟩
def dkwX1_isolate_6 : List UInt8 := [21, 5, 172]
abbrev dktX1_isolate_6 : List UInt8 := dkwX1_isolate_6 ++ []
def dkwX1_isolate_5 : List UInt8 := [42, 180, 0, 16, 187, 0, 239, 89, 3, 21, 4, 116, 21, 4, 21, 5, 183, 0, 241, 182, 0, 29, 87]
abbrev dktX1_isolate_5 : List UInt8 := dkwX1_isolate_5 ++ dktX1_isolate_6
def dkwX1_isolate_4 : List UInt8 := [182, 0, 195, 184, 0, 225, 54, 5, 42, 44, 181, 0, 235, 42, 187, 0, 7, 89, 183, 0, 9, 181, 0, 16]
abbrev dktX1_isolate_4 : List UInt8 := dkwX1_isolate_4 ++ dktX1_isolate_5
def dkwX1_isolate_3 : List UInt8 := [184, 0, 74, 182, 0, 91, 45, 182, 0, 153, 156, 0, 12, 21, 4, 5, 104, 54, 4, 167, 255, 222, 44]
abbrev dktX1_isolate_3 : List UInt8 := dkwX1_isolate_3 ++ dktX1_isolate_4
def dkwX1_isolate_2 : List UInt8 := [132, 4, 1, 167, 255, 224, 4, 54, 4, 44, 180, 0, 141, 182, 0, 64, 182, 0, 94, 21, 4, 4, 100, 133]
abbrev dktX1_isolate_2 : List UInt8 := dkwX1_isolate_2 ++ dktX1_isolate_3
def dkwX1_isolate_1 : List UInt8 := [182, 0, 60, 162, 0, 26, 45, 44, 180, 0, 141, 21, 4, 182, 0, 87, 182, 0, 94, 182, 0, 233, 78]
abbrev dktX1_isolate_1 : List UInt8 := dkwX1_isolate_1 ++ dktX1_isolate_2
def dkwX1_isolate_0 : List UInt8 := [27, 184, 0, 160, 42, 27, 182, 0, 187, 77, 9, 184, 0, 74, 78, 3, 54, 4, 21, 4, 44, 180, 0, 141]
abbrev dktX1_isolate_0 : List UInt8 := dkwX1_isolate_0 ++ dktX1_isolate_1
theorem dksX1_isolate_0 : cX1_isolate.data.toList.drop 0 = dktX1_isolate_0 := by decide +kernel
theorem dksX1_isolate_1 : cX1_isolate.data.toList.drop 24 = dktX1_isolate_1 := dk_seg dksX1_isolate_0 24 rfl rfl
theorem dksX1_isolate_2 : cX1_isolate.data.toList.drop 47 = dktX1_isolate_2 := dk_seg dksX1_isolate_1 23 rfl rfl
theorem dksX1_isolate_3 : cX1_isolate.data.toList.drop 71 = dktX1_isolate_3 := dk_seg dksX1_isolate_2 24 rfl rfl
theorem dksX1_isolate_4 : cX1_isolate.data.toList.drop 94 = dktX1_isolate_4 := dk_seg dksX1_isolate_3 23 rfl rfl
theorem dksX1_isolate_5 : cX1_isolate.data.toList.drop 118 = dktX1_isolate_5 := dk_seg dksX1_isolate_4 24 rfl rfl
theorem dksX1_isolate_6 : cX1_isolate.data.toList.drop 141 = dktX1_isolate_6 := dk_seg dksX1_isolate_5 23 rfl rfl
theorem dX1_isolate_0 : decode cX1_isolate 0 = .ok (.iload_n 1, 1) := dk_27 (dk_at dksX1_isolate_0 0 rfl rfl)
theorem dX1_isolate_1 : decode cX1_isolate 1 = .ok (.invokestatic 160, 3) := dk_184 0 160 (dk_at dksX1_isolate_0 1 rfl rfl)
theorem dX1_isolate_4 : decode cX1_isolate 4 = .ok (.aload_n 0, 1) := dk_42 (dk_at dksX1_isolate_0 4 rfl rfl)
theorem dX1_isolate_5 : decode cX1_isolate 5 = .ok (.iload_n 1, 1) := dk_27 (dk_at dksX1_isolate_0 5 rfl rfl)
theorem dX1_isolate_6 : decode cX1_isolate 6 = .ok (.invokevirtual 187, 3) := dk_182 0 187 (dk_at dksX1_isolate_0 6 rfl rfl)
theorem dX1_isolate_9 : decode cX1_isolate 9 = .ok (.astore_n 2, 1) := dk_77 (dk_at dksX1_isolate_0 9 rfl rfl)
theorem dX1_isolate_10 : decode cX1_isolate 10 = .ok (.lconst 0, 1) := dk_9 (dk_at dksX1_isolate_0 10 rfl rfl)
theorem dX1_isolate_11 : decode cX1_isolate 11 = .ok (.invokestatic 74, 3) := dk_184 0 74 (dk_at dksX1_isolate_0 11 rfl rfl)
theorem dX1_isolate_14 : decode cX1_isolate 14 = .ok (.astore_n 3, 1) := dk_78 (dk_at dksX1_isolate_0 14 rfl rfl)
theorem dX1_isolate_15 : decode cX1_isolate 15 = .ok (.iconst 0, 1) := dk_3 (dk_at dksX1_isolate_0 15 rfl rfl)
theorem dX1_isolate_16 : decode cX1_isolate 16 = .ok (.istore 4, 2) := dk_54 4 (dk_at dksX1_isolate_0 16 rfl rfl)
theorem dX1_isolate_18 : decode cX1_isolate 18 = .ok (.iload 4, 2) := dk_21 4 (dk_at dksX1_isolate_0 18 rfl rfl)
theorem dX1_isolate_20 : decode cX1_isolate 20 = .ok (.aload_n 2, 1) := dk_44 (dk_at dksX1_isolate_0 20 rfl rfl)
theorem dX1_isolate_21 : decode cX1_isolate 21 = .ok (.getfield 141, 3) := dk_180 0 141 (dk_at dksX1_isolate_0 21 rfl rfl)
theorem dX1_isolate_24 : decode cX1_isolate 24 = .ok (.invokevirtual 60, 3) := dk_182 0 60 (dk_at dksX1_isolate_1 0 rfl rfl)
theorem dX1_isolate_27 : decode cX1_isolate 27 = .ok (.if_icmp .ge 26, 3) := dk_162 0 26 (dk_at dksX1_isolate_1 3 rfl rfl)
theorem dX1_isolate_30 : decode cX1_isolate 30 = .ok (.aload_n 3, 1) := dk_45 (dk_at dksX1_isolate_1 6 rfl rfl)
theorem dX1_isolate_31 : decode cX1_isolate 31 = .ok (.aload_n 2, 1) := dk_44 (dk_at dksX1_isolate_1 7 rfl rfl)
theorem dX1_isolate_32 : decode cX1_isolate 32 = .ok (.getfield 141, 3) := dk_180 0 141 (dk_at dksX1_isolate_1 8 rfl rfl)
theorem dX1_isolate_35 : decode cX1_isolate 35 = .ok (.iload 4, 2) := dk_21 4 (dk_at dksX1_isolate_1 11 rfl rfl)
theorem dX1_isolate_37 : decode cX1_isolate 37 = .ok (.invokevirtual 87, 3) := dk_182 0 87 (dk_at dksX1_isolate_1 13 rfl rfl)
theorem dX1_isolate_40 : decode cX1_isolate 40 = .ok (.invokevirtual 94, 3) := dk_182 0 94 (dk_at dksX1_isolate_1 16 rfl rfl)
theorem dX1_isolate_43 : decode cX1_isolate 43 = .ok (.invokevirtual 233, 3) := dk_182 0 233 (dk_at dksX1_isolate_1 19 rfl rfl)
theorem dX1_isolate_46 : decode cX1_isolate 46 = .ok (.astore_n 3, 1) := dk_78 (dk_at dksX1_isolate_1 22 rfl rfl)
theorem dX1_isolate_47 : decode cX1_isolate 47 = .ok (.iinc 4 1, 3) := dk_132 4 1 (dk_at dksX1_isolate_2 0 rfl rfl)
theorem dX1_isolate_50 : decode cX1_isolate 50 = .ok (.goto (-32), 3) := dk_167 255 224 (dk_at dksX1_isolate_2 3 rfl rfl)
theorem dX1_isolate_53 : decode cX1_isolate 53 = .ok (.iconst 1, 1) := dk_4 (dk_at dksX1_isolate_2 6 rfl rfl)
theorem dX1_isolate_54 : decode cX1_isolate 54 = .ok (.istore 4, 2) := dk_54 4 (dk_at dksX1_isolate_2 7 rfl rfl)
theorem dX1_isolate_56 : decode cX1_isolate 56 = .ok (.aload_n 2, 1) := dk_44 (dk_at dksX1_isolate_2 9 rfl rfl)
theorem dX1_isolate_57 : decode cX1_isolate 57 = .ok (.getfield 141, 3) := dk_180 0 141 (dk_at dksX1_isolate_2 10 rfl rfl)
theorem dX1_isolate_60 : decode cX1_isolate 60 = .ok (.invokevirtual 64, 3) := dk_182 0 64 (dk_at dksX1_isolate_2 13 rfl rfl)
theorem dX1_isolate_63 : decode cX1_isolate 63 = .ok (.invokevirtual 94, 3) := dk_182 0 94 (dk_at dksX1_isolate_2 16 rfl rfl)
theorem dX1_isolate_66 : decode cX1_isolate 66 = .ok (.iload 4, 2) := dk_21 4 (dk_at dksX1_isolate_2 19 rfl rfl)
theorem dX1_isolate_68 : decode cX1_isolate 68 = .ok (.iconst 1, 1) := dk_4 (dk_at dksX1_isolate_2 21 rfl rfl)
theorem dX1_isolate_69 : decode cX1_isolate 69 = .ok (.isub, 1) := dk_100 (dk_at dksX1_isolate_2 22 rfl rfl)
theorem dX1_isolate_70 : decode cX1_isolate 70 = .ok (.i2l, 1) := dk_133 (dk_at dksX1_isolate_2 23 rfl rfl)
theorem dX1_isolate_71 : decode cX1_isolate 71 = .ok (.invokestatic 74, 3) := dk_184 0 74 (dk_at dksX1_isolate_3 0 rfl rfl)
theorem dX1_isolate_74 : decode cX1_isolate 74 = .ok (.invokevirtual 91, 3) := dk_182 0 91 (dk_at dksX1_isolate_3 3 rfl rfl)
theorem dX1_isolate_77 : decode cX1_isolate 77 = .ok (.aload_n 3, 1) := dk_45 (dk_at dksX1_isolate_3 6 rfl rfl)
theorem dX1_isolate_78 : decode cX1_isolate 78 = .ok (.invokevirtual 153, 3) := dk_182 0 153 (dk_at dksX1_isolate_3 7 rfl rfl)
theorem dX1_isolate_81 : decode cX1_isolate 81 = .ok (.ifCond .ge 12, 3) := dk_156 0 12 (dk_at dksX1_isolate_3 10 rfl rfl)
theorem dX1_isolate_84 : decode cX1_isolate 84 = .ok (.iload 4, 2) := dk_21 4 (dk_at dksX1_isolate_3 13 rfl rfl)
theorem dX1_isolate_86 : decode cX1_isolate 86 = .ok (.iconst 2, 1) := dk_5 (dk_at dksX1_isolate_3 15 rfl rfl)
theorem dX1_isolate_87 : decode cX1_isolate 87 = .ok (.imul, 1) := dk_104 (dk_at dksX1_isolate_3 16 rfl rfl)
theorem dX1_isolate_88 : decode cX1_isolate 88 = .ok (.istore 4, 2) := dk_54 4 (dk_at dksX1_isolate_3 17 rfl rfl)
theorem dX1_isolate_90 : decode cX1_isolate 90 = .ok (.goto (-34), 3) := dk_167 255 222 (dk_at dksX1_isolate_3 19 rfl rfl)
theorem dX1_isolate_93 : decode cX1_isolate 93 = .ok (.aload_n 2, 1) := dk_44 (dk_at dksX1_isolate_3 22 rfl rfl)
theorem dX1_isolate_94 : decode cX1_isolate 94 = .ok (.invokevirtual 195, 3) := dk_182 0 195 (dk_at dksX1_isolate_4 0 rfl rfl)
theorem dX1_isolate_97 : decode cX1_isolate 97 = .ok (.invokestatic 225, 3) := dk_184 0 225 (dk_at dksX1_isolate_4 3 rfl rfl)
theorem dX1_isolate_100 : decode cX1_isolate 100 = .ok (.istore 5, 2) := dk_54 5 (dk_at dksX1_isolate_4 6 rfl rfl)
theorem dX1_isolate_102 : decode cX1_isolate 102 = .ok (.aload_n 0, 1) := dk_42 (dk_at dksX1_isolate_4 8 rfl rfl)
theorem dX1_isolate_103 : decode cX1_isolate 103 = .ok (.aload_n 2, 1) := dk_44 (dk_at dksX1_isolate_4 9 rfl rfl)
theorem dX1_isolate_104 : decode cX1_isolate 104 = .ok (.putfield 235, 3) := dk_181 0 235 (dk_at dksX1_isolate_4 10 rfl rfl)
theorem dX1_isolate_107 : decode cX1_isolate 107 = .ok (.aload_n 0, 1) := dk_42 (dk_at dksX1_isolate_4 13 rfl rfl)
theorem dX1_isolate_108 : decode cX1_isolate 108 = .ok (.new 7, 3) := dk_187 0 7 (dk_at dksX1_isolate_4 14 rfl rfl)
theorem dX1_isolate_111 : decode cX1_isolate 111 = .ok (.dup, 1) := dk_89 (dk_at dksX1_isolate_4 17 rfl rfl)
theorem dX1_isolate_112 : decode cX1_isolate 112 = .ok (.invokespecial 9, 3) := dk_183 0 9 (dk_at dksX1_isolate_4 18 rfl rfl)
theorem dX1_isolate_115 : decode cX1_isolate 115 = .ok (.putfield 16, 3) := dk_181 0 16 (dk_at dksX1_isolate_4 21 rfl rfl)
theorem dX1_isolate_118 : decode cX1_isolate 118 = .ok (.aload_n 0, 1) := dk_42 (dk_at dksX1_isolate_5 0 rfl rfl)
theorem dX1_isolate_119 : decode cX1_isolate 119 = .ok (.getfield 16, 3) := dk_180 0 16 (dk_at dksX1_isolate_5 1 rfl rfl)
theorem dX1_isolate_122 : decode cX1_isolate 122 = .ok (.new 239, 3) := dk_187 0 239 (dk_at dksX1_isolate_5 4 rfl rfl)
theorem dX1_isolate_125 : decode cX1_isolate 125 = .ok (.dup, 1) := dk_89 (dk_at dksX1_isolate_5 7 rfl rfl)
theorem dX1_isolate_126 : decode cX1_isolate 126 = .ok (.iconst 0, 1) := dk_3 (dk_at dksX1_isolate_5 8 rfl rfl)
theorem dX1_isolate_127 : decode cX1_isolate 127 = .ok (.iload 4, 2) := dk_21 4 (dk_at dksX1_isolate_5 9 rfl rfl)
theorem dX1_isolate_129 : decode cX1_isolate 129 = .ok (.ineg, 1) := dk_116 (dk_at dksX1_isolate_5 11 rfl rfl)
theorem dX1_isolate_130 : decode cX1_isolate 130 = .ok (.iload 4, 2) := dk_21 4 (dk_at dksX1_isolate_5 12 rfl rfl)
theorem dX1_isolate_132 : decode cX1_isolate 132 = .ok (.iload 5, 2) := dk_21 5 (dk_at dksX1_isolate_5 14 rfl rfl)
theorem dX1_isolate_134 : decode cX1_isolate 134 = .ok (.invokespecial 241, 3) := dk_183 0 241 (dk_at dksX1_isolate_5 16 rfl rfl)
theorem dX1_isolate_137 : decode cX1_isolate 137 = .ok (.invokevirtual 29, 3) := dk_182 0 29 (dk_at dksX1_isolate_5 19 rfl rfl)
theorem dX1_isolate_140 : decode cX1_isolate 140 = .ok (.pop, 1) := dk_87 (dk_at dksX1_isolate_5 22 rfl rfl)
theorem dX1_isolate_141 : decode cX1_isolate 141 = .ok (.iload 5, 2) := dk_21 5 (dk_at dksX1_isolate_6 0 rfl rfl)
theorem dX1_isolate_143 : decode cX1_isolate 143 = .ok (.ireturn, 1) := dk_172 (dk_at dksX1_isolate_6 2 rfl rfl)
abbrev cX1_rootsIn : ByteArray := prog_1_method_48_code
def yX1_rootsIn : MethodName := ⟨RX1, "rootsIn", "(I)I"⟩
def dkwX1_rootsIn_0 : List UInt8 := [42, 27, 182, 0, 244, 180, 0, 248, 172]
abbrev dktX1_rootsIn_0 : List UInt8 := dkwX1_rootsIn_0 ++ []
theorem dksX1_rootsIn_0 : cX1_rootsIn.data.toList.drop 0 = dktX1_rootsIn_0 := by decide +kernel
theorem dX1_rootsIn_0 : decode cX1_rootsIn 0 = .ok (.aload_n 0, 1) := dk_42 (dk_at dksX1_rootsIn_0 0 rfl rfl)
theorem dX1_rootsIn_1 : decode cX1_rootsIn 1 = .ok (.iload_n 1, 1) := dk_27 (dk_at dksX1_rootsIn_0 1 rfl rfl)
theorem dX1_rootsIn_2 : decode cX1_rootsIn 2 = .ok (.invokevirtual 244, 3) := dk_182 0 244 (dk_at dksX1_rootsIn_0 2 rfl rfl)
theorem dX1_rootsIn_5 : decode cX1_rootsIn 5 = .ok (.getfield 248, 3) := dk_180 0 248 (dk_at dksX1_rootsIn_0 5 rfl rfl)
theorem dX1_rootsIn_8 : decode cX1_rootsIn 8 = .ok (.ireturn, 1) := dk_172 (dk_at dksX1_rootsIn_0 8 rfl rfl)
abbrev cX1_mustBeInterval : ByteArray := prog_1_method_47_code
def yX1_mustBeInterval : MethodName := ⟨RX1, "mustBeInterval", "(I)LSturmRoots$Interval;"⟩
def dkwX1_mustBeInterval_1 : List UInt8 := [180, 0, 16, 27, 182, 0, 117, 192, 0, 239, 176]
abbrev dktX1_mustBeInterval_1 : List UInt8 := dkwX1_mustBeInterval_1 ++ []
def dkwX1_mustBeInterval_0 : List UInt8 := [27, 155, 0, 14, 27, 42, 180, 0, 16, 182, 0, 121, 161, 0, 11, 187, 0, 133, 89, 183, 0, 135, 191, 42]
abbrev dktX1_mustBeInterval_0 : List UInt8 := dkwX1_mustBeInterval_0 ++ dktX1_mustBeInterval_1
theorem dksX1_mustBeInterval_0 : cX1_mustBeInterval.data.toList.drop 0 = dktX1_mustBeInterval_0 := by decide +kernel
theorem dksX1_mustBeInterval_1 : cX1_mustBeInterval.data.toList.drop 24 = dktX1_mustBeInterval_1 := dk_seg dksX1_mustBeInterval_0 24 rfl rfl
theorem dX1_mustBeInterval_0 : decode cX1_mustBeInterval 0 = .ok (.iload_n 1, 1) := dk_27 (dk_at dksX1_mustBeInterval_0 0 rfl rfl)
theorem dX1_mustBeInterval_1 : decode cX1_mustBeInterval 1 = .ok (.ifCond .lt 14, 3) := dk_155 0 14 (dk_at dksX1_mustBeInterval_0 1 rfl rfl)
theorem dX1_mustBeInterval_4 : decode cX1_mustBeInterval 4 = .ok (.iload_n 1, 1) := dk_27 (dk_at dksX1_mustBeInterval_0 4 rfl rfl)
theorem dX1_mustBeInterval_5 : decode cX1_mustBeInterval 5 = .ok (.aload_n 0, 1) := dk_42 (dk_at dksX1_mustBeInterval_0 5 rfl rfl)
theorem dX1_mustBeInterval_6 : decode cX1_mustBeInterval 6 = .ok (.getfield 16, 3) := dk_180 0 16 (dk_at dksX1_mustBeInterval_0 6 rfl rfl)
theorem dX1_mustBeInterval_9 : decode cX1_mustBeInterval 9 = .ok (.invokevirtual 121, 3) := dk_182 0 121 (dk_at dksX1_mustBeInterval_0 9 rfl rfl)
theorem dX1_mustBeInterval_12 : decode cX1_mustBeInterval 12 = .ok (.if_icmp .lt 11, 3) := dk_161 0 11 (dk_at dksX1_mustBeInterval_0 12 rfl rfl)
theorem dX1_mustBeInterval_15 : decode cX1_mustBeInterval 15 = .ok (.new 133, 3) := dk_187 0 133 (dk_at dksX1_mustBeInterval_0 15 rfl rfl)
theorem dX1_mustBeInterval_18 : decode cX1_mustBeInterval 18 = .ok (.dup, 1) := dk_89 (dk_at dksX1_mustBeInterval_0 18 rfl rfl)
theorem dX1_mustBeInterval_19 : decode cX1_mustBeInterval 19 = .ok (.invokespecial 135, 3) := dk_183 0 135 (dk_at dksX1_mustBeInterval_0 19 rfl rfl)
theorem dX1_mustBeInterval_22 : decode cX1_mustBeInterval 22 = .ok (.athrow, 1) := dk_191 (dk_at dksX1_mustBeInterval_0 22 rfl rfl)
theorem dX1_mustBeInterval_23 : decode cX1_mustBeInterval 23 = .ok (.aload_n 0, 1) := dk_42 (dk_at dksX1_mustBeInterval_0 23 rfl rfl)
theorem dX1_mustBeInterval_24 : decode cX1_mustBeInterval 24 = .ok (.getfield 16, 3) := dk_180 0 16 (dk_at dksX1_mustBeInterval_1 0 rfl rfl)
theorem dX1_mustBeInterval_27 : decode cX1_mustBeInterval 27 = .ok (.iload_n 1, 1) := dk_27 (dk_at dksX1_mustBeInterval_1 3 rfl rfl)
theorem dX1_mustBeInterval_28 : decode cX1_mustBeInterval 28 = .ok (.invokevirtual 117, 3) := dk_182 0 117 (dk_at dksX1_mustBeInterval_1 4 rfl rfl)
theorem dX1_mustBeInterval_31 : decode cX1_mustBeInterval 31 = .ok (.checkcast 239, 3) := dk_192 0 239 (dk_at dksX1_mustBeInterval_1 7 rfl rfl)
theorem dX1_mustBeInterval_34 : decode cX1_mustBeInterval 34 = .ok (.areturn, 1) := dk_176 (dk_at dksX1_mustBeInterval_1 10 rfl rfl)
abbrev cX1_interval : ByteArray := prog_1_method_49_code
def yX1_interval : MethodName := ⟨RX1, "interval", "(IC)I"⟩
def dkwX1_interval_2 : List UInt8 := [45, 180, 0, 252, 172, 45, 180, 0, 255, 172, 45, 180, 1, 2, 172, 187, 0, 138, 89, 183, 0, 140, 191]
abbrev dktX1_interval_2 : List UInt8 := dkwX1_interval_2 ++ []
def dkwX1_interval_1 : List UInt8 := [171, 0, 0, 0, 48, 0, 0, 0, 3, 0, 0, 0, 100, 0, 0, 0, 33, 0, 0, 0, 109, 0, 0, 0, 38, 0, 0, 0, 110, 0, 0, 0, 43]
abbrev dktX1_interval_1 : List UInt8 := dkwX1_interval_1 ++ dktX1_interval_2
def dkwX1_interval_0 : List UInt8 := [42, 27, 182, 0, 244, 78, 28]
abbrev dktX1_interval_0 : List UInt8 := dkwX1_interval_0 ++ dktX1_interval_1
theorem dksX1_interval_0 : cX1_interval.data.toList.drop 0 = dktX1_interval_0 := by decide +kernel
theorem dksX1_interval_1 : cX1_interval.data.toList.drop 7 = dktX1_interval_1 := dk_seg dksX1_interval_0 7 rfl rfl
theorem dksX1_interval_2 : cX1_interval.data.toList.drop 40 = dktX1_interval_2 := dk_seg dksX1_interval_1 33 rfl rfl
theorem dX1_interval_0 : decode cX1_interval 0 = .ok (.aload_n 0, 1) := dk_42 (dk_at dksX1_interval_0 0 rfl rfl)
theorem dX1_interval_1 : decode cX1_interval 1 = .ok (.iload_n 1, 1) := dk_27 (dk_at dksX1_interval_0 1 rfl rfl)
theorem dX1_interval_2 : decode cX1_interval 2 = .ok (.invokevirtual 244, 3) := dk_182 0 244 (dk_at dksX1_interval_0 2 rfl rfl)
theorem dX1_interval_5 : decode cX1_interval 5 = .ok (.astore_n 3, 1) := dk_78 (dk_at dksX1_interval_0 5 rfl rfl)
theorem dX1_interval_6 : decode cX1_interval 6 = .ok (.iload_n 2, 1) := dk_28 (dk_at dksX1_interval_0 6 rfl rfl)
theorem dX1_interval_7 : decode cX1_interval 7 = .ok (.lookupswitch 48 #[(100, 33), (109, 38), (110, 43)], 33) := by decide +kernel
theorem dX1_interval_40 : decode cX1_interval 40 = .ok (.aload_n 3, 1) := dk_45 (dk_at dksX1_interval_2 0 rfl rfl)
theorem dX1_interval_41 : decode cX1_interval 41 = .ok (.getfield 252, 3) := dk_180 0 252 (dk_at dksX1_interval_2 1 rfl rfl)
theorem dX1_interval_44 : decode cX1_interval 44 = .ok (.ireturn, 1) := dk_172 (dk_at dksX1_interval_2 4 rfl rfl)
theorem dX1_interval_45 : decode cX1_interval 45 = .ok (.aload_n 3, 1) := dk_45 (dk_at dksX1_interval_2 5 rfl rfl)
theorem dX1_interval_46 : decode cX1_interval 46 = .ok (.getfield 255, 3) := dk_180 0 255 (dk_at dksX1_interval_2 6 rfl rfl)
theorem dX1_interval_49 : decode cX1_interval 49 = .ok (.ireturn, 1) := dk_172 (dk_at dksX1_interval_2 9 rfl rfl)
theorem dX1_interval_50 : decode cX1_interval 50 = .ok (.aload_n 3, 1) := dk_45 (dk_at dksX1_interval_2 10 rfl rfl)
theorem dX1_interval_51 : decode cX1_interval 51 = .ok (.getfield 258, 3) := dk_180 1 2 (dk_at dksX1_interval_2 11 rfl rfl)
theorem dX1_interval_54 : decode cX1_interval 54 = .ok (.ireturn, 1) := dk_172 (dk_at dksX1_interval_2 14 rfl rfl)
theorem dX1_interval_55 : decode cX1_interval 55 = .ok (.new 138, 3) := dk_187 0 138 (dk_at dksX1_interval_2 15 rfl rfl)
theorem dX1_interval_58 : decode cX1_interval 58 = .ok (.dup, 1) := dk_89 (dk_at dksX1_interval_2 18 rfl rfl)
theorem dX1_interval_59 : decode cX1_interval 59 = .ok (.invokespecial 140, 3) := dk_183 0 140 (dk_at dksX1_interval_2 19 rfl rfl)
theorem dX1_interval_62 : decode cX1_interval 62 = .ok (.athrow, 1) := dk_191 (dk_at dksX1_interval_2 22 rfl rfl)
abbrev cX1_bisect : ByteArray := prog_1_method_51_code
def yX1_bisect : MethodName := ⟨RX1, "bisect", "(I)I"⟩
def dkwX1_bisect_10 : List UInt8 := [172]
abbrev dktX1_bisect_10 : List UInt8 := dkwX1_bisect_10 ++ []
def dkwX1_bisect_9 : List UInt8 := [180, 0, 248, 21, 7, 100, 21, 5, 100, 183, 0, 241, 185, 1, 22, 2, 0, 42, 180, 0, 16, 182, 0, 121]
abbrev dktX1_bisect_9 : List UInt8 := dkwX1_bisect_9 ++ dktX1_bisect_10
def dkwX1_bisect_8 : List UInt8 := [183, 0, 241, 185, 1, 22, 2, 0, 25, 8, 187, 0, 239, 89, 29, 21, 4, 5, 44, 180, 1, 2, 104, 44]
abbrev dktX1_bisect_8 : List UInt8 := dkwX1_bisect_8 ++ dktX1_bisect_9
def dkwX1_bisect_7 : List UInt8 := [185, 1, 19, 2, 0, 21, 5, 4, 160, 0, 23, 25, 8, 187, 0, 239, 89, 29, 21, 4, 21, 4, 4]
abbrev dktX1_bisect_7 : List UInt8 := dkwX1_bisect_7 ++ dktX1_bisect_8
def dkwX1_bisect_6 : List UInt8 := [167, 255, 236, 25, 8, 187, 0, 239, 89, 29, 5, 44, 180, 0, 255, 104, 21, 4, 21, 7, 183, 0, 241]
abbrev dktX1_bisect_6 : List UInt8 := dkwX1_bisect_6 ++ dktX1_bisect_7
def dkwX1_bisect_5 : List UInt8 := [3, 54, 9, 21, 9, 27, 163, 0, 20, 25, 8, 185, 1, 16, 1, 0, 192, 0, 239, 77, 132, 9, 1]
abbrev dktX1_bisect_5 : List UInt8 := dkwX1_bisect_5 ++ dktX1_bisect_6
def dkwX1_bisect_4 : List UInt8 := [25, 6, 21, 4, 133, 29, 184, 0, 214, 100, 21, 5, 100, 54, 7, 42, 180, 0, 16, 182, 1, 12, 58, 8]
abbrev dktX1_bisect_4 : List UInt8 := dkwX1_bisect_4 ++ dktX1_bisect_5
def dkwX1_bisect_3 : List UInt8 := [42, 180, 0, 235, 182, 1, 9, 58, 6, 25, 6, 44, 180, 0, 255, 133, 44, 180, 0, 252, 184, 0, 214]
abbrev dktX1_bisect_3 : List UInt8 := dkwX1_bisect_3 ++ dktX1_bisect_4
def dkwX1_bisect_2 : List UInt8 := [180, 1, 2, 96, 54, 4, 42, 21, 4, 133, 29, 182, 1, 5, 153, 0, 7, 4, 167, 0, 4, 3, 54, 5]
abbrev dktX1_bisect_2 : List UInt8 := dkwX1_bisect_2 ++ dktX1_bisect_3
def dkwX1_bisect_1 : List UInt8 := [160, 0, 11, 187, 0, 157, 89, 183, 0, 159, 191, 44, 180, 0, 252, 4, 96, 62, 44, 180, 0, 255, 44]
abbrev dktX1_bisect_1 : List UInt8 := dkwX1_bisect_1 ++ dktX1_bisect_2
def dkwX1_bisect_0 : List UInt8 := [42, 27, 182, 0, 244, 77, 44, 180, 0, 255, 44, 180, 1, 2, 159, 0, 12, 44, 180, 0, 252, 16, 12]
abbrev dktX1_bisect_0 : List UInt8 := dkwX1_bisect_0 ++ dktX1_bisect_1
theorem dksX1_bisect_0 : cX1_bisect.data.toList.drop 0 = dktX1_bisect_0 := by decide +kernel
theorem dksX1_bisect_1 : cX1_bisect.data.toList.drop 23 = dktX1_bisect_1 := dk_seg dksX1_bisect_0 23 rfl rfl
theorem dksX1_bisect_2 : cX1_bisect.data.toList.drop 46 = dktX1_bisect_2 := dk_seg dksX1_bisect_1 23 rfl rfl
theorem dksX1_bisect_3 : cX1_bisect.data.toList.drop 70 = dktX1_bisect_3 := dk_seg dksX1_bisect_2 24 rfl rfl
theorem dksX1_bisect_4 : cX1_bisect.data.toList.drop 93 = dktX1_bisect_4 := dk_seg dksX1_bisect_3 23 rfl rfl
theorem dksX1_bisect_5 : cX1_bisect.data.toList.drop 117 = dktX1_bisect_5 := dk_seg dksX1_bisect_4 24 rfl rfl
theorem dksX1_bisect_6 : cX1_bisect.data.toList.drop 140 = dktX1_bisect_6 := dk_seg dksX1_bisect_5 23 rfl rfl
theorem dksX1_bisect_7 : cX1_bisect.data.toList.drop 163 = dktX1_bisect_7 := dk_seg dksX1_bisect_6 23 rfl rfl
theorem dksX1_bisect_8 : cX1_bisect.data.toList.drop 186 = dktX1_bisect_8 := dk_seg dksX1_bisect_7 23 rfl rfl
theorem dksX1_bisect_9 : cX1_bisect.data.toList.drop 210 = dktX1_bisect_9 := dk_seg dksX1_bisect_8 24 rfl rfl
theorem dksX1_bisect_10 : cX1_bisect.data.toList.drop 234 = dktX1_bisect_10 := dk_seg dksX1_bisect_9 24 rfl rfl
theorem dX1_bisect_0 : decode cX1_bisect 0 = .ok (.aload_n 0, 1) := dk_42 (dk_at dksX1_bisect_0 0 rfl rfl)
theorem dX1_bisect_1 : decode cX1_bisect 1 = .ok (.iload_n 1, 1) := dk_27 (dk_at dksX1_bisect_0 1 rfl rfl)
theorem dX1_bisect_2 : decode cX1_bisect 2 = .ok (.invokevirtual 244, 3) := dk_182 0 244 (dk_at dksX1_bisect_0 2 rfl rfl)
theorem dX1_bisect_5 : decode cX1_bisect 5 = .ok (.astore_n 2, 1) := dk_77 (dk_at dksX1_bisect_0 5 rfl rfl)
theorem dX1_bisect_6 : decode cX1_bisect 6 = .ok (.aload_n 2, 1) := dk_44 (dk_at dksX1_bisect_0 6 rfl rfl)
theorem dX1_bisect_7 : decode cX1_bisect 7 = .ok (.getfield 255, 3) := dk_180 0 255 (dk_at dksX1_bisect_0 7 rfl rfl)
theorem dX1_bisect_10 : decode cX1_bisect 10 = .ok (.aload_n 2, 1) := dk_44 (dk_at dksX1_bisect_0 10 rfl rfl)
theorem dX1_bisect_11 : decode cX1_bisect 11 = .ok (.getfield 258, 3) := dk_180 1 2 (dk_at dksX1_bisect_0 11 rfl rfl)
theorem dX1_bisect_14 : decode cX1_bisect 14 = .ok (.if_icmp .eq 12, 3) := dk_159 0 12 (dk_at dksX1_bisect_0 14 rfl rfl)
theorem dX1_bisect_17 : decode cX1_bisect 17 = .ok (.aload_n 2, 1) := dk_44 (dk_at dksX1_bisect_0 17 rfl rfl)
theorem dX1_bisect_18 : decode cX1_bisect 18 = .ok (.getfield 252, 3) := dk_180 0 252 (dk_at dksX1_bisect_0 18 rfl rfl)
theorem dX1_bisect_21 : decode cX1_bisect 21 = .ok (.bipush 12, 2) := dk_16 12 (dk_at dksX1_bisect_0 21 rfl rfl)
theorem dX1_bisect_23 : decode cX1_bisect 23 = .ok (.if_icmp .ne 11, 3) := dk_160 0 11 (dk_at dksX1_bisect_1 0 rfl rfl)
theorem dX1_bisect_26 : decode cX1_bisect 26 = .ok (.new 157, 3) := dk_187 0 157 (dk_at dksX1_bisect_1 3 rfl rfl)
theorem dX1_bisect_29 : decode cX1_bisect 29 = .ok (.dup, 1) := dk_89 (dk_at dksX1_bisect_1 6 rfl rfl)
theorem dX1_bisect_30 : decode cX1_bisect 30 = .ok (.invokespecial 159, 3) := dk_183 0 159 (dk_at dksX1_bisect_1 7 rfl rfl)
theorem dX1_bisect_33 : decode cX1_bisect 33 = .ok (.athrow, 1) := dk_191 (dk_at dksX1_bisect_1 10 rfl rfl)
theorem dX1_bisect_34 : decode cX1_bisect 34 = .ok (.aload_n 2, 1) := dk_44 (dk_at dksX1_bisect_1 11 rfl rfl)
theorem dX1_bisect_35 : decode cX1_bisect 35 = .ok (.getfield 252, 3) := dk_180 0 252 (dk_at dksX1_bisect_1 12 rfl rfl)
theorem dX1_bisect_38 : decode cX1_bisect 38 = .ok (.iconst 1, 1) := dk_4 (dk_at dksX1_bisect_1 15 rfl rfl)
theorem dX1_bisect_39 : decode cX1_bisect 39 = .ok (.iadd, 1) := dk_96 (dk_at dksX1_bisect_1 16 rfl rfl)
theorem dX1_bisect_40 : decode cX1_bisect 40 = .ok (.istore_n 3, 1) := dk_62 (dk_at dksX1_bisect_1 17 rfl rfl)
theorem dX1_bisect_41 : decode cX1_bisect 41 = .ok (.aload_n 2, 1) := dk_44 (dk_at dksX1_bisect_1 18 rfl rfl)
theorem dX1_bisect_42 : decode cX1_bisect 42 = .ok (.getfield 255, 3) := dk_180 0 255 (dk_at dksX1_bisect_1 19 rfl rfl)
theorem dX1_bisect_45 : decode cX1_bisect 45 = .ok (.aload_n 2, 1) := dk_44 (dk_at dksX1_bisect_1 22 rfl rfl)
theorem dX1_bisect_46 : decode cX1_bisect 46 = .ok (.getfield 258, 3) := dk_180 1 2 (dk_at dksX1_bisect_2 0 rfl rfl)
theorem dX1_bisect_49 : decode cX1_bisect 49 = .ok (.iadd, 1) := dk_96 (dk_at dksX1_bisect_2 3 rfl rfl)
theorem dX1_bisect_50 : decode cX1_bisect 50 = .ok (.istore 4, 2) := dk_54 4 (dk_at dksX1_bisect_2 4 rfl rfl)
theorem dX1_bisect_52 : decode cX1_bisect 52 = .ok (.aload_n 0, 1) := dk_42 (dk_at dksX1_bisect_2 6 rfl rfl)
theorem dX1_bisect_53 : decode cX1_bisect 53 = .ok (.iload 4, 2) := dk_21 4 (dk_at dksX1_bisect_2 7 rfl rfl)
theorem dX1_bisect_55 : decode cX1_bisect 55 = .ok (.i2l, 1) := dk_133 (dk_at dksX1_bisect_2 9 rfl rfl)
theorem dX1_bisect_56 : decode cX1_bisect 56 = .ok (.iload_n 3, 1) := dk_29 (dk_at dksX1_bisect_2 10 rfl rfl)
theorem dX1_bisect_57 : decode cX1_bisect 57 = .ok (.invokevirtual 261, 3) := dk_182 1 5 (dk_at dksX1_bisect_2 11 rfl rfl)
theorem dX1_bisect_60 : decode cX1_bisect 60 = .ok (.ifCond .eq 7, 3) := dk_153 0 7 (dk_at dksX1_bisect_2 14 rfl rfl)
theorem dX1_bisect_63 : decode cX1_bisect 63 = .ok (.iconst 1, 1) := dk_4 (dk_at dksX1_bisect_2 17 rfl rfl)
theorem dX1_bisect_64 : decode cX1_bisect 64 = .ok (.goto 4, 3) := dk_167 0 4 (dk_at dksX1_bisect_2 18 rfl rfl)
theorem dX1_bisect_67 : decode cX1_bisect 67 = .ok (.iconst 0, 1) := dk_3 (dk_at dksX1_bisect_2 21 rfl rfl)
theorem dX1_bisect_68 : decode cX1_bisect 68 = .ok (.istore 5, 2) := dk_54 5 (dk_at dksX1_bisect_2 22 rfl rfl)
theorem dX1_bisect_70 : decode cX1_bisect 70 = .ok (.aload_n 0, 1) := dk_42 (dk_at dksX1_bisect_3 0 rfl rfl)
theorem dX1_bisect_71 : decode cX1_bisect 71 = .ok (.getfield 235, 3) := dk_180 0 235 (dk_at dksX1_bisect_3 1 rfl rfl)
theorem dX1_bisect_74 : decode cX1_bisect 74 = .ok (.invokevirtual 265, 3) := dk_182 1 9 (dk_at dksX1_bisect_3 4 rfl rfl)
theorem dX1_bisect_77 : decode cX1_bisect 77 = .ok (.astore 6, 2) := dk_58 6 (dk_at dksX1_bisect_3 7 rfl rfl)
theorem dX1_bisect_79 : decode cX1_bisect 79 = .ok (.aload 6, 2) := dk_25 6 (dk_at dksX1_bisect_3 9 rfl rfl)
theorem dX1_bisect_81 : decode cX1_bisect 81 = .ok (.aload_n 2, 1) := dk_44 (dk_at dksX1_bisect_3 11 rfl rfl)
theorem dX1_bisect_82 : decode cX1_bisect 82 = .ok (.getfield 255, 3) := dk_180 0 255 (dk_at dksX1_bisect_3 12 rfl rfl)
theorem dX1_bisect_85 : decode cX1_bisect 85 = .ok (.i2l, 1) := dk_133 (dk_at dksX1_bisect_3 15 rfl rfl)
theorem dX1_bisect_86 : decode cX1_bisect 86 = .ok (.aload_n 2, 1) := dk_44 (dk_at dksX1_bisect_3 16 rfl rfl)
theorem dX1_bisect_87 : decode cX1_bisect 87 = .ok (.getfield 252, 3) := dk_180 0 252 (dk_at dksX1_bisect_3 17 rfl rfl)
theorem dX1_bisect_90 : decode cX1_bisect 90 = .ok (.invokestatic 214, 3) := dk_184 0 214 (dk_at dksX1_bisect_3 20 rfl rfl)
theorem dX1_bisect_93 : decode cX1_bisect 93 = .ok (.aload 6, 2) := dk_25 6 (dk_at dksX1_bisect_4 0 rfl rfl)
theorem dX1_bisect_95 : decode cX1_bisect 95 = .ok (.iload 4, 2) := dk_21 4 (dk_at dksX1_bisect_4 2 rfl rfl)
theorem dX1_bisect_97 : decode cX1_bisect 97 = .ok (.i2l, 1) := dk_133 (dk_at dksX1_bisect_4 4 rfl rfl)
theorem dX1_bisect_98 : decode cX1_bisect 98 = .ok (.iload_n 3, 1) := dk_29 (dk_at dksX1_bisect_4 5 rfl rfl)
theorem dX1_bisect_99 : decode cX1_bisect 99 = .ok (.invokestatic 214, 3) := dk_184 0 214 (dk_at dksX1_bisect_4 6 rfl rfl)
theorem dX1_bisect_102 : decode cX1_bisect 102 = .ok (.isub, 1) := dk_100 (dk_at dksX1_bisect_4 9 rfl rfl)
theorem dX1_bisect_103 : decode cX1_bisect 103 = .ok (.iload 5, 2) := dk_21 5 (dk_at dksX1_bisect_4 10 rfl rfl)
theorem dX1_bisect_105 : decode cX1_bisect 105 = .ok (.isub, 1) := dk_100 (dk_at dksX1_bisect_4 12 rfl rfl)
theorem dX1_bisect_106 : decode cX1_bisect 106 = .ok (.istore 7, 2) := dk_54 7 (dk_at dksX1_bisect_4 13 rfl rfl)
theorem dX1_bisect_108 : decode cX1_bisect 108 = .ok (.aload_n 0, 1) := dk_42 (dk_at dksX1_bisect_4 15 rfl rfl)
theorem dX1_bisect_109 : decode cX1_bisect 109 = .ok (.getfield 16, 3) := dk_180 0 16 (dk_at dksX1_bisect_4 16 rfl rfl)
theorem dX1_bisect_112 : decode cX1_bisect 112 = .ok (.invokevirtual 268, 3) := dk_182 1 12 (dk_at dksX1_bisect_4 19 rfl rfl)
theorem dX1_bisect_115 : decode cX1_bisect 115 = .ok (.astore 8, 2) := dk_58 8 (dk_at dksX1_bisect_4 22 rfl rfl)
theorem dX1_bisect_117 : decode cX1_bisect 117 = .ok (.iconst 0, 1) := dk_3 (dk_at dksX1_bisect_5 0 rfl rfl)
theorem dX1_bisect_118 : decode cX1_bisect 118 = .ok (.istore 9, 2) := dk_54 9 (dk_at dksX1_bisect_5 1 rfl rfl)
theorem dX1_bisect_120 : decode cX1_bisect 120 = .ok (.iload 9, 2) := dk_21 9 (dk_at dksX1_bisect_5 3 rfl rfl)
theorem dX1_bisect_122 : decode cX1_bisect 122 = .ok (.iload_n 1, 1) := dk_27 (dk_at dksX1_bisect_5 5 rfl rfl)
theorem dX1_bisect_123 : decode cX1_bisect 123 = .ok (.if_icmp .gt 20, 3) := dk_163 0 20 (dk_at dksX1_bisect_5 6 rfl rfl)
theorem dX1_bisect_126 : decode cX1_bisect 126 = .ok (.aload 8, 2) := dk_25 8 (dk_at dksX1_bisect_5 9 rfl rfl)
theorem dX1_bisect_128 : decode cX1_bisect 128 = .ok (.invokeinterface 272 1, 5) := by decide +kernel
theorem dX1_bisect_133 : decode cX1_bisect 133 = .ok (.checkcast 239, 3) := dk_192 0 239 (dk_at dksX1_bisect_5 16 rfl rfl)
theorem dX1_bisect_136 : decode cX1_bisect 136 = .ok (.astore_n 2, 1) := dk_77 (dk_at dksX1_bisect_5 19 rfl rfl)
theorem dX1_bisect_137 : decode cX1_bisect 137 = .ok (.iinc 9 1, 3) := dk_132 9 1 (dk_at dksX1_bisect_5 20 rfl rfl)
theorem dX1_bisect_140 : decode cX1_bisect 140 = .ok (.goto (-20), 3) := dk_167 255 236 (dk_at dksX1_bisect_6 0 rfl rfl)
theorem dX1_bisect_143 : decode cX1_bisect 143 = .ok (.aload 8, 2) := dk_25 8 (dk_at dksX1_bisect_6 3 rfl rfl)
theorem dX1_bisect_145 : decode cX1_bisect 145 = .ok (.new 239, 3) := dk_187 0 239 (dk_at dksX1_bisect_6 5 rfl rfl)
theorem dX1_bisect_148 : decode cX1_bisect 148 = .ok (.dup, 1) := dk_89 (dk_at dksX1_bisect_6 8 rfl rfl)
theorem dX1_bisect_149 : decode cX1_bisect 149 = .ok (.iload_n 3, 1) := dk_29 (dk_at dksX1_bisect_6 9 rfl rfl)
theorem dX1_bisect_150 : decode cX1_bisect 150 = .ok (.iconst 2, 1) := dk_5 (dk_at dksX1_bisect_6 10 rfl rfl)
theorem dX1_bisect_151 : decode cX1_bisect 151 = .ok (.aload_n 2, 1) := dk_44 (dk_at dksX1_bisect_6 11 rfl rfl)
theorem dX1_bisect_152 : decode cX1_bisect 152 = .ok (.getfield 255, 3) := dk_180 0 255 (dk_at dksX1_bisect_6 12 rfl rfl)
theorem dX1_bisect_155 : decode cX1_bisect 155 = .ok (.imul, 1) := dk_104 (dk_at dksX1_bisect_6 15 rfl rfl)
theorem dX1_bisect_156 : decode cX1_bisect 156 = .ok (.iload 4, 2) := dk_21 4 (dk_at dksX1_bisect_6 16 rfl rfl)
theorem dX1_bisect_158 : decode cX1_bisect 158 = .ok (.iload 7, 2) := dk_21 7 (dk_at dksX1_bisect_6 18 rfl rfl)
theorem dX1_bisect_160 : decode cX1_bisect 160 = .ok (.invokespecial 241, 3) := dk_183 0 241 (dk_at dksX1_bisect_6 20 rfl rfl)
theorem dX1_bisect_163 : decode cX1_bisect 163 = .ok (.invokeinterface 275 2, 5) := by decide +kernel
theorem dX1_bisect_168 : decode cX1_bisect 168 = .ok (.iload 5, 2) := dk_21 5 (dk_at dksX1_bisect_7 5 rfl rfl)
theorem dX1_bisect_170 : decode cX1_bisect 170 = .ok (.iconst 1, 1) := dk_4 (dk_at dksX1_bisect_7 7 rfl rfl)
theorem dX1_bisect_171 : decode cX1_bisect 171 = .ok (.if_icmp .ne 23, 3) := dk_160 0 23 (dk_at dksX1_bisect_7 8 rfl rfl)
theorem dX1_bisect_174 : decode cX1_bisect 174 = .ok (.aload 8, 2) := dk_25 8 (dk_at dksX1_bisect_7 11 rfl rfl)
theorem dX1_bisect_176 : decode cX1_bisect 176 = .ok (.new 239, 3) := dk_187 0 239 (dk_at dksX1_bisect_7 13 rfl rfl)
theorem dX1_bisect_179 : decode cX1_bisect 179 = .ok (.dup, 1) := dk_89 (dk_at dksX1_bisect_7 16 rfl rfl)
theorem dX1_bisect_180 : decode cX1_bisect 180 = .ok (.iload_n 3, 1) := dk_29 (dk_at dksX1_bisect_7 17 rfl rfl)
theorem dX1_bisect_181 : decode cX1_bisect 181 = .ok (.iload 4, 2) := dk_21 4 (dk_at dksX1_bisect_7 18 rfl rfl)
theorem dX1_bisect_183 : decode cX1_bisect 183 = .ok (.iload 4, 2) := dk_21 4 (dk_at dksX1_bisect_7 20 rfl rfl)
theorem dX1_bisect_185 : decode cX1_bisect 185 = .ok (.iconst 1, 1) := dk_4 (dk_at dksX1_bisect_7 22 rfl rfl)
theorem dX1_bisect_186 : decode cX1_bisect 186 = .ok (.invokespecial 241, 3) := dk_183 0 241 (dk_at dksX1_bisect_8 0 rfl rfl)
theorem dX1_bisect_189 : decode cX1_bisect 189 = .ok (.invokeinterface 278 2, 5) := by decide +kernel
theorem dX1_bisect_194 : decode cX1_bisect 194 = .ok (.aload 8, 2) := dk_25 8 (dk_at dksX1_bisect_8 8 rfl rfl)
theorem dX1_bisect_196 : decode cX1_bisect 196 = .ok (.new 239, 3) := dk_187 0 239 (dk_at dksX1_bisect_8 10 rfl rfl)
theorem dX1_bisect_199 : decode cX1_bisect 199 = .ok (.dup, 1) := dk_89 (dk_at dksX1_bisect_8 13 rfl rfl)
theorem dX1_bisect_200 : decode cX1_bisect 200 = .ok (.iload_n 3, 1) := dk_29 (dk_at dksX1_bisect_8 14 rfl rfl)
theorem dX1_bisect_201 : decode cX1_bisect 201 = .ok (.iload 4, 2) := dk_21 4 (dk_at dksX1_bisect_8 15 rfl rfl)
theorem dX1_bisect_203 : decode cX1_bisect 203 = .ok (.iconst 2, 1) := dk_5 (dk_at dksX1_bisect_8 17 rfl rfl)
theorem dX1_bisect_204 : decode cX1_bisect 204 = .ok (.aload_n 2, 1) := dk_44 (dk_at dksX1_bisect_8 18 rfl rfl)
theorem dX1_bisect_205 : decode cX1_bisect 205 = .ok (.getfield 258, 3) := dk_180 1 2 (dk_at dksX1_bisect_8 19 rfl rfl)
theorem dX1_bisect_208 : decode cX1_bisect 208 = .ok (.imul, 1) := dk_104 (dk_at dksX1_bisect_8 22 rfl rfl)
theorem dX1_bisect_209 : decode cX1_bisect 209 = .ok (.aload_n 2, 1) := dk_44 (dk_at dksX1_bisect_8 23 rfl rfl)
theorem dX1_bisect_210 : decode cX1_bisect 210 = .ok (.getfield 248, 3) := dk_180 0 248 (dk_at dksX1_bisect_9 0 rfl rfl)
theorem dX1_bisect_213 : decode cX1_bisect 213 = .ok (.iload 7, 2) := dk_21 7 (dk_at dksX1_bisect_9 3 rfl rfl)
theorem dX1_bisect_215 : decode cX1_bisect 215 = .ok (.isub, 1) := dk_100 (dk_at dksX1_bisect_9 5 rfl rfl)
theorem dX1_bisect_216 : decode cX1_bisect 216 = .ok (.iload 5, 2) := dk_21 5 (dk_at dksX1_bisect_9 6 rfl rfl)
theorem dX1_bisect_218 : decode cX1_bisect 218 = .ok (.isub, 1) := dk_100 (dk_at dksX1_bisect_9 8 rfl rfl)
theorem dX1_bisect_219 : decode cX1_bisect 219 = .ok (.invokespecial 241, 3) := dk_183 0 241 (dk_at dksX1_bisect_9 9 rfl rfl)
theorem dX1_bisect_222 : decode cX1_bisect 222 = .ok (.invokeinterface 278 2, 5) := by decide +kernel
theorem dX1_bisect_227 : decode cX1_bisect 227 = .ok (.aload_n 0, 1) := dk_42 (dk_at dksX1_bisect_9 17 rfl rfl)
theorem dX1_bisect_228 : decode cX1_bisect 228 = .ok (.getfield 16, 3) := dk_180 0 16 (dk_at dksX1_bisect_9 18 rfl rfl)
theorem dX1_bisect_231 : decode cX1_bisect 231 = .ok (.invokevirtual 121, 3) := dk_182 0 121 (dk_at dksX1_bisect_9 21 rfl rfl)
theorem dX1_bisect_234 : decode cX1_bisect 234 = .ok (.ireturn, 1) := dk_172 (dk_at dksX1_bisect_10 0 rfl rfl)
abbrev cX1_isRoot : ByteArray := prog_1_method_50_code
def yX1_isRoot : MethodName := ⟨RX1, "isRoot", "(JI)Z"⟩
def dkwX1_isRoot_0 : List UInt8 := [42, 180, 0, 235, 180, 0, 141, 31, 29, 184, 0, 129, 154, 0, 7, 4, 167, 0, 4, 3, 172]
abbrev dktX1_isRoot_0 : List UInt8 := dkwX1_isRoot_0 ++ []
theorem dksX1_isRoot_0 : cX1_isRoot.data.toList.drop 0 = dktX1_isRoot_0 := by decide +kernel
theorem dX1_isRoot_0 : decode cX1_isRoot 0 = .ok (.aload_n 0, 1) := dk_42 (dk_at dksX1_isRoot_0 0 rfl rfl)
theorem dX1_isRoot_1 : decode cX1_isRoot 1 = .ok (.getfield 235, 3) := dk_180 0 235 (dk_at dksX1_isRoot_0 1 rfl rfl)
theorem dX1_isRoot_4 : decode cX1_isRoot 4 = .ok (.getfield 141, 3) := dk_180 0 141 (dk_at dksX1_isRoot_0 4 rfl rfl)
theorem dX1_isRoot_7 : decode cX1_isRoot 7 = .ok (.lload_n 1, 1) := dk_31 (dk_at dksX1_isRoot_0 7 rfl rfl)
theorem dX1_isRoot_8 : decode cX1_isRoot 8 = .ok (.iload_n 3, 1) := dk_29 (dk_at dksX1_isRoot_0 8 rfl rfl)
theorem dX1_isRoot_9 : decode cX1_isRoot 9 = .ok (.invokestatic 129, 3) := dk_184 0 129 (dk_at dksX1_isRoot_0 9 rfl rfl)
theorem dX1_isRoot_12 : decode cX1_isRoot 12 = .ok (.ifCond .ne 7, 3) := dk_154 0 7 (dk_at dksX1_isRoot_0 12 rfl rfl)
theorem dX1_isRoot_15 : decode cX1_isRoot 15 = .ok (.iconst 1, 1) := dk_4 (dk_at dksX1_isRoot_0 15 rfl rfl)
theorem dX1_isRoot_16 : decode cX1_isRoot 16 = .ok (.goto 4, 3) := dk_167 0 4 (dk_at dksX1_isRoot_0 16 rfl rfl)
theorem dX1_isRoot_19 : decode cX1_isRoot 19 = .ok (.iconst 0, 1) := dk_3 (dk_at dksX1_isRoot_0 19 rfl rfl)
theorem dX1_isRoot_20 : decode cX1_isRoot 20 = .ok (.ireturn, 1) := dk_172 (dk_at dksX1_isRoot_0 20 rfl rfl)
abbrev cX1_refine : ByteArray := prog_1_method_52_code
def yX1_refine : MethodName := ⟨RX1, "refine", "(II)I"⟩
def dkwX1_refine_11 : List UInt8 := [180, 0, 252, 172]
abbrev dktX1_refine_11 : List UInt8 := dkwX1_refine_11 ++ []
def dkwX1_refine_10 : List UInt8 := [167, 0, 5, 21, 9, 54, 5, 132, 6, 1, 167, 255, 104, 42, 180, 0, 16, 27, 45, 182, 0, 100, 87, 45]
abbrev dktX1_refine_10 : List UInt8 := dkwX1_refine_10 ++ dktX1_refine_11
def dkwX1_refine_9 : List UInt8 := [21, 8, 167, 0, 9, 5, 45, 180, 1, 2, 104, 4, 183, 0, 241, 78, 21, 10, 153, 0, 8, 21, 5]
abbrev dktX1_refine_9 : List UInt8 := dkwX1_refine_9 ++ dktX1_refine_10
def dkwX1_refine_8 : List UInt8 := [89, 21, 7, 21, 10, 153, 0, 12, 5, 45, 180, 0, 255, 104, 167, 0, 5, 21, 8, 21, 10, 153, 0, 8]
abbrev dktX1_refine_8 : List UInt8 := dkwX1_refine_8 ++ dktX1_refine_9
def dkwX1_refine_7 : List UInt8 := [21, 7, 184, 0, 214, 54, 9, 21, 5, 21, 9, 164, 0, 7, 4, 167, 0, 4, 3, 54, 10, 187, 0, 239]
abbrev dktX1_refine_7 : List UInt8 := dkwX1_refine_7 ++ dktX1_refine_8
def dkwX1_refine_6 : List UInt8 := [187, 0, 239, 89, 21, 7, 21, 8, 21, 8, 4, 183, 0, 241, 78, 167, 0, 86, 25, 4, 21, 8, 133]
abbrev dktX1_refine_6 : List UInt8 := dkwX1_refine_6 ++ dktX1_refine_7
def dkwX1_refine_5 : List UInt8 := [180, 0, 255, 45, 180, 1, 2, 96, 54, 8, 42, 21, 8, 133, 21, 7, 182, 1, 5, 153, 0, 21]
abbrev dktX1_refine_5 : List UInt8 := dkwX1_refine_5 ++ dktX1_refine_6
def dkwX1_refine_4 : List UInt8 := [162, 0, 152, 45, 180, 0, 255, 45, 180, 1, 2, 162, 0, 141, 45, 180, 0, 252, 4, 96, 54, 7, 45]
abbrev dktX1_refine_4 : List UInt8 := dkwX1_refine_4 ++ dktX1_refine_5
def dkwX1_refine_3 : List UInt8 := [25, 4, 45, 180, 0, 255, 133, 45, 180, 0, 252, 184, 0, 214, 54, 5, 3, 54, 6, 21, 6, 28]
abbrev dktX1_refine_3 : List UInt8 := dkwX1_refine_3 ++ dktX1_refine_4
def dkwX1_refine_2 : List UInt8 := [28, 96, 16, 12, 164, 0, 11, 187, 0, 157, 89, 183, 0, 159, 191, 42, 180, 0, 235, 182, 1, 9, 58, 4]
abbrev dktX1_refine_2 : List UInt8 := dkwX1_refine_2 ++ dktX1_refine_3
def dkwX1_refine_1 : List UInt8 := [191, 45, 180, 0, 248, 4, 160, 0, 25, 45, 180, 0, 255, 45, 180, 1, 2, 159, 0, 14, 45, 180, 0, 252]
abbrev dktX1_refine_1 : List UInt8 := dkwX1_refine_1 ++ dktX1_refine_2
def dkwX1_refine_0 : List UInt8 := [42, 27, 182, 0, 244, 78, 28, 4, 161, 0, 9, 28, 16, 6, 164, 0, 11, 187, 0, 138, 89, 183, 0, 140]
abbrev dktX1_refine_0 : List UInt8 := dkwX1_refine_0 ++ dktX1_refine_1
theorem dksX1_refine_0 : cX1_refine.data.toList.drop 0 = dktX1_refine_0 := by decide +kernel
theorem dksX1_refine_1 : cX1_refine.data.toList.drop 24 = dktX1_refine_1 := dk_seg dksX1_refine_0 24 rfl rfl
theorem dksX1_refine_2 : cX1_refine.data.toList.drop 48 = dktX1_refine_2 := dk_seg dksX1_refine_1 24 rfl rfl
theorem dksX1_refine_3 : cX1_refine.data.toList.drop 72 = dktX1_refine_3 := dk_seg dksX1_refine_2 24 rfl rfl
theorem dksX1_refine_4 : cX1_refine.data.toList.drop 94 = dktX1_refine_4 := dk_seg dksX1_refine_3 22 rfl rfl
theorem dksX1_refine_5 : cX1_refine.data.toList.drop 117 = dktX1_refine_5 := dk_seg dksX1_refine_4 23 rfl rfl
theorem dksX1_refine_6 : cX1_refine.data.toList.drop 139 = dktX1_refine_6 := dk_seg dksX1_refine_5 22 rfl rfl
theorem dksX1_refine_7 : cX1_refine.data.toList.drop 162 = dktX1_refine_7 := dk_seg dksX1_refine_6 23 rfl rfl
theorem dksX1_refine_8 : cX1_refine.data.toList.drop 186 = dktX1_refine_8 := dk_seg dksX1_refine_7 24 rfl rfl
theorem dksX1_refine_9 : cX1_refine.data.toList.drop 210 = dktX1_refine_9 := dk_seg dksX1_refine_8 24 rfl rfl
theorem dksX1_refine_10 : cX1_refine.data.toList.drop 233 = dktX1_refine_10 := dk_seg dksX1_refine_9 23 rfl rfl
theorem dksX1_refine_11 : cX1_refine.data.toList.drop 257 = dktX1_refine_11 := dk_seg dksX1_refine_10 24 rfl rfl
theorem dX1_refine_0 : decode cX1_refine 0 = .ok (.aload_n 0, 1) := dk_42 (dk_at dksX1_refine_0 0 rfl rfl)
theorem dX1_refine_1 : decode cX1_refine 1 = .ok (.iload_n 1, 1) := dk_27 (dk_at dksX1_refine_0 1 rfl rfl)
theorem dX1_refine_2 : decode cX1_refine 2 = .ok (.invokevirtual 244, 3) := dk_182 0 244 (dk_at dksX1_refine_0 2 rfl rfl)
theorem dX1_refine_5 : decode cX1_refine 5 = .ok (.astore_n 3, 1) := dk_78 (dk_at dksX1_refine_0 5 rfl rfl)
theorem dX1_refine_6 : decode cX1_refine 6 = .ok (.iload_n 2, 1) := dk_28 (dk_at dksX1_refine_0 6 rfl rfl)
theorem dX1_refine_7 : decode cX1_refine 7 = .ok (.iconst 1, 1) := dk_4 (dk_at dksX1_refine_0 7 rfl rfl)
theorem dX1_refine_8 : decode cX1_refine 8 = .ok (.if_icmp .lt 9, 3) := dk_161 0 9 (dk_at dksX1_refine_0 8 rfl rfl)
theorem dX1_refine_11 : decode cX1_refine 11 = .ok (.iload_n 2, 1) := dk_28 (dk_at dksX1_refine_0 11 rfl rfl)
theorem dX1_refine_12 : decode cX1_refine 12 = .ok (.bipush 6, 2) := dk_16 6 (dk_at dksX1_refine_0 12 rfl rfl)
theorem dX1_refine_14 : decode cX1_refine 14 = .ok (.if_icmp .le 11, 3) := dk_164 0 11 (dk_at dksX1_refine_0 14 rfl rfl)
theorem dX1_refine_17 : decode cX1_refine 17 = .ok (.new 138, 3) := dk_187 0 138 (dk_at dksX1_refine_0 17 rfl rfl)
theorem dX1_refine_20 : decode cX1_refine 20 = .ok (.dup, 1) := dk_89 (dk_at dksX1_refine_0 20 rfl rfl)
theorem dX1_refine_21 : decode cX1_refine 21 = .ok (.invokespecial 140, 3) := dk_183 0 140 (dk_at dksX1_refine_0 21 rfl rfl)
theorem dX1_refine_24 : decode cX1_refine 24 = .ok (.athrow, 1) := dk_191 (dk_at dksX1_refine_1 0 rfl rfl)
theorem dX1_refine_25 : decode cX1_refine 25 = .ok (.aload_n 3, 1) := dk_45 (dk_at dksX1_refine_1 1 rfl rfl)
theorem dX1_refine_26 : decode cX1_refine 26 = .ok (.getfield 248, 3) := dk_180 0 248 (dk_at dksX1_refine_1 2 rfl rfl)
theorem dX1_refine_29 : decode cX1_refine 29 = .ok (.iconst 1, 1) := dk_4 (dk_at dksX1_refine_1 5 rfl rfl)
theorem dX1_refine_30 : decode cX1_refine 30 = .ok (.if_icmp .ne 25, 3) := dk_160 0 25 (dk_at dksX1_refine_1 6 rfl rfl)
theorem dX1_refine_33 : decode cX1_refine 33 = .ok (.aload_n 3, 1) := dk_45 (dk_at dksX1_refine_1 9 rfl rfl)
theorem dX1_refine_34 : decode cX1_refine 34 = .ok (.getfield 255, 3) := dk_180 0 255 (dk_at dksX1_refine_1 10 rfl rfl)
theorem dX1_refine_37 : decode cX1_refine 37 = .ok (.aload_n 3, 1) := dk_45 (dk_at dksX1_refine_1 13 rfl rfl)
theorem dX1_refine_38 : decode cX1_refine 38 = .ok (.getfield 258, 3) := dk_180 1 2 (dk_at dksX1_refine_1 14 rfl rfl)
theorem dX1_refine_41 : decode cX1_refine 41 = .ok (.if_icmp .eq 14, 3) := dk_159 0 14 (dk_at dksX1_refine_1 17 rfl rfl)
theorem dX1_refine_44 : decode cX1_refine 44 = .ok (.aload_n 3, 1) := dk_45 (dk_at dksX1_refine_1 20 rfl rfl)
theorem dX1_refine_45 : decode cX1_refine 45 = .ok (.getfield 252, 3) := dk_180 0 252 (dk_at dksX1_refine_1 21 rfl rfl)
theorem dX1_refine_48 : decode cX1_refine 48 = .ok (.iload_n 2, 1) := dk_28 (dk_at dksX1_refine_2 0 rfl rfl)
theorem dX1_refine_49 : decode cX1_refine 49 = .ok (.iadd, 1) := dk_96 (dk_at dksX1_refine_2 1 rfl rfl)
theorem dX1_refine_50 : decode cX1_refine 50 = .ok (.bipush 12, 2) := dk_16 12 (dk_at dksX1_refine_2 2 rfl rfl)
theorem dX1_refine_52 : decode cX1_refine 52 = .ok (.if_icmp .le 11, 3) := dk_164 0 11 (dk_at dksX1_refine_2 4 rfl rfl)
theorem dX1_refine_55 : decode cX1_refine 55 = .ok (.new 157, 3) := dk_187 0 157 (dk_at dksX1_refine_2 7 rfl rfl)
theorem dX1_refine_58 : decode cX1_refine 58 = .ok (.dup, 1) := dk_89 (dk_at dksX1_refine_2 10 rfl rfl)
theorem dX1_refine_59 : decode cX1_refine 59 = .ok (.invokespecial 159, 3) := dk_183 0 159 (dk_at dksX1_refine_2 11 rfl rfl)
theorem dX1_refine_62 : decode cX1_refine 62 = .ok (.athrow, 1) := dk_191 (dk_at dksX1_refine_2 14 rfl rfl)
theorem dX1_refine_63 : decode cX1_refine 63 = .ok (.aload_n 0, 1) := dk_42 (dk_at dksX1_refine_2 15 rfl rfl)
theorem dX1_refine_64 : decode cX1_refine 64 = .ok (.getfield 235, 3) := dk_180 0 235 (dk_at dksX1_refine_2 16 rfl rfl)
theorem dX1_refine_67 : decode cX1_refine 67 = .ok (.invokevirtual 265, 3) := dk_182 1 9 (dk_at dksX1_refine_2 19 rfl rfl)
theorem dX1_refine_70 : decode cX1_refine 70 = .ok (.astore 4, 2) := dk_58 4 (dk_at dksX1_refine_2 22 rfl rfl)
theorem dX1_refine_72 : decode cX1_refine 72 = .ok (.aload 4, 2) := dk_25 4 (dk_at dksX1_refine_3 0 rfl rfl)
theorem dX1_refine_74 : decode cX1_refine 74 = .ok (.aload_n 3, 1) := dk_45 (dk_at dksX1_refine_3 2 rfl rfl)
theorem dX1_refine_75 : decode cX1_refine 75 = .ok (.getfield 255, 3) := dk_180 0 255 (dk_at dksX1_refine_3 3 rfl rfl)
theorem dX1_refine_78 : decode cX1_refine 78 = .ok (.i2l, 1) := dk_133 (dk_at dksX1_refine_3 6 rfl rfl)
theorem dX1_refine_79 : decode cX1_refine 79 = .ok (.aload_n 3, 1) := dk_45 (dk_at dksX1_refine_3 7 rfl rfl)
theorem dX1_refine_80 : decode cX1_refine 80 = .ok (.getfield 252, 3) := dk_180 0 252 (dk_at dksX1_refine_3 8 rfl rfl)
theorem dX1_refine_83 : decode cX1_refine 83 = .ok (.invokestatic 214, 3) := dk_184 0 214 (dk_at dksX1_refine_3 11 rfl rfl)
theorem dX1_refine_86 : decode cX1_refine 86 = .ok (.istore 5, 2) := dk_54 5 (dk_at dksX1_refine_3 14 rfl rfl)
theorem dX1_refine_88 : decode cX1_refine 88 = .ok (.iconst 0, 1) := dk_3 (dk_at dksX1_refine_3 16 rfl rfl)
theorem dX1_refine_89 : decode cX1_refine 89 = .ok (.istore 6, 2) := dk_54 6 (dk_at dksX1_refine_3 17 rfl rfl)
theorem dX1_refine_91 : decode cX1_refine 91 = .ok (.iload 6, 2) := dk_21 6 (dk_at dksX1_refine_3 19 rfl rfl)
theorem dX1_refine_93 : decode cX1_refine 93 = .ok (.iload_n 2, 1) := dk_28 (dk_at dksX1_refine_3 21 rfl rfl)
theorem dX1_refine_94 : decode cX1_refine 94 = .ok (.if_icmp .ge 152, 3) := dk_162 0 152 (dk_at dksX1_refine_4 0 rfl rfl)
theorem dX1_refine_97 : decode cX1_refine 97 = .ok (.aload_n 3, 1) := dk_45 (dk_at dksX1_refine_4 3 rfl rfl)
theorem dX1_refine_98 : decode cX1_refine 98 = .ok (.getfield 255, 3) := dk_180 0 255 (dk_at dksX1_refine_4 4 rfl rfl)
theorem dX1_refine_101 : decode cX1_refine 101 = .ok (.aload_n 3, 1) := dk_45 (dk_at dksX1_refine_4 7 rfl rfl)
theorem dX1_refine_102 : decode cX1_refine 102 = .ok (.getfield 258, 3) := dk_180 1 2 (dk_at dksX1_refine_4 8 rfl rfl)
theorem dX1_refine_105 : decode cX1_refine 105 = .ok (.if_icmp .ge 141, 3) := dk_162 0 141 (dk_at dksX1_refine_4 11 rfl rfl)
theorem dX1_refine_108 : decode cX1_refine 108 = .ok (.aload_n 3, 1) := dk_45 (dk_at dksX1_refine_4 14 rfl rfl)
theorem dX1_refine_109 : decode cX1_refine 109 = .ok (.getfield 252, 3) := dk_180 0 252 (dk_at dksX1_refine_4 15 rfl rfl)
theorem dX1_refine_112 : decode cX1_refine 112 = .ok (.iconst 1, 1) := dk_4 (dk_at dksX1_refine_4 18 rfl rfl)
theorem dX1_refine_113 : decode cX1_refine 113 = .ok (.iadd, 1) := dk_96 (dk_at dksX1_refine_4 19 rfl rfl)
theorem dX1_refine_114 : decode cX1_refine 114 = .ok (.istore 7, 2) := dk_54 7 (dk_at dksX1_refine_4 20 rfl rfl)
theorem dX1_refine_116 : decode cX1_refine 116 = .ok (.aload_n 3, 1) := dk_45 (dk_at dksX1_refine_4 22 rfl rfl)
theorem dX1_refine_117 : decode cX1_refine 117 = .ok (.getfield 255, 3) := dk_180 0 255 (dk_at dksX1_refine_5 0 rfl rfl)
theorem dX1_refine_120 : decode cX1_refine 120 = .ok (.aload_n 3, 1) := dk_45 (dk_at dksX1_refine_5 3 rfl rfl)
theorem dX1_refine_121 : decode cX1_refine 121 = .ok (.getfield 258, 3) := dk_180 1 2 (dk_at dksX1_refine_5 4 rfl rfl)
theorem dX1_refine_124 : decode cX1_refine 124 = .ok (.iadd, 1) := dk_96 (dk_at dksX1_refine_5 7 rfl rfl)
theorem dX1_refine_125 : decode cX1_refine 125 = .ok (.istore 8, 2) := dk_54 8 (dk_at dksX1_refine_5 8 rfl rfl)
theorem dX1_refine_127 : decode cX1_refine 127 = .ok (.aload_n 0, 1) := dk_42 (dk_at dksX1_refine_5 10 rfl rfl)
theorem dX1_refine_128 : decode cX1_refine 128 = .ok (.iload 8, 2) := dk_21 8 (dk_at dksX1_refine_5 11 rfl rfl)
theorem dX1_refine_130 : decode cX1_refine 130 = .ok (.i2l, 1) := dk_133 (dk_at dksX1_refine_5 13 rfl rfl)
theorem dX1_refine_131 : decode cX1_refine 131 = .ok (.iload 7, 2) := dk_21 7 (dk_at dksX1_refine_5 14 rfl rfl)
theorem dX1_refine_133 : decode cX1_refine 133 = .ok (.invokevirtual 261, 3) := dk_182 1 5 (dk_at dksX1_refine_5 16 rfl rfl)
theorem dX1_refine_136 : decode cX1_refine 136 = .ok (.ifCond .eq 21, 3) := dk_153 0 21 (dk_at dksX1_refine_5 19 rfl rfl)
theorem dX1_refine_139 : decode cX1_refine 139 = .ok (.new 239, 3) := dk_187 0 239 (dk_at dksX1_refine_6 0 rfl rfl)
theorem dX1_refine_142 : decode cX1_refine 142 = .ok (.dup, 1) := dk_89 (dk_at dksX1_refine_6 3 rfl rfl)
theorem dX1_refine_143 : decode cX1_refine 143 = .ok (.iload 7, 2) := dk_21 7 (dk_at dksX1_refine_6 4 rfl rfl)
theorem dX1_refine_145 : decode cX1_refine 145 = .ok (.iload 8, 2) := dk_21 8 (dk_at dksX1_refine_6 6 rfl rfl)
theorem dX1_refine_147 : decode cX1_refine 147 = .ok (.iload 8, 2) := dk_21 8 (dk_at dksX1_refine_6 8 rfl rfl)
theorem dX1_refine_149 : decode cX1_refine 149 = .ok (.iconst 1, 1) := dk_4 (dk_at dksX1_refine_6 10 rfl rfl)
theorem dX1_refine_150 : decode cX1_refine 150 = .ok (.invokespecial 241, 3) := dk_183 0 241 (dk_at dksX1_refine_6 11 rfl rfl)
theorem dX1_refine_153 : decode cX1_refine 153 = .ok (.astore_n 3, 1) := dk_78 (dk_at dksX1_refine_6 14 rfl rfl)
theorem dX1_refine_154 : decode cX1_refine 154 = .ok (.goto 86, 3) := dk_167 0 86 (dk_at dksX1_refine_6 15 rfl rfl)
theorem dX1_refine_157 : decode cX1_refine 157 = .ok (.aload 4, 2) := dk_25 4 (dk_at dksX1_refine_6 18 rfl rfl)
theorem dX1_refine_159 : decode cX1_refine 159 = .ok (.iload 8, 2) := dk_21 8 (dk_at dksX1_refine_6 20 rfl rfl)
theorem dX1_refine_161 : decode cX1_refine 161 = .ok (.i2l, 1) := dk_133 (dk_at dksX1_refine_6 22 rfl rfl)
theorem dX1_refine_162 : decode cX1_refine 162 = .ok (.iload 7, 2) := dk_21 7 (dk_at dksX1_refine_7 0 rfl rfl)
theorem dX1_refine_164 : decode cX1_refine 164 = .ok (.invokestatic 214, 3) := dk_184 0 214 (dk_at dksX1_refine_7 2 rfl rfl)
theorem dX1_refine_167 : decode cX1_refine 167 = .ok (.istore 9, 2) := dk_54 9 (dk_at dksX1_refine_7 5 rfl rfl)
theorem dX1_refine_169 : decode cX1_refine 169 = .ok (.iload 5, 2) := dk_21 5 (dk_at dksX1_refine_7 7 rfl rfl)
theorem dX1_refine_171 : decode cX1_refine 171 = .ok (.iload 9, 2) := dk_21 9 (dk_at dksX1_refine_7 9 rfl rfl)
theorem dX1_refine_173 : decode cX1_refine 173 = .ok (.if_icmp .le 7, 3) := dk_164 0 7 (dk_at dksX1_refine_7 11 rfl rfl)
theorem dX1_refine_176 : decode cX1_refine 176 = .ok (.iconst 1, 1) := dk_4 (dk_at dksX1_refine_7 14 rfl rfl)
theorem dX1_refine_177 : decode cX1_refine 177 = .ok (.goto 4, 3) := dk_167 0 4 (dk_at dksX1_refine_7 15 rfl rfl)
theorem dX1_refine_180 : decode cX1_refine 180 = .ok (.iconst 0, 1) := dk_3 (dk_at dksX1_refine_7 18 rfl rfl)
theorem dX1_refine_181 : decode cX1_refine 181 = .ok (.istore 10, 2) := dk_54 10 (dk_at dksX1_refine_7 19 rfl rfl)
theorem dX1_refine_183 : decode cX1_refine 183 = .ok (.new 239, 3) := dk_187 0 239 (dk_at dksX1_refine_7 21 rfl rfl)
theorem dX1_refine_186 : decode cX1_refine 186 = .ok (.dup, 1) := dk_89 (dk_at dksX1_refine_8 0 rfl rfl)
theorem dX1_refine_187 : decode cX1_refine 187 = .ok (.iload 7, 2) := dk_21 7 (dk_at dksX1_refine_8 1 rfl rfl)
theorem dX1_refine_189 : decode cX1_refine 189 = .ok (.iload 10, 2) := dk_21 10 (dk_at dksX1_refine_8 3 rfl rfl)
theorem dX1_refine_191 : decode cX1_refine 191 = .ok (.ifCond .eq 12, 3) := dk_153 0 12 (dk_at dksX1_refine_8 5 rfl rfl)
theorem dX1_refine_194 : decode cX1_refine 194 = .ok (.iconst 2, 1) := dk_5 (dk_at dksX1_refine_8 8 rfl rfl)
theorem dX1_refine_195 : decode cX1_refine 195 = .ok (.aload_n 3, 1) := dk_45 (dk_at dksX1_refine_8 9 rfl rfl)
theorem dX1_refine_196 : decode cX1_refine 196 = .ok (.getfield 255, 3) := dk_180 0 255 (dk_at dksX1_refine_8 10 rfl rfl)
theorem dX1_refine_199 : decode cX1_refine 199 = .ok (.imul, 1) := dk_104 (dk_at dksX1_refine_8 13 rfl rfl)
theorem dX1_refine_200 : decode cX1_refine 200 = .ok (.goto 5, 3) := dk_167 0 5 (dk_at dksX1_refine_8 14 rfl rfl)
theorem dX1_refine_203 : decode cX1_refine 203 = .ok (.iload 8, 2) := dk_21 8 (dk_at dksX1_refine_8 17 rfl rfl)
theorem dX1_refine_205 : decode cX1_refine 205 = .ok (.iload 10, 2) := dk_21 10 (dk_at dksX1_refine_8 19 rfl rfl)
theorem dX1_refine_207 : decode cX1_refine 207 = .ok (.ifCond .eq 8, 3) := dk_153 0 8 (dk_at dksX1_refine_8 21 rfl rfl)
theorem dX1_refine_210 : decode cX1_refine 210 = .ok (.iload 8, 2) := dk_21 8 (dk_at dksX1_refine_9 0 rfl rfl)
theorem dX1_refine_212 : decode cX1_refine 212 = .ok (.goto 9, 3) := dk_167 0 9 (dk_at dksX1_refine_9 2 rfl rfl)
theorem dX1_refine_215 : decode cX1_refine 215 = .ok (.iconst 2, 1) := dk_5 (dk_at dksX1_refine_9 5 rfl rfl)
theorem dX1_refine_216 : decode cX1_refine 216 = .ok (.aload_n 3, 1) := dk_45 (dk_at dksX1_refine_9 6 rfl rfl)
theorem dX1_refine_217 : decode cX1_refine 217 = .ok (.getfield 258, 3) := dk_180 1 2 (dk_at dksX1_refine_9 7 rfl rfl)
theorem dX1_refine_220 : decode cX1_refine 220 = .ok (.imul, 1) := dk_104 (dk_at dksX1_refine_9 10 rfl rfl)
theorem dX1_refine_221 : decode cX1_refine 221 = .ok (.iconst 1, 1) := dk_4 (dk_at dksX1_refine_9 11 rfl rfl)
theorem dX1_refine_222 : decode cX1_refine 222 = .ok (.invokespecial 241, 3) := dk_183 0 241 (dk_at dksX1_refine_9 12 rfl rfl)
theorem dX1_refine_225 : decode cX1_refine 225 = .ok (.astore_n 3, 1) := dk_78 (dk_at dksX1_refine_9 15 rfl rfl)
theorem dX1_refine_226 : decode cX1_refine 226 = .ok (.iload 10, 2) := dk_21 10 (dk_at dksX1_refine_9 16 rfl rfl)
theorem dX1_refine_228 : decode cX1_refine 228 = .ok (.ifCond .eq 8, 3) := dk_153 0 8 (dk_at dksX1_refine_9 18 rfl rfl)
theorem dX1_refine_231 : decode cX1_refine 231 = .ok (.iload 5, 2) := dk_21 5 (dk_at dksX1_refine_9 21 rfl rfl)
theorem dX1_refine_233 : decode cX1_refine 233 = .ok (.goto 5, 3) := dk_167 0 5 (dk_at dksX1_refine_10 0 rfl rfl)
theorem dX1_refine_236 : decode cX1_refine 236 = .ok (.iload 9, 2) := dk_21 9 (dk_at dksX1_refine_10 3 rfl rfl)
theorem dX1_refine_238 : decode cX1_refine 238 = .ok (.istore 5, 2) := dk_54 5 (dk_at dksX1_refine_10 5 rfl rfl)
theorem dX1_refine_240 : decode cX1_refine 240 = .ok (.iinc 6 1, 3) := dk_132 6 1 (dk_at dksX1_refine_10 7 rfl rfl)
theorem dX1_refine_243 : decode cX1_refine 243 = .ok (.goto (-152), 3) := dk_167 255 104 (dk_at dksX1_refine_10 10 rfl rfl)
theorem dX1_refine_246 : decode cX1_refine 246 = .ok (.aload_n 0, 1) := dk_42 (dk_at dksX1_refine_10 13 rfl rfl)
theorem dX1_refine_247 : decode cX1_refine 247 = .ok (.getfield 16, 3) := dk_180 0 16 (dk_at dksX1_refine_10 14 rfl rfl)
theorem dX1_refine_250 : decode cX1_refine 250 = .ok (.iload_n 1, 1) := dk_27 (dk_at dksX1_refine_10 17 rfl rfl)
theorem dX1_refine_251 : decode cX1_refine 251 = .ok (.aload_n 3, 1) := dk_45 (dk_at dksX1_refine_10 18 rfl rfl)
theorem dX1_refine_252 : decode cX1_refine 252 = .ok (.invokevirtual 100, 3) := dk_182 0 100 (dk_at dksX1_refine_10 19 rfl rfl)
theorem dX1_refine_255 : decode cX1_refine 255 = .ok (.pop, 1) := dk_87 (dk_at dksX1_refine_10 22 rfl rfl)
theorem dX1_refine_256 : decode cX1_refine 256 = .ok (.aload_n 3, 1) := dk_45 (dk_at dksX1_refine_10 23 rfl rfl)
theorem dX1_refine_257 : decode cX1_refine 257 = .ok (.getfield 252, 3) := dk_180 0 252 (dk_at dksX1_refine_11 0 rfl rfl)
theorem dX1_refine_260 : decode cX1_refine 260 = .ok (.ireturn, 1) := dk_172 (dk_at dksX1_refine_11 3 rfl rfl)
abbrev cX1_multiplicity : ByteArray := prog_1_method_54_code
def yX1_multiplicity : MethodName := ⟨RX1, "multiplicity", "(I)I"⟩
def dkwX1_multiplicity_3 : List UInt8 := [183, 0, 26, 58, 4, 167, 255, 219, 29, 172]
abbrev dktX1_multiplicity_3 : List UInt8 := dkwX1_multiplicity_3 ++ []
def dkwX1_multiplicity_2 : List UInt8 := [158, 0, 32, 25, 4, 44, 184, 1, 27, 153, 0, 23, 132, 3, 1, 187, 0, 19, 89, 25, 4, 182, 0, 222]
abbrev dktX1_multiplicity_2 : List UInt8 := dkwX1_multiplicity_2 ++ dktX1_multiplicity_3
def dkwX1_multiplicity_1 : List UInt8 := [187, 0, 19, 89, 42, 180, 0, 235, 182, 0, 222, 183, 0, 26, 58, 4, 25, 4, 180, 0, 141, 182, 0, 60]
abbrev dktX1_multiplicity_1 : List UInt8 := dkwX1_multiplicity_1 ++ dktX1_multiplicity_2
def dkwX1_multiplicity_0 : List UInt8 := [42, 27, 182, 0, 244, 77, 44, 180, 0, 248, 4, 159, 0, 11, 187, 0, 157, 89, 183, 0, 159, 191, 4, 62]
abbrev dktX1_multiplicity_0 : List UInt8 := dkwX1_multiplicity_0 ++ dktX1_multiplicity_1
theorem dksX1_multiplicity_0 : cX1_multiplicity.data.toList.drop 0 = dktX1_multiplicity_0 := by decide +kernel
theorem dksX1_multiplicity_1 : cX1_multiplicity.data.toList.drop 24 = dktX1_multiplicity_1 := dk_seg dksX1_multiplicity_0 24 rfl rfl
theorem dksX1_multiplicity_2 : cX1_multiplicity.data.toList.drop 48 = dktX1_multiplicity_2 := dk_seg dksX1_multiplicity_1 24 rfl rfl
theorem dksX1_multiplicity_3 : cX1_multiplicity.data.toList.drop 72 = dktX1_multiplicity_3 := dk_seg dksX1_multiplicity_2 24 rfl rfl
theorem dX1_multiplicity_0 : decode cX1_multiplicity 0 = .ok (.aload_n 0, 1) := dk_42 (dk_at dksX1_multiplicity_0 0 rfl rfl)
theorem dX1_multiplicity_1 : decode cX1_multiplicity 1 = .ok (.iload_n 1, 1) := dk_27 (dk_at dksX1_multiplicity_0 1 rfl rfl)
theorem dX1_multiplicity_2 : decode cX1_multiplicity 2 = .ok (.invokevirtual 244, 3) := dk_182 0 244 (dk_at dksX1_multiplicity_0 2 rfl rfl)
theorem dX1_multiplicity_5 : decode cX1_multiplicity 5 = .ok (.astore_n 2, 1) := dk_77 (dk_at dksX1_multiplicity_0 5 rfl rfl)
theorem dX1_multiplicity_6 : decode cX1_multiplicity 6 = .ok (.aload_n 2, 1) := dk_44 (dk_at dksX1_multiplicity_0 6 rfl rfl)
theorem dX1_multiplicity_7 : decode cX1_multiplicity 7 = .ok (.getfield 248, 3) := dk_180 0 248 (dk_at dksX1_multiplicity_0 7 rfl rfl)
theorem dX1_multiplicity_10 : decode cX1_multiplicity 10 = .ok (.iconst 1, 1) := dk_4 (dk_at dksX1_multiplicity_0 10 rfl rfl)
theorem dX1_multiplicity_11 : decode cX1_multiplicity 11 = .ok (.if_icmp .eq 11, 3) := dk_159 0 11 (dk_at dksX1_multiplicity_0 11 rfl rfl)
theorem dX1_multiplicity_14 : decode cX1_multiplicity 14 = .ok (.new 157, 3) := dk_187 0 157 (dk_at dksX1_multiplicity_0 14 rfl rfl)
theorem dX1_multiplicity_17 : decode cX1_multiplicity 17 = .ok (.dup, 1) := dk_89 (dk_at dksX1_multiplicity_0 17 rfl rfl)
theorem dX1_multiplicity_18 : decode cX1_multiplicity 18 = .ok (.invokespecial 159, 3) := dk_183 0 159 (dk_at dksX1_multiplicity_0 18 rfl rfl)
theorem dX1_multiplicity_21 : decode cX1_multiplicity 21 = .ok (.athrow, 1) := dk_191 (dk_at dksX1_multiplicity_0 21 rfl rfl)
theorem dX1_multiplicity_22 : decode cX1_multiplicity 22 = .ok (.iconst 1, 1) := dk_4 (dk_at dksX1_multiplicity_0 22 rfl rfl)
theorem dX1_multiplicity_23 : decode cX1_multiplicity 23 = .ok (.istore_n 3, 1) := dk_62 (dk_at dksX1_multiplicity_0 23 rfl rfl)
theorem dX1_multiplicity_24 : decode cX1_multiplicity 24 = .ok (.new 19, 3) := dk_187 0 19 (dk_at dksX1_multiplicity_1 0 rfl rfl)
theorem dX1_multiplicity_27 : decode cX1_multiplicity 27 = .ok (.dup, 1) := dk_89 (dk_at dksX1_multiplicity_1 3 rfl rfl)
theorem dX1_multiplicity_28 : decode cX1_multiplicity 28 = .ok (.aload_n 0, 1) := dk_42 (dk_at dksX1_multiplicity_1 4 rfl rfl)
theorem dX1_multiplicity_29 : decode cX1_multiplicity 29 = .ok (.getfield 235, 3) := dk_180 0 235 (dk_at dksX1_multiplicity_1 5 rfl rfl)
theorem dX1_multiplicity_32 : decode cX1_multiplicity 32 = .ok (.invokevirtual 222, 3) := dk_182 0 222 (dk_at dksX1_multiplicity_1 8 rfl rfl)
theorem dX1_multiplicity_35 : decode cX1_multiplicity 35 = .ok (.invokespecial 26, 3) := dk_183 0 26 (dk_at dksX1_multiplicity_1 11 rfl rfl)
theorem dX1_multiplicity_38 : decode cX1_multiplicity 38 = .ok (.astore 4, 2) := dk_58 4 (dk_at dksX1_multiplicity_1 14 rfl rfl)
theorem dX1_multiplicity_40 : decode cX1_multiplicity 40 = .ok (.aload 4, 2) := dk_25 4 (dk_at dksX1_multiplicity_1 16 rfl rfl)
theorem dX1_multiplicity_42 : decode cX1_multiplicity 42 = .ok (.getfield 141, 3) := dk_180 0 141 (dk_at dksX1_multiplicity_1 18 rfl rfl)
theorem dX1_multiplicity_45 : decode cX1_multiplicity 45 = .ok (.invokevirtual 60, 3) := dk_182 0 60 (dk_at dksX1_multiplicity_1 21 rfl rfl)
theorem dX1_multiplicity_48 : decode cX1_multiplicity 48 = .ok (.ifCond .le 32, 3) := dk_158 0 32 (dk_at dksX1_multiplicity_2 0 rfl rfl)
theorem dX1_multiplicity_51 : decode cX1_multiplicity 51 = .ok (.aload 4, 2) := dk_25 4 (dk_at dksX1_multiplicity_2 3 rfl rfl)
theorem dX1_multiplicity_53 : decode cX1_multiplicity 53 = .ok (.aload_n 2, 1) := dk_44 (dk_at dksX1_multiplicity_2 5 rfl rfl)
theorem dX1_multiplicity_54 : decode cX1_multiplicity 54 = .ok (.invokestatic 283, 3) := dk_184 1 27 (dk_at dksX1_multiplicity_2 6 rfl rfl)
theorem dX1_multiplicity_57 : decode cX1_multiplicity 57 = .ok (.ifCond .eq 23, 3) := dk_153 0 23 (dk_at dksX1_multiplicity_2 9 rfl rfl)
theorem dX1_multiplicity_60 : decode cX1_multiplicity 60 = .ok (.iinc 3 1, 3) := dk_132 3 1 (dk_at dksX1_multiplicity_2 12 rfl rfl)
theorem dX1_multiplicity_63 : decode cX1_multiplicity 63 = .ok (.new 19, 3) := dk_187 0 19 (dk_at dksX1_multiplicity_2 15 rfl rfl)
theorem dX1_multiplicity_66 : decode cX1_multiplicity 66 = .ok (.dup, 1) := dk_89 (dk_at dksX1_multiplicity_2 18 rfl rfl)
theorem dX1_multiplicity_67 : decode cX1_multiplicity 67 = .ok (.aload 4, 2) := dk_25 4 (dk_at dksX1_multiplicity_2 19 rfl rfl)
theorem dX1_multiplicity_69 : decode cX1_multiplicity 69 = .ok (.invokevirtual 222, 3) := dk_182 0 222 (dk_at dksX1_multiplicity_2 21 rfl rfl)
theorem dX1_multiplicity_72 : decode cX1_multiplicity 72 = .ok (.invokespecial 26, 3) := dk_183 0 26 (dk_at dksX1_multiplicity_3 0 rfl rfl)
theorem dX1_multiplicity_75 : decode cX1_multiplicity 75 = .ok (.astore 4, 2) := dk_58 4 (dk_at dksX1_multiplicity_3 3 rfl rfl)
theorem dX1_multiplicity_77 : decode cX1_multiplicity 77 = .ok (.goto (-37), 3) := dk_167 255 219 (dk_at dksX1_multiplicity_3 5 rfl rfl)
theorem dX1_multiplicity_80 : decode cX1_multiplicity 80 = .ok (.iload_n 3, 1) := dk_29 (dk_at dksX1_multiplicity_3 8 rfl rfl)
theorem dX1_multiplicity_81 : decode cX1_multiplicity 81 = .ok (.ireturn, 1) := dk_172 (dk_at dksX1_multiplicity_3 9 rfl rfl)
abbrev cX1_hasRoot : ByteArray := prog_1_method_55_code
def yX1_hasRoot : MethodName := ⟨RX1, "hasRoot", "(LSturmRoots$Known;LSturmRoots$Interval;)Z"⟩
def dkwX1_hasRoot_3 : List UInt8 := [153, 0, 7, 4, 167, 0, 4, 3, 164, 0, 7, 4, 167, 0, 4, 3, 172]
abbrev dktX1_hasRoot_3 : List UInt8 := dkwX1_hasRoot_3 ++ []
def dkwX1_hasRoot_2 : List UInt8 := [133, 43, 180, 0, 252, 184, 0, 214, 45, 43, 180, 1, 2, 133, 43, 180, 0, 252, 184, 0, 214, 100, 28]
abbrev dktX1_hasRoot_2 : List UInt8 := dkwX1_hasRoot_2 ++ dktX1_hasRoot_3
def dkwX1_hasRoot_1 : List UInt8 := [61, 43, 180, 0, 255, 43, 180, 1, 2, 160, 0, 5, 28, 172, 42, 182, 1, 9, 78, 45, 43, 180, 0, 255]
abbrev dktX1_hasRoot_1 : List UInt8 := dkwX1_hasRoot_1 ++ dktX1_hasRoot_2
def dkwX1_hasRoot_0 : List UInt8 := [42, 180, 0, 141, 43, 180, 1, 2, 133, 43, 180, 0, 252, 184, 0, 129, 154, 0, 7, 4, 167, 0, 4, 3]
abbrev dktX1_hasRoot_0 : List UInt8 := dkwX1_hasRoot_0 ++ dktX1_hasRoot_1
theorem dksX1_hasRoot_0 : cX1_hasRoot.data.toList.drop 0 = dktX1_hasRoot_0 := by decide +kernel
theorem dksX1_hasRoot_1 : cX1_hasRoot.data.toList.drop 24 = dktX1_hasRoot_1 := dk_seg dksX1_hasRoot_0 24 rfl rfl
theorem dksX1_hasRoot_2 : cX1_hasRoot.data.toList.drop 48 = dktX1_hasRoot_2 := dk_seg dksX1_hasRoot_1 24 rfl rfl
theorem dksX1_hasRoot_3 : cX1_hasRoot.data.toList.drop 71 = dktX1_hasRoot_3 := dk_seg dksX1_hasRoot_2 23 rfl rfl
theorem dX1_hasRoot_0 : decode cX1_hasRoot 0 = .ok (.aload_n 0, 1) := dk_42 (dk_at dksX1_hasRoot_0 0 rfl rfl)
theorem dX1_hasRoot_1 : decode cX1_hasRoot 1 = .ok (.getfield 141, 3) := dk_180 0 141 (dk_at dksX1_hasRoot_0 1 rfl rfl)
theorem dX1_hasRoot_4 : decode cX1_hasRoot 4 = .ok (.aload_n 1, 1) := dk_43 (dk_at dksX1_hasRoot_0 4 rfl rfl)
theorem dX1_hasRoot_5 : decode cX1_hasRoot 5 = .ok (.getfield 258, 3) := dk_180 1 2 (dk_at dksX1_hasRoot_0 5 rfl rfl)
theorem dX1_hasRoot_8 : decode cX1_hasRoot 8 = .ok (.i2l, 1) := dk_133 (dk_at dksX1_hasRoot_0 8 rfl rfl)
theorem dX1_hasRoot_9 : decode cX1_hasRoot 9 = .ok (.aload_n 1, 1) := dk_43 (dk_at dksX1_hasRoot_0 9 rfl rfl)
theorem dX1_hasRoot_10 : decode cX1_hasRoot 10 = .ok (.getfield 252, 3) := dk_180 0 252 (dk_at dksX1_hasRoot_0 10 rfl rfl)
theorem dX1_hasRoot_13 : decode cX1_hasRoot 13 = .ok (.invokestatic 129, 3) := dk_184 0 129 (dk_at dksX1_hasRoot_0 13 rfl rfl)
theorem dX1_hasRoot_16 : decode cX1_hasRoot 16 = .ok (.ifCond .ne 7, 3) := dk_154 0 7 (dk_at dksX1_hasRoot_0 16 rfl rfl)
theorem dX1_hasRoot_19 : decode cX1_hasRoot 19 = .ok (.iconst 1, 1) := dk_4 (dk_at dksX1_hasRoot_0 19 rfl rfl)
theorem dX1_hasRoot_20 : decode cX1_hasRoot 20 = .ok (.goto 4, 3) := dk_167 0 4 (dk_at dksX1_hasRoot_0 20 rfl rfl)
theorem dX1_hasRoot_23 : decode cX1_hasRoot 23 = .ok (.iconst 0, 1) := dk_3 (dk_at dksX1_hasRoot_0 23 rfl rfl)
theorem dX1_hasRoot_24 : decode cX1_hasRoot 24 = .ok (.istore_n 2, 1) := dk_61 (dk_at dksX1_hasRoot_1 0 rfl rfl)
theorem dX1_hasRoot_25 : decode cX1_hasRoot 25 = .ok (.aload_n 1, 1) := dk_43 (dk_at dksX1_hasRoot_1 1 rfl rfl)
theorem dX1_hasRoot_26 : decode cX1_hasRoot 26 = .ok (.getfield 255, 3) := dk_180 0 255 (dk_at dksX1_hasRoot_1 2 rfl rfl)
theorem dX1_hasRoot_29 : decode cX1_hasRoot 29 = .ok (.aload_n 1, 1) := dk_43 (dk_at dksX1_hasRoot_1 5 rfl rfl)
theorem dX1_hasRoot_30 : decode cX1_hasRoot 30 = .ok (.getfield 258, 3) := dk_180 1 2 (dk_at dksX1_hasRoot_1 6 rfl rfl)
theorem dX1_hasRoot_33 : decode cX1_hasRoot 33 = .ok (.if_icmp .ne 5, 3) := dk_160 0 5 (dk_at dksX1_hasRoot_1 9 rfl rfl)
theorem dX1_hasRoot_36 : decode cX1_hasRoot 36 = .ok (.iload_n 2, 1) := dk_28 (dk_at dksX1_hasRoot_1 12 rfl rfl)
theorem dX1_hasRoot_37 : decode cX1_hasRoot 37 = .ok (.ireturn, 1) := dk_172 (dk_at dksX1_hasRoot_1 13 rfl rfl)
theorem dX1_hasRoot_38 : decode cX1_hasRoot 38 = .ok (.aload_n 0, 1) := dk_42 (dk_at dksX1_hasRoot_1 14 rfl rfl)
theorem dX1_hasRoot_39 : decode cX1_hasRoot 39 = .ok (.invokevirtual 265, 3) := dk_182 1 9 (dk_at dksX1_hasRoot_1 15 rfl rfl)
theorem dX1_hasRoot_42 : decode cX1_hasRoot 42 = .ok (.astore_n 3, 1) := dk_78 (dk_at dksX1_hasRoot_1 18 rfl rfl)
theorem dX1_hasRoot_43 : decode cX1_hasRoot 43 = .ok (.aload_n 3, 1) := dk_45 (dk_at dksX1_hasRoot_1 19 rfl rfl)
theorem dX1_hasRoot_44 : decode cX1_hasRoot 44 = .ok (.aload_n 1, 1) := dk_43 (dk_at dksX1_hasRoot_1 20 rfl rfl)
theorem dX1_hasRoot_45 : decode cX1_hasRoot 45 = .ok (.getfield 255, 3) := dk_180 0 255 (dk_at dksX1_hasRoot_1 21 rfl rfl)
theorem dX1_hasRoot_48 : decode cX1_hasRoot 48 = .ok (.i2l, 1) := dk_133 (dk_at dksX1_hasRoot_2 0 rfl rfl)
theorem dX1_hasRoot_49 : decode cX1_hasRoot 49 = .ok (.aload_n 1, 1) := dk_43 (dk_at dksX1_hasRoot_2 1 rfl rfl)
theorem dX1_hasRoot_50 : decode cX1_hasRoot 50 = .ok (.getfield 252, 3) := dk_180 0 252 (dk_at dksX1_hasRoot_2 2 rfl rfl)
theorem dX1_hasRoot_53 : decode cX1_hasRoot 53 = .ok (.invokestatic 214, 3) := dk_184 0 214 (dk_at dksX1_hasRoot_2 5 rfl rfl)
theorem dX1_hasRoot_56 : decode cX1_hasRoot 56 = .ok (.aload_n 3, 1) := dk_45 (dk_at dksX1_hasRoot_2 8 rfl rfl)
theorem dX1_hasRoot_57 : decode cX1_hasRoot 57 = .ok (.aload_n 1, 1) := dk_43 (dk_at dksX1_hasRoot_2 9 rfl rfl)
theorem dX1_hasRoot_58 : decode cX1_hasRoot 58 = .ok (.getfield 258, 3) := dk_180 1 2 (dk_at dksX1_hasRoot_2 10 rfl rfl)
theorem dX1_hasRoot_61 : decode cX1_hasRoot 61 = .ok (.i2l, 1) := dk_133 (dk_at dksX1_hasRoot_2 13 rfl rfl)
theorem dX1_hasRoot_62 : decode cX1_hasRoot 62 = .ok (.aload_n 1, 1) := dk_43 (dk_at dksX1_hasRoot_2 14 rfl rfl)
theorem dX1_hasRoot_63 : decode cX1_hasRoot 63 = .ok (.getfield 252, 3) := dk_180 0 252 (dk_at dksX1_hasRoot_2 15 rfl rfl)
theorem dX1_hasRoot_66 : decode cX1_hasRoot 66 = .ok (.invokestatic 214, 3) := dk_184 0 214 (dk_at dksX1_hasRoot_2 18 rfl rfl)
theorem dX1_hasRoot_69 : decode cX1_hasRoot 69 = .ok (.isub, 1) := dk_100 (dk_at dksX1_hasRoot_2 21 rfl rfl)
theorem dX1_hasRoot_70 : decode cX1_hasRoot 70 = .ok (.iload_n 2, 1) := dk_28 (dk_at dksX1_hasRoot_2 22 rfl rfl)
theorem dX1_hasRoot_71 : decode cX1_hasRoot 71 = .ok (.ifCond .eq 7, 3) := dk_153 0 7 (dk_at dksX1_hasRoot_3 0 rfl rfl)
theorem dX1_hasRoot_74 : decode cX1_hasRoot 74 = .ok (.iconst 1, 1) := dk_4 (dk_at dksX1_hasRoot_3 3 rfl rfl)
theorem dX1_hasRoot_75 : decode cX1_hasRoot 75 = .ok (.goto 4, 3) := dk_167 0 4 (dk_at dksX1_hasRoot_3 4 rfl rfl)
theorem dX1_hasRoot_78 : decode cX1_hasRoot 78 = .ok (.iconst 0, 1) := dk_3 (dk_at dksX1_hasRoot_3 7 rfl rfl)
theorem dX1_hasRoot_79 : decode cX1_hasRoot 79 = .ok (.if_icmp .le 7, 3) := dk_164 0 7 (dk_at dksX1_hasRoot_3 8 rfl rfl)
theorem dX1_hasRoot_82 : decode cX1_hasRoot 82 = .ok (.iconst 1, 1) := dk_4 (dk_at dksX1_hasRoot_3 11 rfl rfl)
theorem dX1_hasRoot_83 : decode cX1_hasRoot 83 = .ok (.goto 4, 3) := dk_167 0 4 (dk_at dksX1_hasRoot_3 12 rfl rfl)
theorem dX1_hasRoot_86 : decode cX1_hasRoot 86 = .ok (.iconst 0, 1) := dk_3 (dk_at dksX1_hasRoot_3 15 rfl rfl)
theorem dX1_hasRoot_87 : decode cX1_hasRoot 87 = .ok (.ireturn, 1) := dk_172 (dk_at dksX1_hasRoot_3 16 rfl rfl)
abbrev cX1_isTrue : ByteArray := prog_1_method_56_code
def yX1_isTrue : MethodName := ⟨RX1, "isTrue", "(I)Z"⟩
def dkwX1_isTrue_5 : List UInt8 := [154, 0, 7, 4, 167, 0, 4, 3, 172]
abbrev dktX1_isTrue_5 : List UInt8 := dkwX1_isTrue_5 ++ []
def dkwX1_isTrue_4 : List UInt8 := [182, 0, 191, 182, 0, 60, 163, 0, 24, 21, 7, 21, 6, 161, 0, 17, 21, 7, 21, 6, 100, 5, 112]
abbrev dktX1_isTrue_4 : List UInt8 := dkwX1_isTrue_4 ++ dktX1_isTrue_5
def dkwX1_isTrue_3 : List UInt8 := [182, 0, 191, 184, 0, 229, 54, 7, 21, 5, 44, 182, 0, 195, 184, 0, 225, 160, 0, 36, 21, 5, 44]
abbrev dktX1_isTrue_3 : List UInt8 := dkwX1_isTrue_3 ++ dktX1_isTrue_4
def dkwX1_isTrue_2 : List UInt8 := [20, 1, 33, 3, 184, 0, 214, 21, 4, 100, 54, 5, 45, 9, 3, 184, 0, 214, 21, 4, 100, 54, 6, 44]
abbrev dktX1_isTrue_2 : List UInt8 := dkwX1_isTrue_2 ++ dktX1_isTrue_3
def dkwX1_isTrue_1 : List UInt8 := [182, 0, 117, 192, 0, 19, 77, 44, 182, 1, 9, 78, 45, 20, 1, 31, 3, 184, 0, 214, 54, 4, 45]
abbrev dktX1_isTrue_1 : List UInt8 := dkwX1_isTrue_1 ++ dktX1_isTrue_2
def dkwX1_isTrue_0 : List UInt8 := [27, 184, 0, 160, 42, 27, 182, 0, 145, 182, 0, 60, 156, 0, 5, 4, 172, 42, 180, 0, 10, 27]
abbrev dktX1_isTrue_0 : List UInt8 := dkwX1_isTrue_0 ++ dktX1_isTrue_1
theorem dksX1_isTrue_0 : cX1_isTrue.data.toList.drop 0 = dktX1_isTrue_0 := by decide +kernel
theorem dksX1_isTrue_1 : cX1_isTrue.data.toList.drop 22 = dktX1_isTrue_1 := dk_seg dksX1_isTrue_0 22 rfl rfl
theorem dksX1_isTrue_2 : cX1_isTrue.data.toList.drop 45 = dktX1_isTrue_2 := dk_seg dksX1_isTrue_1 23 rfl rfl
theorem dksX1_isTrue_3 : cX1_isTrue.data.toList.drop 69 = dktX1_isTrue_3 := dk_seg dksX1_isTrue_2 24 rfl rfl
theorem dksX1_isTrue_4 : cX1_isTrue.data.toList.drop 92 = dktX1_isTrue_4 := dk_seg dksX1_isTrue_3 23 rfl rfl
theorem dksX1_isTrue_5 : cX1_isTrue.data.toList.drop 115 = dktX1_isTrue_5 := dk_seg dksX1_isTrue_4 23 rfl rfl
theorem dX1_isTrue_0 : decode cX1_isTrue 0 = .ok (.iload_n 1, 1) := dk_27 (dk_at dksX1_isTrue_0 0 rfl rfl)
theorem dX1_isTrue_1 : decode cX1_isTrue 1 = .ok (.invokestatic 160, 3) := dk_184 0 160 (dk_at dksX1_isTrue_0 1 rfl rfl)
theorem dX1_isTrue_4 : decode cX1_isTrue 4 = .ok (.aload_n 0, 1) := dk_42 (dk_at dksX1_isTrue_0 4 rfl rfl)
theorem dX1_isTrue_5 : decode cX1_isTrue 5 = .ok (.iload_n 1, 1) := dk_27 (dk_at dksX1_isTrue_0 5 rfl rfl)
theorem dX1_isTrue_6 : decode cX1_isTrue 6 = .ok (.invokevirtual 145, 3) := dk_182 0 145 (dk_at dksX1_isTrue_0 6 rfl rfl)
theorem dX1_isTrue_9 : decode cX1_isTrue 9 = .ok (.invokevirtual 60, 3) := dk_182 0 60 (dk_at dksX1_isTrue_0 9 rfl rfl)
theorem dX1_isTrue_12 : decode cX1_isTrue 12 = .ok (.ifCond .ge 5, 3) := dk_156 0 5 (dk_at dksX1_isTrue_0 12 rfl rfl)
theorem dX1_isTrue_15 : decode cX1_isTrue 15 = .ok (.iconst 1, 1) := dk_4 (dk_at dksX1_isTrue_0 15 rfl rfl)
theorem dX1_isTrue_16 : decode cX1_isTrue 16 = .ok (.ireturn, 1) := dk_172 (dk_at dksX1_isTrue_0 16 rfl rfl)
theorem dX1_isTrue_17 : decode cX1_isTrue 17 = .ok (.aload_n 0, 1) := dk_42 (dk_at dksX1_isTrue_0 17 rfl rfl)
theorem dX1_isTrue_18 : decode cX1_isTrue 18 = .ok (.getfield 10, 3) := dk_180 0 10 (dk_at dksX1_isTrue_0 18 rfl rfl)
theorem dX1_isTrue_21 : decode cX1_isTrue 21 = .ok (.iload_n 1, 1) := dk_27 (dk_at dksX1_isTrue_0 21 rfl rfl)
theorem dX1_isTrue_22 : decode cX1_isTrue 22 = .ok (.invokevirtual 117, 3) := dk_182 0 117 (dk_at dksX1_isTrue_1 0 rfl rfl)
theorem dX1_isTrue_25 : decode cX1_isTrue 25 = .ok (.checkcast 19, 3) := dk_192 0 19 (dk_at dksX1_isTrue_1 3 rfl rfl)
theorem dX1_isTrue_28 : decode cX1_isTrue 28 = .ok (.astore_n 2, 1) := dk_77 (dk_at dksX1_isTrue_1 6 rfl rfl)
theorem dX1_isTrue_29 : decode cX1_isTrue 29 = .ok (.aload_n 2, 1) := dk_44 (dk_at dksX1_isTrue_1 7 rfl rfl)
theorem dX1_isTrue_30 : decode cX1_isTrue 30 = .ok (.invokevirtual 265, 3) := dk_182 1 9 (dk_at dksX1_isTrue_1 8 rfl rfl)
theorem dX1_isTrue_33 : decode cX1_isTrue 33 = .ok (.astore_n 3, 1) := dk_78 (dk_at dksX1_isTrue_1 11 rfl rfl)
theorem dX1_isTrue_34 : decode cX1_isTrue 34 = .ok (.aload_n 3, 1) := dk_45 (dk_at dksX1_isTrue_1 12 rfl rfl)
theorem dX1_isTrue_35 : decode cX1_isTrue 35 = .ok (.ldc2_w 287, 3) := dk_20 1 31 (dk_at dksX1_isTrue_1 13 rfl rfl)
theorem dX1_isTrue_38 : decode cX1_isTrue 38 = .ok (.iconst 0, 1) := dk_3 (dk_at dksX1_isTrue_1 16 rfl rfl)
theorem dX1_isTrue_39 : decode cX1_isTrue 39 = .ok (.invokestatic 214, 3) := dk_184 0 214 (dk_at dksX1_isTrue_1 17 rfl rfl)
theorem dX1_isTrue_42 : decode cX1_isTrue 42 = .ok (.istore 4, 2) := dk_54 4 (dk_at dksX1_isTrue_1 20 rfl rfl)
theorem dX1_isTrue_44 : decode cX1_isTrue 44 = .ok (.aload_n 3, 1) := dk_45 (dk_at dksX1_isTrue_1 22 rfl rfl)
theorem dX1_isTrue_45 : decode cX1_isTrue 45 = .ok (.ldc2_w 289, 3) := dk_20 1 33 (dk_at dksX1_isTrue_2 0 rfl rfl)
theorem dX1_isTrue_48 : decode cX1_isTrue 48 = .ok (.iconst 0, 1) := dk_3 (dk_at dksX1_isTrue_2 3 rfl rfl)
theorem dX1_isTrue_49 : decode cX1_isTrue 49 = .ok (.invokestatic 214, 3) := dk_184 0 214 (dk_at dksX1_isTrue_2 4 rfl rfl)
theorem dX1_isTrue_52 : decode cX1_isTrue 52 = .ok (.iload 4, 2) := dk_21 4 (dk_at dksX1_isTrue_2 7 rfl rfl)
theorem dX1_isTrue_54 : decode cX1_isTrue 54 = .ok (.isub, 1) := dk_100 (dk_at dksX1_isTrue_2 9 rfl rfl)
theorem dX1_isTrue_55 : decode cX1_isTrue 55 = .ok (.istore 5, 2) := dk_54 5 (dk_at dksX1_isTrue_2 10 rfl rfl)
theorem dX1_isTrue_57 : decode cX1_isTrue 57 = .ok (.aload_n 3, 1) := dk_45 (dk_at dksX1_isTrue_2 12 rfl rfl)
theorem dX1_isTrue_58 : decode cX1_isTrue 58 = .ok (.lconst 0, 1) := dk_9 (dk_at dksX1_isTrue_2 13 rfl rfl)
theorem dX1_isTrue_59 : decode cX1_isTrue 59 = .ok (.iconst 0, 1) := dk_3 (dk_at dksX1_isTrue_2 14 rfl rfl)
theorem dX1_isTrue_60 : decode cX1_isTrue 60 = .ok (.invokestatic 214, 3) := dk_184 0 214 (dk_at dksX1_isTrue_2 15 rfl rfl)
theorem dX1_isTrue_63 : decode cX1_isTrue 63 = .ok (.iload 4, 2) := dk_21 4 (dk_at dksX1_isTrue_2 18 rfl rfl)
theorem dX1_isTrue_65 : decode cX1_isTrue 65 = .ok (.isub, 1) := dk_100 (dk_at dksX1_isTrue_2 20 rfl rfl)
theorem dX1_isTrue_66 : decode cX1_isTrue 66 = .ok (.istore 6, 2) := dk_54 6 (dk_at dksX1_isTrue_2 21 rfl rfl)
theorem dX1_isTrue_68 : decode cX1_isTrue 68 = .ok (.aload_n 2, 1) := dk_44 (dk_at dksX1_isTrue_2 23 rfl rfl)
theorem dX1_isTrue_69 : decode cX1_isTrue 69 = .ok (.invokevirtual 191, 3) := dk_182 0 191 (dk_at dksX1_isTrue_3 0 rfl rfl)
theorem dX1_isTrue_72 : decode cX1_isTrue 72 = .ok (.invokestatic 229, 3) := dk_184 0 229 (dk_at dksX1_isTrue_3 3 rfl rfl)
theorem dX1_isTrue_75 : decode cX1_isTrue 75 = .ok (.istore 7, 2) := dk_54 7 (dk_at dksX1_isTrue_3 6 rfl rfl)
theorem dX1_isTrue_77 : decode cX1_isTrue 77 = .ok (.iload 5, 2) := dk_21 5 (dk_at dksX1_isTrue_3 8 rfl rfl)
theorem dX1_isTrue_79 : decode cX1_isTrue 79 = .ok (.aload_n 2, 1) := dk_44 (dk_at dksX1_isTrue_3 10 rfl rfl)
theorem dX1_isTrue_80 : decode cX1_isTrue 80 = .ok (.invokevirtual 195, 3) := dk_182 0 195 (dk_at dksX1_isTrue_3 11 rfl rfl)
theorem dX1_isTrue_83 : decode cX1_isTrue 83 = .ok (.invokestatic 225, 3) := dk_184 0 225 (dk_at dksX1_isTrue_3 14 rfl rfl)
theorem dX1_isTrue_86 : decode cX1_isTrue 86 = .ok (.if_icmp .ne 36, 3) := dk_160 0 36 (dk_at dksX1_isTrue_3 17 rfl rfl)
theorem dX1_isTrue_89 : decode cX1_isTrue 89 = .ok (.iload 5, 2) := dk_21 5 (dk_at dksX1_isTrue_3 20 rfl rfl)
theorem dX1_isTrue_91 : decode cX1_isTrue 91 = .ok (.aload_n 2, 1) := dk_44 (dk_at dksX1_isTrue_3 22 rfl rfl)
theorem dX1_isTrue_92 : decode cX1_isTrue 92 = .ok (.invokevirtual 191, 3) := dk_182 0 191 (dk_at dksX1_isTrue_4 0 rfl rfl)
theorem dX1_isTrue_95 : decode cX1_isTrue 95 = .ok (.invokevirtual 60, 3) := dk_182 0 60 (dk_at dksX1_isTrue_4 3 rfl rfl)
theorem dX1_isTrue_98 : decode cX1_isTrue 98 = .ok (.if_icmp .gt 24, 3) := dk_163 0 24 (dk_at dksX1_isTrue_4 6 rfl rfl)
theorem dX1_isTrue_101 : decode cX1_isTrue 101 = .ok (.iload 7, 2) := dk_21 7 (dk_at dksX1_isTrue_4 9 rfl rfl)
theorem dX1_isTrue_103 : decode cX1_isTrue 103 = .ok (.iload 6, 2) := dk_21 6 (dk_at dksX1_isTrue_4 11 rfl rfl)
theorem dX1_isTrue_105 : decode cX1_isTrue 105 = .ok (.if_icmp .lt 17, 3) := dk_161 0 17 (dk_at dksX1_isTrue_4 13 rfl rfl)
theorem dX1_isTrue_108 : decode cX1_isTrue 108 = .ok (.iload 7, 2) := dk_21 7 (dk_at dksX1_isTrue_4 16 rfl rfl)
theorem dX1_isTrue_110 : decode cX1_isTrue 110 = .ok (.iload 6, 2) := dk_21 6 (dk_at dksX1_isTrue_4 18 rfl rfl)
theorem dX1_isTrue_112 : decode cX1_isTrue 112 = .ok (.isub, 1) := dk_100 (dk_at dksX1_isTrue_4 20 rfl rfl)
theorem dX1_isTrue_113 : decode cX1_isTrue 113 = .ok (.iconst 2, 1) := dk_5 (dk_at dksX1_isTrue_4 21 rfl rfl)
theorem dX1_isTrue_114 : decode cX1_isTrue 114 = .ok (.irem, 1) := dk_112 (dk_at dksX1_isTrue_4 22 rfl rfl)
theorem dX1_isTrue_115 : decode cX1_isTrue 115 = .ok (.ifCond .ne 7, 3) := dk_154 0 7 (dk_at dksX1_isTrue_5 0 rfl rfl)
theorem dX1_isTrue_118 : decode cX1_isTrue 118 = .ok (.iconst 1, 1) := dk_4 (dk_at dksX1_isTrue_5 3 rfl rfl)
theorem dX1_isTrue_119 : decode cX1_isTrue 119 = .ok (.goto 4, 3) := dk_167 0 4 (dk_at dksX1_isTrue_5 4 rfl rfl)
theorem dX1_isTrue_122 : decode cX1_isTrue 122 = .ok (.iconst 0, 1) := dk_3 (dk_at dksX1_isTrue_5 7 rfl rfl)
theorem dX1_isTrue_123 : decode cX1_isTrue 123 = .ok (.ireturn, 1) := dk_172 (dk_at dksX1_isTrue_5 8 rfl rfl)
theorem q70 : (Jvm.Cond.initialized "SturmRoots") ∈ lw_all := lw_g (lw_at lw_m1 1 rfl) rfl
theorem q106 : (Jvm.Cond.instantiable "SturmRoots" (3 : Nat)) ∈ lw_all := lw_g (lw_at lw_m1 37 rfl) rfl
theorem q108 : (Jvm.Cond.instanceMethod ({ cls := "SturmRoots", name := "<init>", desc := "()V" } : Jvm.MethodName)) ∈ lw_all := lw_g (lw_at lw_m1 39 rfl) rfl
theorem q109 : (Jvm.Cond.code ({ cls := "SturmRoots", name := "<init>", desc := "()V" } : Jvm.MethodName) prog_1_method_1_code (2 : Nat) (Option.none : Option Jvm.ClassFile.FieldType)) ∈ lw_all := lw_g (lw_at lw_m1 40 rfl) rfl
theorem q110 : (Jvm.Cond.methodLink "SturmRoots" (1 : Nat) ({ cls := "java/lang/Object", name := "<init>", desc := "()V" } : Jvm.MethodName)) ∈ lw_all := lw_g (lw_at lw_m1 41 rfl) rfl
theorem q113 : (Jvm.Cond.classLink "SturmRoots" (7 : Nat) "java/util/ArrayList") ∈ lw_all := lw_g (lw_at lw_m1 44 rfl) rfl
theorem q115 : (Jvm.Cond.methodLink "SturmRoots" (9 : Nat) ({ cls := "java/util/ArrayList", name := "<init>", desc := "()V" } : Jvm.MethodName)) ∈ lw_all := lw_g (lw_at lw_m1 46 rfl) rfl
theorem q143 : (Jvm.Cond.classLink "SturmRoots" (19 : Nat) "SturmRoots$Known") ∈ lw_all := lw_g (lw_at lw_m1 74 rfl) rfl
theorem q145 : (Jvm.Cond.classLink "SturmRoots" (21 : Nat) "SturmRoots$Poly") ∈ lw_all := lw_g (lw_at lw_m1 76 rfl) rfl
theorem q147 : (Jvm.Cond.methodLink "SturmRoots" (23 : Nat) ({ cls := "SturmRoots$Poly", name := "<init>", desc := "(Ljava/util/ArrayList;)V" } : Jvm.MethodName)) ∈ lw_all := lw_g (lw_at lw_m1 78 rfl) rfl
theorem q186 : (Jvm.Cond.fieldLinkNest "SturmRoots" (39 : Nat) "SturmRoots$Poly" "row" "Ljava/util/ArrayList;" "SturmRoots") ∈ lw_tbl := lw_at lw_m1 117 rfl
theorem q190 : (Jvm.Cond.methodLink "SturmRoots" (26 : Nat) ({ cls := "SturmRoots$Known", name := "<init>", desc := "(LSturmRoots$Poly;)V" } : Jvm.MethodName)) ∈ lw_all := lw_g (lw_at lw_m1 121 rfl) rfl
theorem q195 : (Jvm.Cond.fieldLinkNest "SturmRoots" (141 : Nat) "SturmRoots$Known" "poly" "LSturmRoots$Poly;" "SturmRoots") ∈ lw_tbl := lw_at lw_m1 126 rfl
theorem q208 : (Jvm.Cond.methodLink "SturmRoots" (29 : Nat) ({ cls := "java/util/ArrayList", name := "add", desc := "(Ljava/lang/Object;)Z" } : Jvm.MethodName)) ∈ lw_all := lw_g (lw_at lw_m1 139 rfl) rfl
theorem q240 : (Jvm.Cond.selects "SturmRoots" ({ cls := "java/lang/Object", name := "getClass", desc := "()Ljava/lang/Class;" } : Jvm.MethodName) ({ cls := "java/lang/Object", name := "getClass", desc := "()Ljava/lang/Class;" } : Jvm.MethodName)) ∈ lw_all := lw_g (lw_at lw_m1 171 rfl) rfl
theorem q272 : (Jvm.Cond.fieldLink "SturmRoots" (10 : Nat) "SturmRoots" "slots" "Ljava/util/ArrayList;") ∈ lw_all := lw_g (lw_at lw_m1 203 rfl) rfl
theorem q273 : (Jvm.Cond.fieldLink "SturmRoots" (235 : Nat) "SturmRoots" "isolated" "LSturmRoots$Known;") ∈ lw_all := lw_g (lw_at lw_m1 204 rfl) rfl
theorem q274 : (Jvm.Cond.fieldLink "SturmRoots" (16 : Nat) "SturmRoots" "intervals" "Ljava/util/ArrayList;") ∈ lw_all := lw_g (lw_at lw_m1 205 rfl) rfl
theorem q275 : (Jvm.Cond.laysFinal "SturmRoots" "SturmRoots" "slots" "Ljava/util/ArrayList;") ∈ lw_all := lw_g (lw_at lw_m1 206 rfl) rfl
theorem q276 : (Jvm.Cond.soleField "SturmRoots" "slots") ∈ lw_all := lw_g (lw_at lw_m1 207 rfl) rfl
theorem q277 : (Jvm.Cond.lays "SturmRoots" "SturmRoots" "isolated" "LSturmRoots$Known;") ∈ lw_all := lw_g (lw_at lw_m1 208 rfl) rfl
theorem q278 : (Jvm.Cond.soleField "SturmRoots" "isolated") ∈ lw_all := lw_g (lw_at lw_m1 209 rfl) rfl
theorem q279 : (Jvm.Cond.lays "SturmRoots" "SturmRoots" "intervals" "Ljava/util/ArrayList;") ∈ lw_all := lw_g (lw_at lw_m1 210 rfl) rfl
theorem q280 : (Jvm.Cond.soleField "SturmRoots" "intervals") ∈ lw_all := lw_g (lw_at lw_m1 211 rfl) rfl
theorem q281 : (Jvm.Cond.superclass "SturmRoots" "java/lang/Object") ∈ lw_all := lw_g (lw_at lw_m1 212 rfl) rfl
theorem q283 : (Jvm.Cond.instanceMethod ({ cls := "SturmRoots", name := "intervals", desc := "()I" } : Jvm.MethodName)) ∈ lw_all := lw_g (lw_at lw_m1 214 rfl) rfl
theorem q284 : (Jvm.Cond.selects "SturmRoots" ({ cls := "SturmRoots", name := "intervals", desc := "()I" } : Jvm.MethodName) ({ cls := "SturmRoots", name := "intervals", desc := "()I" } : Jvm.MethodName)) ∈ lw_all := lw_g (lw_at lw_m1 215 rfl) rfl
theorem q285 : (Jvm.Cond.code ({ cls := "SturmRoots", name := "intervals", desc := "()I" } : Jvm.MethodName) prog_1_method_46_code (1 : Nat) (Option.some Jvm.ClassFile.FieldType.int)) ∈ lw_all := lw_g (lw_at lw_m1 216 rfl) rfl
theorem q286 : (Jvm.Cond.methodLink "SturmRoots" (121 : Nat) ({ cls := "java/util/ArrayList", name := "size", desc := "()I" } : Jvm.MethodName)) ∈ lw_all := lw_g (lw_at lw_m1 217 rfl) rfl
theorem q288 : (Jvm.Cond.instanceMethod ({ cls := "SturmRoots", name := "removeEmpty", desc := "()I" } : Jvm.MethodName)) ∈ lw_all := lw_g (lw_at lw_m1 219 rfl) rfl
theorem q289 : (Jvm.Cond.selects "SturmRoots" ({ cls := "SturmRoots", name := "removeEmpty", desc := "()I" } : Jvm.MethodName) ({ cls := "SturmRoots", name := "removeEmpty", desc := "()I" } : Jvm.MethodName)) ∈ lw_all := lw_g (lw_at lw_m1 220 rfl) rfl
theorem q290 : (Jvm.Cond.code ({ cls := "SturmRoots", name := "removeEmpty", desc := "()I" } : Jvm.MethodName) prog_1_method_53_code (3 : Nat) (Option.some Jvm.ClassFile.FieldType.int)) ∈ lw_all := lw_g (lw_at lw_m1 221 rfl) rfl
theorem q291 : (Jvm.Cond.methodLink "SturmRoots" (42 : Nat) ({ cls := "java/util/ArrayList", name := "iterator", desc := "()Ljava/util/Iterator;" } : Jvm.MethodName)) ∈ lw_all := lw_g (lw_at lw_m1 222 rfl) rfl
theorem q320 : (Jvm.Cond.interfaceEntry "SturmRoots" (46 : Nat)) ∈ lw_tbl := lw_at lw_m2 11 rfl
theorem q321 : (Jvm.Cond.methodLink "SturmRoots" (46 : Nat) ({ cls := "java/util/Iterator", name := "hasNext", desc := "()Z" } : Jvm.MethodName)) ∈ lw_all := lw_g (lw_at lw_m2 12 rfl) rfl
theorem q333 : (Jvm.Cond.interfaceEntry "SturmRoots" (52 : Nat)) ∈ lw_tbl := lw_at lw_m2 24 rfl
theorem q334 : (Jvm.Cond.methodLink "SturmRoots" (52 : Nat) ({ cls := "java/util/Iterator", name := "next", desc := "()Ljava/lang/Object;" } : Jvm.MethodName)) ∈ lw_all := lw_g (lw_at lw_m2 25 rfl) rfl
theorem q418 : (Jvm.Cond.classLink "SturmRoots" (239 : Nat) "SturmRoots$Interval") ∈ lw_all := lw_g (lw_at lw_m2 109 rfl) rfl
theorem q419 : (Jvm.Cond.interfaceEntry "SturmRoots" (280 : Nat)) ∈ lw_tbl := lw_at lw_m2 110 rfl
theorem q420 : (Jvm.Cond.methodLink "SturmRoots" (280 : Nat) ({ cls := "java/util/Iterator", name := "remove", desc := "()V" } : Jvm.MethodName)) ∈ lw_all := lw_g (lw_at lw_m2 111 rfl) rfl
theorem q462 : (Jvm.Cond.instanceMethod ({ cls := "SturmRoots", name := "checksum", desc := "()J" } : Jvm.MethodName)) ∈ lw_all := lw_g (lw_at lw_m2 153 rfl) rfl
theorem q463 : (Jvm.Cond.selects "SturmRoots" ({ cls := "SturmRoots", name := "checksum", desc := "()J" } : Jvm.MethodName) ({ cls := "SturmRoots", name := "checksum", desc := "()J" } : Jvm.MethodName)) ∈ lw_all := lw_g (lw_at lw_m2 154 rfl) rfl
theorem q464 : (Jvm.Cond.code ({ cls := "SturmRoots", name := "checksum", desc := "()J" } : Jvm.MethodName) prog_1_method_57_code (6 : Nat) (Option.some Jvm.ClassFile.FieldType.long)) ∈ lw_all := lw_g (lw_at lw_m2 155 rfl) rfl
theorem q465 : (Jvm.Cond.constantLong "SturmRoots" (291 : Nat) (7 : Int64)) ∈ lw_all := lw_g (lw_at lw_m2 156 rfl) rfl
theorem q466 : (Jvm.Cond.constantLong "SturmRoots" (293 : Nat) (31 : Int64)) ∈ lw_all := lw_g (lw_at lw_m2 157 rfl) rfl
theorem q467 : (Jvm.Cond.methodLink "SturmRoots" (87 : Nat) ({ cls := "SturmRoots$Poly", name := "at", desc := "(I)Ljava/math/BigInteger;" } : Jvm.MethodName)) ∈ lw_all := lw_g (lw_at lw_m2 158 rfl) rfl
theorem q472 : (Jvm.Cond.static ({ cls := "SturmRoots", name := "number", desc := "(J)Ljava/math/BigInteger;" } : Jvm.MethodName)) ∈ lw_all := lw_g (lw_at lw_m2 163 rfl) rfl
theorem q473 : (Jvm.Cond.code ({ cls := "SturmRoots", name := "number", desc := "(J)Ljava/math/BigInteger;" } : Jvm.MethodName) prog_1_method_2_code (2 : Nat) (Option.some (Jvm.ClassFile.FieldType.object "java/math/BigInteger"))) ∈ lw_all := lw_g (lw_at lw_m2 164 rfl) rfl
theorem q474 : (Jvm.Cond.methodLink "SturmRoots" (33 : Nat) ({ cls := "java/math/BigInteger", name := "valueOf", desc := "(J)Ljava/math/BigInteger;" } : Jvm.MethodName)) ∈ lw_all := lw_g (lw_at lw_m2 165 rfl) rfl
theorem q512 : (Jvm.Cond.methodLink "SturmRoots" (206 : Nat) ({ cls := "java/math/BigInteger", name := "longValue", desc := "()J" } : Jvm.MethodName)) ∈ lw_all := lw_g (lw_at lw_m2 203 rfl) rfl
theorem q567 : (Jvm.Cond.instanceMethod ({ cls := "SturmRoots", name := "set", desc := "(III)I" } : Jvm.MethodName)) ∈ lw_all := lw_g (lw_at lw_m3 18 rfl) rfl
theorem q568 : (Jvm.Cond.selects "SturmRoots" ({ cls := "SturmRoots", name := "set", desc := "(III)I" } : Jvm.MethodName) ({ cls := "SturmRoots", name := "set", desc := "(III)I" } : Jvm.MethodName)) ∈ lw_all := lw_g (lw_at lw_m3 19 rfl) rfl
theorem q569 : (Jvm.Cond.code ({ cls := "SturmRoots", name := "set", desc := "(III)I" } : Jvm.MethodName) prog_1_method_22_code (7 : Nat) (Option.some Jvm.ClassFile.FieldType.int)) ∈ lw_all := lw_g (lw_at lw_m3 20 rfl) rfl
theorem q570 : (Jvm.Cond.methodLink "SturmRoots" (160 : Nat) ({ cls := "SturmRoots", name := "mustBeSlot", desc := "(I)V" } : Jvm.MethodName)) ∈ lw_all := lw_g (lw_at lw_m3 21 rfl) rfl
theorem q571 : (Jvm.Cond.static ({ cls := "SturmRoots", name := "mustBeSlot", desc := "(I)V" } : Jvm.MethodName)) ∈ lw_all := lw_g (lw_at lw_m3 22 rfl) rfl
theorem q572 : (Jvm.Cond.code ({ cls := "SturmRoots", name := "mustBeSlot", desc := "(I)V" } : Jvm.MethodName) prog_1_method_15_code (1 : Nat) (Option.none : Option Jvm.ClassFile.FieldType)) ∈ lw_all := lw_g (lw_at lw_m3 23 rfl) rfl
theorem q573 : (Jvm.Cond.classLink "SturmRoots" (133 : Nat) "java/lang/IndexOutOfBoundsException") ∈ lw_all := lw_g (lw_at lw_m3 24 rfl) rfl
theorem q582 : (Jvm.Cond.methodLink "SturmRoots" (135 : Nat) ({ cls := "java/lang/IndexOutOfBoundsException", name := "<init>", desc := "()V" } : Jvm.MethodName)) ∈ lw_all := lw_g (lw_at lw_m3 33 rfl) rfl
theorem q588 : (Jvm.Cond.methodLink "SturmRoots" (164 : Nat) ({ cls := "SturmRoots", name := "mustBePower", desc := "(I)V" } : Jvm.MethodName)) ∈ lw_all := lw_g (lw_at lw_m3 39 rfl) rfl
theorem q589 : (Jvm.Cond.static ({ cls := "SturmRoots", name := "mustBePower", desc := "(I)V" } : Jvm.MethodName)) ∈ lw_all := lw_g (lw_at lw_m3 40 rfl) rfl
theorem q590 : (Jvm.Cond.code ({ cls := "SturmRoots", name := "mustBePower", desc := "(I)V" } : Jvm.MethodName) prog_1_method_16_code (1 : Nat) (Option.none : Option Jvm.ClassFile.FieldType)) ∈ lw_all := lw_g (lw_at lw_m3 41 rfl) rfl
theorem q591 : (Jvm.Cond.classLink "SturmRoots" (138 : Nat) "java/lang/IllegalArgumentException") ∈ lw_all := lw_g (lw_at lw_m3 42 rfl) rfl
theorem q600 : (Jvm.Cond.methodLink "SturmRoots" (140 : Nat) ({ cls := "java/lang/IllegalArgumentException", name := "<init>", desc := "()V" } : Jvm.MethodName)) ∈ lw_all := lw_g (lw_at lw_m3 51 rfl) rfl
theorem q606 : (Jvm.Cond.methodLink "SturmRoots" (145 : Nat) ({ cls := "SturmRoots", name := "poly", desc := "(I)LSturmRoots$Poly;" } : Jvm.MethodName)) ∈ lw_all := lw_g (lw_at lw_m3 57 rfl) rfl
theorem q607 : (Jvm.Cond.privateMethod ({ cls := "SturmRoots", name := "poly", desc := "(I)LSturmRoots$Poly;" } : Jvm.MethodName)) ∈ lw_tbl := lw_at lw_m3 58 rfl
theorem q608 : (Jvm.Cond.instanceMethod ({ cls := "SturmRoots", name := "poly", desc := "(I)LSturmRoots$Poly;" } : Jvm.MethodName)) ∈ lw_all := lw_g (lw_at lw_m3 59 rfl) rfl
theorem q609 : (Jvm.Cond.code ({ cls := "SturmRoots", name := "poly", desc := "(I)LSturmRoots$Poly;" } : Jvm.MethodName) prog_1_method_18_code (2 : Nat) (Option.some (Jvm.ClassFile.FieldType.object "SturmRoots$Poly"))) ∈ lw_all := lw_g (lw_at lw_m3 60 rfl) rfl
theorem q610 : (Jvm.Cond.methodLink "SturmRoots" (117 : Nat) ({ cls := "java/util/ArrayList", name := "get", desc := "(I)Ljava/lang/Object;" } : Jvm.MethodName)) ∈ lw_all := lw_g (lw_at lw_m3 61 rfl) rfl
theorem q611 : (Jvm.Cond.methodLink "SturmRoots" (74 : Nat) ({ cls := "SturmRoots", name := "number", desc := "(J)Ljava/math/BigInteger;" } : Jvm.MethodName)) ∈ lw_all := lw_g (lw_at lw_m3 62 rfl) rfl
theorem q612 : (Jvm.Cond.methodLink "SturmRoots" (167 : Nat) ({ cls := "SturmRoots", name := "store", desc := "(ILSturmRoots$Poly;)I" } : Jvm.MethodName)) ∈ lw_all := lw_g (lw_at lw_m3 63 rfl) rfl
theorem q613 : (Jvm.Cond.privateMethod ({ cls := "SturmRoots", name := "store", desc := "(ILSturmRoots$Poly;)I" } : Jvm.MethodName)) ∈ lw_tbl := lw_at lw_m3 64 rfl
theorem q614 : (Jvm.Cond.instanceMethod ({ cls := "SturmRoots", name := "store", desc := "(ILSturmRoots$Poly;)I" } : Jvm.MethodName)) ∈ lw_all := lw_g (lw_at lw_m3 65 rfl) rfl
theorem q615 : (Jvm.Cond.code ({ cls := "SturmRoots", name := "store", desc := "(ILSturmRoots$Poly;)I" } : Jvm.MethodName) prog_1_method_21_code (7 : Nat) (Option.some Jvm.ClassFile.FieldType.int)) ∈ lw_all := lw_g (lw_at lw_m3 66 rfl) rfl
theorem q616 : (Jvm.Cond.constantLong "SturmRoots" (151 : Nat) (9999 : Int64)) ∈ lw_all := lw_g (lw_at lw_m3 67 rfl) rfl
theorem q617 : (Jvm.Cond.methodLink "SturmRoots" (60 : Nat) ({ cls := "SturmRoots$Poly", name := "degree", desc := "()I" } : Jvm.MethodName)) ∈ lw_all := lw_g (lw_at lw_m3 68 rfl) rfl
theorem q621 : (Jvm.Cond.classLink "SturmRoots" (34 : Nat) "java/math/BigInteger") ∈ lw_all := lw_g (lw_at lw_m3 72 rfl) rfl
theorem q622 : (Jvm.Cond.methodLink "SturmRoots" (94 : Nat) ({ cls := "java/math/BigInteger", name := "abs", desc := "()Ljava/math/BigInteger;" } : Jvm.MethodName)) ∈ lw_all := lw_g (lw_at lw_m3 73 rfl) rfl
theorem q657 : (Jvm.Cond.methodLink "SturmRoots" (153 : Nat) ({ cls := "java/math/BigInteger", name := "compareTo", desc := "(Ljava/math/BigInteger;)I" } : Jvm.MethodName)) ∈ lw_all := lw_g (lw_at lw_m3 108 rfl) rfl
theorem q665 : (Jvm.Cond.classLink "SturmRoots" (157 : Nat) "java/lang/IllegalStateException") ∈ lw_all := lw_g (lw_at lw_m3 116 rfl) rfl
theorem q666 : (Jvm.Cond.methodLink "SturmRoots" (159 : Nat) ({ cls := "java/lang/IllegalStateException", name := "<init>", desc := "()V" } : Jvm.MethodName)) ∈ lw_all := lw_g (lw_at lw_m3 117 rfl) rfl
theorem q667 : (Jvm.Cond.methodLink "SturmRoots" (100 : Nat) ({ cls := "java/util/ArrayList", name := "set", desc := "(ILjava/lang/Object;)Ljava/lang/Object;" } : Jvm.MethodName)) ∈ lw_all := lw_g (lw_at lw_m3 118 rfl) rfl
theorem q675 : (Jvm.Cond.instanceMethod ({ cls := "SturmRoots", name := "coefficient", desc := "(II)I" } : Jvm.MethodName)) ∈ lw_all := lw_g (lw_at lw_m3 126 rfl) rfl
theorem q676 : (Jvm.Cond.selects "SturmRoots" ({ cls := "SturmRoots", name := "coefficient", desc := "(II)I" } : Jvm.MethodName) ({ cls := "SturmRoots", name := "coefficient", desc := "(II)I" } : Jvm.MethodName)) ∈ lw_all := lw_g (lw_at lw_m3 127 rfl) rfl
theorem q677 : (Jvm.Cond.code ({ cls := "SturmRoots", name := "coefficient", desc := "(II)I" } : Jvm.MethodName) prog_1_method_23_code (3 : Nat) (Option.some Jvm.ClassFile.FieldType.int)) ∈ lw_all := lw_g (lw_at lw_m3 128 rfl) rfl
theorem q678 : (Jvm.Cond.methodLink "SturmRoots" (171 : Nat) ({ cls := "java/math/BigInteger", name := "intValue", desc := "()I" } : Jvm.MethodName)) ∈ lw_all := lw_g (lw_at lw_m3 129 rfl) rfl
theorem q686 : (Jvm.Cond.instanceMethod ({ cls := "SturmRoots", name := "degree", desc := "(I)I" } : Jvm.MethodName)) ∈ lw_all := lw_g (lw_at lw_m3 137 rfl) rfl
theorem q687 : (Jvm.Cond.selects "SturmRoots" ({ cls := "SturmRoots", name := "degree", desc := "(I)I" } : Jvm.MethodName) ({ cls := "SturmRoots", name := "degree", desc := "(I)I" } : Jvm.MethodName)) ∈ lw_all := lw_g (lw_at lw_m3 138 rfl) rfl
theorem q688 : (Jvm.Cond.code ({ cls := "SturmRoots", name := "degree", desc := "(I)I" } : Jvm.MethodName) prog_1_method_24_code (2 : Nat) (Option.some Jvm.ClassFile.FieldType.int)) ∈ lw_all := lw_g (lw_at lw_m3 139 rfl) rfl
theorem q693 : (Jvm.Cond.instanceMethod ({ cls := "SturmRoots", name := "copy", desc := "(II)I" } : Jvm.MethodName)) ∈ lw_all := lw_g (lw_at lw_m3 144 rfl) rfl
theorem q694 : (Jvm.Cond.selects "SturmRoots" ({ cls := "SturmRoots", name := "copy", desc := "(II)I" } : Jvm.MethodName) ({ cls := "SturmRoots", name := "copy", desc := "(II)I" } : Jvm.MethodName)) ∈ lw_all := lw_g (lw_at lw_m3 145 rfl) rfl
theorem q695 : (Jvm.Cond.code ({ cls := "SturmRoots", name := "copy", desc := "(II)I" } : Jvm.MethodName) prog_1_method_25_code (3 : Nat) (Option.some Jvm.ClassFile.FieldType.int)) ∈ lw_all := lw_g (lw_at lw_m3 146 rfl) rfl
theorem q701 : (Jvm.Cond.instanceMethod ({ cls := "SturmRoots", name := "add", desc := "(III)I" } : Jvm.MethodName)) ∈ lw_all := lw_g (lw_at lw_m3 152 rfl) rfl
theorem q702 : (Jvm.Cond.selects "SturmRoots" ({ cls := "SturmRoots", name := "add", desc := "(III)I" } : Jvm.MethodName) ({ cls := "SturmRoots", name := "add", desc := "(III)I" } : Jvm.MethodName)) ∈ lw_all := lw_g (lw_at lw_m3 153 rfl) rfl
theorem q703 : (Jvm.Cond.code ({ cls := "SturmRoots", name := "add", desc := "(III)I" } : Jvm.MethodName) prog_1_method_26_code (6 : Nat) (Option.some Jvm.ClassFile.FieldType.int)) ∈ lw_all := lw_g (lw_at lw_m3 154 rfl) rfl
theorem q704 : (Jvm.Cond.methodLink "SturmRoots" (127 : Nat) ({ cls := "java/math/BigInteger", name := "add", desc := "(Ljava/math/BigInteger;)Ljava/math/BigInteger;" } : Jvm.MethodName)) ∈ lw_all := lw_g (lw_at lw_m3 155 rfl) rfl
theorem q955 : (Jvm.Cond.instanceMethod ({ cls := "SturmRoots", name := "multiply", desc := "(III)I" } : Jvm.MethodName)) ∈ lw_all := lw_g (lw_at lw_m4 166 rfl) rfl
theorem q956 : (Jvm.Cond.selects "SturmRoots" ({ cls := "SturmRoots", name := "multiply", desc := "(III)I" } : Jvm.MethodName) ({ cls := "SturmRoots", name := "multiply", desc := "(III)I" } : Jvm.MethodName)) ∈ lw_all := lw_g (lw_at lw_m4 167 rfl) rfl
theorem q957 : (Jvm.Cond.code ({ cls := "SturmRoots", name := "multiply", desc := "(III)I" } : Jvm.MethodName) prog_1_method_27_code (10 : Nat) (Option.some Jvm.ClassFile.FieldType.int)) ∈ lw_all := lw_g (lw_at lw_m4 168 rfl) rfl
theorem q958 : (Jvm.Cond.methodLink "SturmRoots" (174 : Nat) ({ cls := "java/lang/Math", name := "max", desc := "(II)I" } : Jvm.MethodName)) ∈ lw_all := lw_g (lw_at lw_m4 169 rfl) rfl
theorem q959 : (Jvm.Cond.methodLink "SturmRoots" (91 : Nat) ({ cls := "java/math/BigInteger", name := "multiply", desc := "(Ljava/math/BigInteger;)Ljava/math/BigInteger;" } : Jvm.MethodName)) ∈ lw_all := lw_g (lw_at lw_m4 170 rfl) rfl
theorem q1103 : (Jvm.Cond.instanceMethod ({ cls := "SturmRoots", name := "derivative", desc := "(II)I" } : Jvm.MethodName)) ∈ lw_all := lw_g (lw_at lw_m5 74 rfl) rfl
theorem q1104 : (Jvm.Cond.selects "SturmRoots" ({ cls := "SturmRoots", name := "derivative", desc := "(II)I" } : Jvm.MethodName) ({ cls := "SturmRoots", name := "derivative", desc := "(II)I" } : Jvm.MethodName)) ∈ lw_all := lw_g (lw_at lw_m5 75 rfl) rfl
theorem q1105 : (Jvm.Cond.code ({ cls := "SturmRoots", name := "derivative", desc := "(II)I" } : Jvm.MethodName) prog_1_method_28_code (3 : Nat) (Option.some Jvm.ClassFile.FieldType.int)) ∈ lw_all := lw_g (lw_at lw_m5 76 rfl) rfl
theorem q1106 : (Jvm.Cond.methodLink "SturmRoots" (114 : Nat) ({ cls := "SturmRoots", name := "derived", desc := "(LSturmRoots$Poly;)LSturmRoots$Poly;" } : Jvm.MethodName)) ∈ lw_all := lw_g (lw_at lw_m5 77 rfl) rfl
theorem q1107 : (Jvm.Cond.static ({ cls := "SturmRoots", name := "derived", desc := "(LSturmRoots$Poly;)LSturmRoots$Poly;" } : Jvm.MethodName)) ∈ lw_all := lw_g (lw_at lw_m5 78 rfl) rfl
theorem q1108 : (Jvm.Cond.code ({ cls := "SturmRoots", name := "derived", desc := "(LSturmRoots$Poly;)LSturmRoots$Poly;" } : Jvm.MethodName) prog_1_method_6_code (3 : Nat) (Option.some (Jvm.ClassFile.FieldType.object "SturmRoots$Poly"))) ∈ lw_all := lw_g (lw_at lw_m5 79 rfl) rfl
theorem q1113 : (Jvm.Cond.instanceMethod ({ cls := "SturmRoots", name := "shift", desc := "(III)I" } : Jvm.MethodName)) ∈ lw_all := lw_g (lw_at lw_m5 84 rfl) rfl
theorem q1114 : (Jvm.Cond.selects "SturmRoots" ({ cls := "SturmRoots", name := "shift", desc := "(III)I" } : Jvm.MethodName) ({ cls := "SturmRoots", name := "shift", desc := "(III)I" } : Jvm.MethodName)) ∈ lw_all := lw_g (lw_at lw_m5 85 rfl) rfl
theorem q1115 : (Jvm.Cond.code ({ cls := "SturmRoots", name := "shift", desc := "(III)I" } : Jvm.MethodName) prog_1_method_29_code (8 : Nat) (Option.some Jvm.ClassFile.FieldType.int)) ∈ lw_all := lw_g (lw_at lw_m5 86 rfl) rfl
theorem q1116 : (Jvm.Cond.methodLink "SturmRoots" (180 : Nat) ({ cls := "SturmRoots", name := "rowOf", desc := "(I)Ljava/util/ArrayList;" } : Jvm.MethodName)) ∈ lw_all := lw_g (lw_at lw_m5 87 rfl) rfl
theorem q1117 : (Jvm.Cond.privateMethod ({ cls := "SturmRoots", name := "rowOf", desc := "(I)Ljava/util/ArrayList;" } : Jvm.MethodName)) ∈ lw_tbl := lw_at lw_m5 88 rfl
theorem q1118 : (Jvm.Cond.instanceMethod ({ cls := "SturmRoots", name := "rowOf", desc := "(I)Ljava/util/ArrayList;" } : Jvm.MethodName)) ∈ lw_all := lw_g (lw_at lw_m5 89 rfl) rfl
theorem q1119 : (Jvm.Cond.code ({ cls := "SturmRoots", name := "rowOf", desc := "(I)Ljava/util/ArrayList;" } : Jvm.MethodName) prog_1_method_19_code (5 : Nat) (Option.some (Jvm.ClassFile.FieldType.object "java/util/ArrayList"))) ∈ lw_all := lw_g (lw_at lw_m5 90 rfl) rfl
theorem q1124 : (Jvm.Cond.instanceMethod ({ cls := "SturmRoots", name := "reflect", desc := "(II)I" } : Jvm.MethodName)) ∈ lw_all := lw_g (lw_at lw_m5 95 rfl) rfl
theorem q1125 : (Jvm.Cond.selects "SturmRoots" ({ cls := "SturmRoots", name := "reflect", desc := "(II)I" } : Jvm.MethodName) ({ cls := "SturmRoots", name := "reflect", desc := "(II)I" } : Jvm.MethodName)) ∈ lw_all := lw_g (lw_at lw_m5 96 rfl) rfl
theorem q1126 : (Jvm.Cond.code ({ cls := "SturmRoots", name := "reflect", desc := "(II)I" } : Jvm.MethodName) prog_1_method_30_code (6 : Nat) (Option.some Jvm.ClassFile.FieldType.int)) ∈ lw_all := lw_g (lw_at lw_m5 97 rfl) rfl
theorem q1127 : (Jvm.Cond.methodLink "SturmRoots" (56 : Nat) ({ cls := "java/math/BigInteger", name := "negate", desc := "()Ljava/math/BigInteger;" } : Jvm.MethodName)) ∈ lw_all := lw_g (lw_at lw_m5 98 rfl) rfl
theorem q1132 : (Jvm.Cond.instanceMethod ({ cls := "SturmRoots", name := "scale", desc := "(III)I" } : Jvm.MethodName)) ∈ lw_all := lw_g (lw_at lw_m5 103 rfl) rfl
theorem q1133 : (Jvm.Cond.selects "SturmRoots" ({ cls := "SturmRoots", name := "scale", desc := "(III)I" } : Jvm.MethodName) ({ cls := "SturmRoots", name := "scale", desc := "(III)I" } : Jvm.MethodName)) ∈ lw_all := lw_g (lw_at lw_m5 104 rfl) rfl
theorem q1134 : (Jvm.Cond.code ({ cls := "SturmRoots", name := "scale", desc := "(III)I" } : Jvm.MethodName) prog_1_method_31_code (7 : Nat) (Option.some Jvm.ClassFile.FieldType.int)) ∈ lw_all := lw_g (lw_at lw_m5 105 rfl) rfl
theorem q1139 : (Jvm.Cond.instanceMethod ({ cls := "SturmRoots", name := "gcd", desc := "(III)I" } : Jvm.MethodName)) ∈ lw_all := lw_g (lw_at lw_m5 110 rfl) rfl
theorem q1140 : (Jvm.Cond.selects "SturmRoots" ({ cls := "SturmRoots", name := "gcd", desc := "(III)I" } : Jvm.MethodName) ({ cls := "SturmRoots", name := "gcd", desc := "(III)I" } : Jvm.MethodName)) ∈ lw_all := lw_g (lw_at lw_m5 111 rfl) rfl
theorem q1141 : (Jvm.Cond.code ({ cls := "SturmRoots", name := "gcd", desc := "(III)I" } : Jvm.MethodName) prog_1_method_32_code (4 : Nat) (Option.some Jvm.ClassFile.FieldType.int)) ∈ lw_all := lw_g (lw_at lw_m5 112 rfl) rfl
theorem q1142 : (Jvm.Cond.methodLink "SturmRoots" (184 : Nat) ({ cls := "SturmRoots", name := "divisorOf", desc := "(LSturmRoots$Poly;LSturmRoots$Poly;)LSturmRoots$Poly;" } : Jvm.MethodName)) ∈ lw_all := lw_g (lw_at lw_m5 113 rfl) rfl
theorem q1143 : (Jvm.Cond.static ({ cls := "SturmRoots", name := "divisorOf", desc := "(LSturmRoots$Poly;LSturmRoots$Poly;)LSturmRoots$Poly;" } : Jvm.MethodName)) ∈ lw_all := lw_g (lw_at lw_m5 114 rfl) rfl
theorem q1144 : (Jvm.Cond.code ({ cls := "SturmRoots", name := "divisorOf", desc := "(LSturmRoots$Poly;LSturmRoots$Poly;)LSturmRoots$Poly;" } : Jvm.MethodName) prog_1_method_9_code (5 : Nat) (Option.some (Jvm.ClassFile.FieldType.object "SturmRoots$Poly"))) ∈ lw_all := lw_g (lw_at lw_m5 115 rfl) rfl
theorem q1145 : (Jvm.Cond.methodLink "SturmRoots" (104 : Nat) ({ cls := "SturmRoots", name := "remainder", desc := "(LSturmRoots$Poly;LSturmRoots$Poly;)LSturmRoots$Poly;" } : Jvm.MethodName)) ∈ lw_all := lw_g (lw_at lw_m5 116 rfl) rfl
theorem q1146 : (Jvm.Cond.static ({ cls := "SturmRoots", name := "remainder", desc := "(LSturmRoots$Poly;LSturmRoots$Poly;)LSturmRoots$Poly;" } : Jvm.MethodName)) ∈ lw_all := lw_g (lw_at lw_m5 117 rfl) rfl
theorem q1147 : (Jvm.Cond.code ({ cls := "SturmRoots", name := "remainder", desc := "(LSturmRoots$Poly;LSturmRoots$Poly;)LSturmRoots$Poly;" } : Jvm.MethodName) prog_1_method_7_code (10 : Nat) (Option.some (Jvm.ClassFile.FieldType.object "SturmRoots$Poly"))) ∈ lw_all := lw_g (lw_at lw_m5 118 rfl) rfl
theorem q1148 : (Jvm.Cond.methodLink "SturmRoots" (64 : Nat) ({ cls := "SturmRoots$Poly", name := "leading", desc := "()Ljava/math/BigInteger;" } : Jvm.MethodName)) ∈ lw_all := lw_g (lw_at lw_m5 119 rfl) rfl
theorem q1152 : (Jvm.Cond.methodLink "SturmRoots" (67 : Nat) ({ cls := "java/math/BigInteger", name := "signum", desc := "()I" } : Jvm.MethodName)) ∈ lw_all := lw_g (lw_at lw_m5 123 rfl) rfl
theorem q1153 : (Jvm.Cond.methodLink "SturmRoots" (97 : Nat) ({ cls := "java/math/BigInteger", name := "subtract", desc := "(Ljava/math/BigInteger;)Ljava/math/BigInteger;" } : Jvm.MethodName)) ∈ lw_all := lw_g (lw_at lw_m5 124 rfl) rfl
theorem q1154 : (Jvm.Cond.methodLink "SturmRoots" (108 : Nat) ({ cls := "SturmRoots", name := "primitive", desc := "(LSturmRoots$Poly;)LSturmRoots$Poly;" } : Jvm.MethodName)) ∈ lw_all := lw_g (lw_at lw_m5 125 rfl) rfl
theorem q1155 : (Jvm.Cond.static ({ cls := "SturmRoots", name := "primitive", desc := "(LSturmRoots$Poly;)LSturmRoots$Poly;" } : Jvm.MethodName)) ∈ lw_all := lw_g (lw_at lw_m5 126 rfl) rfl
theorem q1156 : (Jvm.Cond.code ({ cls := "SturmRoots", name := "primitive", desc := "(LSturmRoots$Poly;)LSturmRoots$Poly;" } : Jvm.MethodName) prog_1_method_5_code (6 : Nat) (Option.some (Jvm.ClassFile.FieldType.object "SturmRoots$Poly"))) ∈ lw_all := lw_g (lw_at lw_m5 127 rfl) rfl
theorem q1157 : (Jvm.Cond.methodLink "SturmRoots" (77 : Nat) ({ cls := "java/math/BigInteger", name := "equals", desc := "(Ljava/lang/Object;)Z" } : Jvm.MethodName)) ∈ lw_all := lw_g (lw_at lw_m5 128 rfl) rfl
theorem q1161 : (Jvm.Cond.methodLink "SturmRoots" (80 : Nat) ({ cls := "java/math/BigInteger", name := "gcd", desc := "(Ljava/math/BigInteger;)Ljava/math/BigInteger;" } : Jvm.MethodName)) ∈ lw_all := lw_g (lw_at lw_m5 132 rfl) rfl
theorem q1422 : (Jvm.Cond.methodLink "SturmRoots" (84 : Nat) ({ cls := "java/math/BigInteger", name := "divide", desc := "(Ljava/math/BigInteger;)Ljava/math/BigInteger;" } : Jvm.MethodName)) ∈ lw_all := lw_g (lw_at lw_m6 153 rfl) rfl
theorem q1444 : (Jvm.Cond.methodLink "SturmRoots" (111 : Nat) ({ cls := "SturmRoots", name := "positive", desc := "(LSturmRoots$Poly;)LSturmRoots$Poly;" } : Jvm.MethodName)) ∈ lw_all := lw_g (lw_at lw_m6 175 rfl) rfl
theorem q1445 : (Jvm.Cond.static ({ cls := "SturmRoots", name := "positive", desc := "(LSturmRoots$Poly;)LSturmRoots$Poly;" } : Jvm.MethodName)) ∈ lw_all := lw_g (lw_at lw_m6 176 rfl) rfl
theorem q1446 : (Jvm.Cond.code ({ cls := "SturmRoots", name := "positive", desc := "(LSturmRoots$Poly;)LSturmRoots$Poly;" } : Jvm.MethodName) prog_1_method_4_code (1 : Nat) (Option.some (Jvm.ClassFile.FieldType.object "SturmRoots$Poly"))) ∈ lw_all := lw_g (lw_at lw_m6 177 rfl) rfl
theorem q1447 : (Jvm.Cond.methodLink "SturmRoots" (70 : Nat) ({ cls := "SturmRoots", name := "negated", desc := "(LSturmRoots$Poly;)LSturmRoots$Poly;" } : Jvm.MethodName)) ∈ lw_all := lw_g (lw_at lw_m6 178 rfl) rfl
theorem q1448 : (Jvm.Cond.static ({ cls := "SturmRoots", name := "negated", desc := "(LSturmRoots$Poly;)LSturmRoots$Poly;" } : Jvm.MethodName)) ∈ lw_all := lw_g (lw_at lw_m6 179 rfl) rfl
theorem q1449 : (Jvm.Cond.code ({ cls := "SturmRoots", name := "negated", desc := "(LSturmRoots$Poly;)LSturmRoots$Poly;" } : Jvm.MethodName) prog_1_method_3_code (4 : Nat) (Option.some (Jvm.ClassFile.FieldType.object "SturmRoots$Poly"))) ∈ lw_all := lw_g (lw_at lw_m6 180 rfl) rfl
theorem q1455 : (Jvm.Cond.instanceMethod ({ cls := "SturmRoots", name := "squareFreePart", desc := "(II)I" } : Jvm.MethodName)) ∈ lw_all := lw_g (lw_at lw_m6 186 rfl) rfl
theorem q1456 : (Jvm.Cond.selects "SturmRoots" ({ cls := "SturmRoots", name := "squareFreePart", desc := "(II)I" } : Jvm.MethodName) ({ cls := "SturmRoots", name := "squareFreePart", desc := "(II)I" } : Jvm.MethodName)) ∈ lw_all := lw_g (lw_at lw_m6 187 rfl) rfl
theorem q1457 : (Jvm.Cond.code ({ cls := "SturmRoots", name := "squareFreePart", desc := "(II)I" } : Jvm.MethodName) prog_1_method_33_code (3 : Nat) (Option.some Jvm.ClassFile.FieldType.int)) ∈ lw_all := lw_g (lw_at lw_m6 188 rfl) rfl
theorem q1458 : (Jvm.Cond.methodLink "SturmRoots" (187 : Nat) ({ cls := "SturmRoots", name := "mustNotBeZero", desc := "(I)LSturmRoots$Known;" } : Jvm.MethodName)) ∈ lw_all := lw_g (lw_at lw_m6 189 rfl) rfl
theorem q1459 : (Jvm.Cond.privateMethod ({ cls := "SturmRoots", name := "mustNotBeZero", desc := "(I)LSturmRoots$Known;" } : Jvm.MethodName)) ∈ lw_tbl := lw_at lw_m6 190 rfl
theorem q1460 : (Jvm.Cond.instanceMethod ({ cls := "SturmRoots", name := "mustNotBeZero", desc := "(I)LSturmRoots$Known;" } : Jvm.MethodName)) ∈ lw_all := lw_g (lw_at lw_m6 191 rfl) rfl
theorem q1461 : (Jvm.Cond.code ({ cls := "SturmRoots", name := "mustNotBeZero", desc := "(I)LSturmRoots$Known;" } : Jvm.MethodName) prog_1_method_20_code (2 : Nat) (Option.some (Jvm.ClassFile.FieldType.object "SturmRoots$Known"))) ∈ lw_all := lw_g (lw_at lw_m6 192 rfl) rfl
theorem q1462 : (Jvm.Cond.classLink "SturmRoots" (148 : Nat) "java/lang/ArithmeticException") ∈ lw_all := lw_g (lw_at lw_m6 193 rfl) rfl
theorem q1463 : (Jvm.Cond.methodLink "SturmRoots" (150 : Nat) ({ cls := "java/lang/ArithmeticException", name := "<init>", desc := "()V" } : Jvm.MethodName)) ∈ lw_all := lw_g (lw_at lw_m6 194 rfl) rfl
theorem q1467 : (Jvm.Cond.methodLink "SturmRoots" (191 : Nat) ({ cls := "SturmRoots$Known", name := "free", desc := "()LSturmRoots$Poly;" } : Jvm.MethodName)) ∈ lw_all := lw_g (lw_at lw_m6 198 rfl) rfl
theorem q1476 : (Jvm.Cond.static ({ cls := "SturmRoots", name := "sturm", desc := "(LSturmRoots$Poly;)Ljava/util/ArrayList;" } : Jvm.MethodName)) ∈ lw_all := lw_g (lw_at lw_m6 207 rfl) rfl
theorem q1477 : (Jvm.Cond.code ({ cls := "SturmRoots", name := "sturm", desc := "(LSturmRoots$Poly;)Ljava/util/ArrayList;" } : Jvm.MethodName) prog_1_method_10_code (4 : Nat) (Option.some (Jvm.ClassFile.FieldType.object "java/util/ArrayList"))) ∈ lw_all := lw_g (lw_at lw_m6 208 rfl) rfl
theorem q1486 : (Jvm.Cond.static ({ cls := "SturmRoots", name := "quotient", desc := "(LSturmRoots$Poly;LSturmRoots$Poly;)LSturmRoots$Poly;" } : Jvm.MethodName)) ∈ lw_all := lw_g (lw_at lw_m6 217 rfl) rfl
theorem q1487 : (Jvm.Cond.code ({ cls := "SturmRoots", name := "quotient", desc := "(LSturmRoots$Poly;LSturmRoots$Poly;)LSturmRoots$Poly;" } : Jvm.MethodName) prog_1_method_8_code (8 : Nat) (Option.some (Jvm.ClassFile.FieldType.object "SturmRoots$Poly"))) ∈ lw_all := lw_g (lw_at lw_m6 218 rfl) rfl
theorem q1493 : (Jvm.Cond.instanceMethod ({ cls := "SturmRoots", name := "sturmLength", desc := "(I)I" } : Jvm.MethodName)) ∈ lw_all := lw_g (lw_at lw_m6 224 rfl) rfl
theorem q1494 : (Jvm.Cond.selects "SturmRoots" ({ cls := "SturmRoots", name := "sturmLength", desc := "(I)I" } : Jvm.MethodName) ({ cls := "SturmRoots", name := "sturmLength", desc := "(I)I" } : Jvm.MethodName)) ∈ lw_all := lw_g (lw_at lw_m6 225 rfl) rfl
theorem q1495 : (Jvm.Cond.code ({ cls := "SturmRoots", name := "sturmLength", desc := "(I)I" } : Jvm.MethodName) prog_1_method_34_code (2 : Nat) (Option.some Jvm.ClassFile.FieldType.int)) ∈ lw_all := lw_g (lw_at lw_m6 226 rfl) rfl
theorem q1496 : (Jvm.Cond.methodLink "SturmRoots" (195 : Nat) ({ cls := "SturmRoots$Known", name := "sequence", desc := "()Ljava/util/ArrayList;" } : Jvm.MethodName)) ∈ lw_all := lw_g (lw_at lw_m6 227 rfl) rfl
theorem q1502 : (Jvm.Cond.instanceMethod ({ cls := "SturmRoots", name := "sturmCoefficient", desc := "(III)J" } : Jvm.MethodName)) ∈ lw_all := lw_g (lw_at lw_m6 233 rfl) rfl
theorem q1503 : (Jvm.Cond.selects "SturmRoots" ({ cls := "SturmRoots", name := "sturmCoefficient", desc := "(III)J" } : Jvm.MethodName) ({ cls := "SturmRoots", name := "sturmCoefficient", desc := "(III)J" } : Jvm.MethodName)) ∈ lw_all := lw_g (lw_at lw_m6 234 rfl) rfl
theorem q1504 : (Jvm.Cond.code ({ cls := "SturmRoots", name := "sturmCoefficient", desc := "(III)J" } : Jvm.MethodName) prog_1_method_36_code (4 : Nat) (Option.some Jvm.ClassFile.FieldType.long)) ∈ lw_all := lw_g (lw_at lw_m6 235 rfl) rfl
theorem q1505 : (Jvm.Cond.methodLink "SturmRoots" (202 : Nat) ({ cls := "SturmRoots", name := "element", desc := "(II)LSturmRoots$Poly;" } : Jvm.MethodName)) ∈ lw_all := lw_g (lw_at lw_m6 236 rfl) rfl
theorem q1506 : (Jvm.Cond.privateMethod ({ cls := "SturmRoots", name := "element", desc := "(II)LSturmRoots$Poly;" } : Jvm.MethodName)) ∈ lw_tbl := lw_at lw_m6 237 rfl
theorem q1507 : (Jvm.Cond.instanceMethod ({ cls := "SturmRoots", name := "element", desc := "(II)LSturmRoots$Poly;" } : Jvm.MethodName)) ∈ lw_all := lw_g (lw_at lw_m6 238 rfl) rfl
theorem q1508 : (Jvm.Cond.code ({ cls := "SturmRoots", name := "element", desc := "(II)LSturmRoots$Poly;" } : Jvm.MethodName) prog_1_method_35_code (4 : Nat) (Option.some (Jvm.ClassFile.FieldType.object "SturmRoots$Poly"))) ∈ lw_all := lw_g (lw_at lw_m6 239 rfl) rfl
theorem q1509 : (Jvm.Cond.classLink "SturmRoots" (199 : Nat) "java/util/NoSuchElementException") ∈ lw_all := lw_g (lw_at lw_m7 0 rfl) rfl
theorem q1510 : (Jvm.Cond.methodLink "SturmRoots" (201 : Nat) ({ cls := "java/util/NoSuchElementException", name := "<init>", desc := "()V" } : Jvm.MethodName)) ∈ lw_all := lw_g (lw_at lw_m7 1 rfl) rfl
theorem q1515 : (Jvm.Cond.instanceMethod ({ cls := "SturmRoots", name := "sturmDegree", desc := "(II)I" } : Jvm.MethodName)) ∈ lw_all := lw_g (lw_at lw_m7 6 rfl) rfl
theorem q1516 : (Jvm.Cond.selects "SturmRoots" ({ cls := "SturmRoots", name := "sturmDegree", desc := "(II)I" } : Jvm.MethodName) ({ cls := "SturmRoots", name := "sturmDegree", desc := "(II)I" } : Jvm.MethodName)) ∈ lw_all := lw_g (lw_at lw_m7 7 rfl) rfl
theorem q1517 : (Jvm.Cond.code ({ cls := "SturmRoots", name := "sturmDegree", desc := "(II)I" } : Jvm.MethodName) prog_1_method_37_code (3 : Nat) (Option.some Jvm.ClassFile.FieldType.int)) ∈ lw_all := lw_g (lw_at lw_m7 8 rfl) rfl
theorem q1522 : (Jvm.Cond.instanceMethod ({ cls := "SturmRoots", name := "signChanges", desc := "(III)I" } : Jvm.MethodName)) ∈ lw_all := lw_g (lw_at lw_m7 13 rfl) rfl
theorem q1523 : (Jvm.Cond.selects "SturmRoots" ({ cls := "SturmRoots", name := "signChanges", desc := "(III)I" } : Jvm.MethodName) ({ cls := "SturmRoots", name := "signChanges", desc := "(III)I" } : Jvm.MethodName)) ∈ lw_all := lw_g (lw_at lw_m7 14 rfl) rfl
theorem q1524 : (Jvm.Cond.code ({ cls := "SturmRoots", name := "signChanges", desc := "(III)I" } : Jvm.MethodName) prog_1_method_38_code (4 : Nat) (Option.some Jvm.ClassFile.FieldType.int)) ∈ lw_all := lw_g (lw_at lw_m7 15 rfl) rfl
theorem q1525 : (Jvm.Cond.methodLink "SturmRoots" (210 : Nat) ({ cls := "SturmRoots", name := "mustBePoint", desc := "(II)V" } : Jvm.MethodName)) ∈ lw_all := lw_g (lw_at lw_m7 16 rfl) rfl
theorem q1526 : (Jvm.Cond.static ({ cls := "SturmRoots", name := "mustBePoint", desc := "(II)V" } : Jvm.MethodName)) ∈ lw_all := lw_g (lw_at lw_m7 17 rfl) rfl
theorem q1527 : (Jvm.Cond.code ({ cls := "SturmRoots", name := "mustBePoint", desc := "(II)V" } : Jvm.MethodName) prog_1_method_17_code (2 : Nat) (Option.none : Option Jvm.ClassFile.FieldType)) ∈ lw_all := lw_g (lw_at lw_m7 18 rfl) rfl
theorem q1528 : (Jvm.Cond.constant "SturmRoots" (136 : Nat) (-1000000 : Int32)) ∈ lw_all := lw_g (lw_at lw_m7 19 rfl) rfl
theorem q1529 : (Jvm.Cond.constant "SturmRoots" (137 : Nat) (1000000 : Int32)) ∈ lw_all := lw_g (lw_at lw_m7 20 rfl) rfl
theorem q1530 : (Jvm.Cond.methodLink "SturmRoots" (214 : Nat) ({ cls := "SturmRoots", name := "changesAt", desc := "(Ljava/util/ArrayList;JI)I" } : Jvm.MethodName)) ∈ lw_all := lw_g (lw_at lw_m7 21 rfl) rfl
theorem q1531 : (Jvm.Cond.static ({ cls := "SturmRoots", name := "changesAt", desc := "(Ljava/util/ArrayList;JI)I" } : Jvm.MethodName)) ∈ lw_all := lw_g (lw_at lw_m7 22 rfl) rfl
theorem q1532 : (Jvm.Cond.code ({ cls := "SturmRoots", name := "changesAt", desc := "(Ljava/util/ArrayList;JI)I" } : Jvm.MethodName) prog_1_method_12_code (9 : Nat) (Option.some Jvm.ClassFile.FieldType.int)) ∈ lw_all := lw_g (lw_at lw_m7 23 rfl) rfl
theorem q1533 : (Jvm.Cond.methodLink "SturmRoots" (129 : Nat) ({ cls := "SturmRoots", name := "signAt", desc := "(LSturmRoots$Poly;JI)I" } : Jvm.MethodName)) ∈ lw_all := lw_g (lw_at lw_m7 24 rfl) rfl
theorem q1534 : (Jvm.Cond.static ({ cls := "SturmRoots", name := "signAt", desc := "(LSturmRoots$Poly;JI)I" } : Jvm.MethodName)) ∈ lw_all := lw_g (lw_at lw_m7 25 rfl) rfl
theorem q1535 : (Jvm.Cond.code ({ cls := "SturmRoots", name := "signAt", desc := "(LSturmRoots$Poly;JI)I" } : Jvm.MethodName) prog_1_method_11_code (7 : Nat) (Option.some Jvm.ClassFile.FieldType.int)) ∈ lw_all := lw_g (lw_at lw_m7 26 rfl) rfl
theorem q1536 : (Jvm.Cond.methodLink "SturmRoots" (124 : Nat) ({ cls := "java/math/BigInteger", name := "shiftLeft", desc := "(I)Ljava/math/BigInteger;" } : Jvm.MethodName)) ∈ lw_all := lw_g (lw_at lw_m7 27 rfl) rfl
theorem q1541 : (Jvm.Cond.instanceMethod ({ cls := "SturmRoots", name := "sign", desc := "(III)I" } : Jvm.MethodName)) ∈ lw_all := lw_g (lw_at lw_m7 32 rfl) rfl
theorem q1542 : (Jvm.Cond.selects "SturmRoots" ({ cls := "SturmRoots", name := "sign", desc := "(III)I" } : Jvm.MethodName) ({ cls := "SturmRoots", name := "sign", desc := "(III)I" } : Jvm.MethodName)) ∈ lw_all := lw_g (lw_at lw_m7 33 rfl) rfl
theorem q1543 : (Jvm.Cond.code ({ cls := "SturmRoots", name := "sign", desc := "(III)I" } : Jvm.MethodName) prog_1_method_39_code (4 : Nat) (Option.some Jvm.ClassFile.FieldType.int)) ∈ lw_all := lw_g (lw_at lw_m7 34 rfl) rfl
theorem q1548 : (Jvm.Cond.instanceMethod ({ cls := "SturmRoots", name := "countDistinct", desc := "(IIIII)I" } : Jvm.MethodName)) ∈ lw_all := lw_g (lw_at lw_m7 39 rfl) rfl
theorem q1549 : (Jvm.Cond.selects "SturmRoots" ({ cls := "SturmRoots", name := "countDistinct", desc := "(IIIII)I" } : Jvm.MethodName) ({ cls := "SturmRoots", name := "countDistinct", desc := "(IIIII)I" } : Jvm.MethodName)) ∈ lw_all := lw_g (lw_at lw_m7 40 rfl) rfl
theorem q1550 : (Jvm.Cond.code ({ cls := "SturmRoots", name := "countDistinct", desc := "(IIIII)I" } : Jvm.MethodName) prog_1_method_41_code (7 : Nat) (Option.some Jvm.ClassFile.FieldType.int)) ∈ lw_all := lw_g (lw_at lw_m7 41 rfl) rfl
theorem q1551 : (Jvm.Cond.methodLink "SturmRoots" (218 : Nat) ({ cls := "SturmRoots", name := "between", desc := "(IIIII)LSturmRoots$Known;" } : Jvm.MethodName)) ∈ lw_all := lw_g (lw_at lw_m7 42 rfl) rfl
theorem q1552 : (Jvm.Cond.privateMethod ({ cls := "SturmRoots", name := "between", desc := "(IIIII)LSturmRoots$Known;" } : Jvm.MethodName)) ∈ lw_tbl := lw_at lw_m7 43 rfl
theorem q1553 : (Jvm.Cond.instanceMethod ({ cls := "SturmRoots", name := "between", desc := "(IIIII)LSturmRoots$Known;" } : Jvm.MethodName)) ∈ lw_all := lw_g (lw_at lw_m7 44 rfl) rfl
theorem q1554 : (Jvm.Cond.code ({ cls := "SturmRoots", name := "between", desc := "(IIIII)LSturmRoots$Known;" } : Jvm.MethodName) prog_1_method_40_code (7 : Nat) (Option.some (Jvm.ClassFile.FieldType.object "SturmRoots$Known"))) ∈ lw_all := lw_g (lw_at lw_m7 45 rfl) rfl
theorem q1559 : (Jvm.Cond.instanceMethod ({ cls := "SturmRoots", name := "countAll", desc := "(IIIII)I" } : Jvm.MethodName)) ∈ lw_all := lw_g (lw_at lw_m7 50 rfl) rfl
theorem q1560 : (Jvm.Cond.selects "SturmRoots" ({ cls := "SturmRoots", name := "countAll", desc := "(IIIII)I" } : Jvm.MethodName) ({ cls := "SturmRoots", name := "countAll", desc := "(IIIII)I" } : Jvm.MethodName)) ∈ lw_all := lw_g (lw_at lw_m7 51 rfl) rfl
theorem q1561 : (Jvm.Cond.code ({ cls := "SturmRoots", name := "countAll", desc := "(IIIII)I" } : Jvm.MethodName) prog_1_method_42_code (8 : Nat) (Option.some Jvm.ClassFile.FieldType.int)) ∈ lw_all := lw_g (lw_at lw_m7 52 rfl) rfl
theorem q1562 : (Jvm.Cond.methodLink "SturmRoots" (222 : Nat) ({ cls := "SturmRoots$Known", name := "divisor", desc := "()LSturmRoots$Poly;" } : Jvm.MethodName)) ∈ lw_all := lw_g (lw_at lw_m7 53 rfl) rfl
theorem q1567 : (Jvm.Cond.instanceMethod ({ cls := "SturmRoots", name := "distinctRoots", desc := "(I)I" } : Jvm.MethodName)) ∈ lw_all := lw_g (lw_at lw_m7 58 rfl) rfl
theorem q1568 : (Jvm.Cond.selects "SturmRoots" ({ cls := "SturmRoots", name := "distinctRoots", desc := "(I)I" } : Jvm.MethodName) ({ cls := "SturmRoots", name := "distinctRoots", desc := "(I)I" } : Jvm.MethodName)) ∈ lw_all := lw_g (lw_at lw_m7 59 rfl) rfl
theorem q1569 : (Jvm.Cond.code ({ cls := "SturmRoots", name := "distinctRoots", desc := "(I)I" } : Jvm.MethodName) prog_1_method_43_code (2 : Nat) (Option.some Jvm.ClassFile.FieldType.int)) ∈ lw_all := lw_g (lw_at lw_m7 60 rfl) rfl
theorem q1570 : (Jvm.Cond.methodLink "SturmRoots" (225 : Nat) ({ cls := "SturmRoots", name := "allRoots", desc := "(Ljava/util/ArrayList;)I" } : Jvm.MethodName)) ∈ lw_all := lw_g (lw_at lw_m7 61 rfl) rfl
theorem q1571 : (Jvm.Cond.static ({ cls := "SturmRoots", name := "allRoots", desc := "(Ljava/util/ArrayList;)I" } : Jvm.MethodName)) ∈ lw_all := lw_g (lw_at lw_m7 62 rfl) rfl
theorem q1572 : (Jvm.Cond.code ({ cls := "SturmRoots", name := "allRoots", desc := "(Ljava/util/ArrayList;)I" } : Jvm.MethodName) prog_1_method_13_code (8 : Nat) (Option.some Jvm.ClassFile.FieldType.int)) ∈ lw_all := lw_g (lw_at lw_m7 63 rfl) rfl
theorem q1577 : (Jvm.Cond.instanceMethod ({ cls := "SturmRoots", name := "coefficientSignChanges", desc := "(I)I" } : Jvm.MethodName)) ∈ lw_all := lw_g (lw_at lw_m7 68 rfl) rfl
theorem q1578 : (Jvm.Cond.selects "SturmRoots" ({ cls := "SturmRoots", name := "coefficientSignChanges", desc := "(I)I" } : Jvm.MethodName) ({ cls := "SturmRoots", name := "coefficientSignChanges", desc := "(I)I" } : Jvm.MethodName)) ∈ lw_all := lw_g (lw_at lw_m7 69 rfl) rfl
theorem q1579 : (Jvm.Cond.code ({ cls := "SturmRoots", name := "coefficientSignChanges", desc := "(I)I" } : Jvm.MethodName) prog_1_method_44_code (2 : Nat) (Option.some Jvm.ClassFile.FieldType.int)) ∈ lw_all := lw_g (lw_at lw_m7 70 rfl) rfl
theorem q1580 : (Jvm.Cond.methodLink "SturmRoots" (229 : Nat) ({ cls := "SturmRoots", name := "signChangesOf", desc := "(LSturmRoots$Poly;)I" } : Jvm.MethodName)) ∈ lw_all := lw_g (lw_at lw_m7 71 rfl) rfl
theorem q1581 : (Jvm.Cond.static ({ cls := "SturmRoots", name := "signChangesOf", desc := "(LSturmRoots$Poly;)I" } : Jvm.MethodName)) ∈ lw_all := lw_g (lw_at lw_m7 72 rfl) rfl
theorem q1582 : (Jvm.Cond.code ({ cls := "SturmRoots", name := "signChangesOf", desc := "(LSturmRoots$Poly;)I" } : Jvm.MethodName) prog_1_method_14_code (5 : Nat) (Option.some Jvm.ClassFile.FieldType.int)) ∈ lw_all := lw_g (lw_at lw_m7 73 rfl) rfl
theorem q1587 : (Jvm.Cond.instanceMethod ({ cls := "SturmRoots", name := "isolate", desc := "(I)I" } : Jvm.MethodName)) ∈ lw_all := lw_g (lw_at lw_m7 78 rfl) rfl
theorem q1588 : (Jvm.Cond.selects "SturmRoots" ({ cls := "SturmRoots", name := "isolate", desc := "(I)I" } : Jvm.MethodName) ({ cls := "SturmRoots", name := "isolate", desc := "(I)I" } : Jvm.MethodName)) ∈ lw_all := lw_g (lw_at lw_m7 79 rfl) rfl
theorem q1589 : (Jvm.Cond.code ({ cls := "SturmRoots", name := "isolate", desc := "(I)I" } : Jvm.MethodName) prog_1_method_45_code (6 : Nat) (Option.some Jvm.ClassFile.FieldType.int)) ∈ lw_all := lw_g (lw_at lw_m7 80 rfl) rfl
theorem q1590 : (Jvm.Cond.methodLink "SturmRoots" (233 : Nat) ({ cls := "java/math/BigInteger", name := "max", desc := "(Ljava/math/BigInteger;)Ljava/math/BigInteger;" } : Jvm.MethodName)) ∈ lw_all := lw_g (lw_at lw_m7 81 rfl) rfl
theorem q1596 : (Jvm.Cond.methodLink "SturmRoots" (241 : Nat) ({ cls := "SturmRoots$Interval", name := "<init>", desc := "(IIII)V" } : Jvm.MethodName)) ∈ lw_all := lw_g (lw_at lw_m7 87 rfl) rfl
theorem q1601 : (Jvm.Cond.fieldLinkNest "SturmRoots" (252 : Nat) "SturmRoots$Interval" "level" "I" "SturmRoots") ∈ lw_tbl := lw_at lw_m7 92 rfl
theorem q1603 : (Jvm.Cond.fieldLinkNest "SturmRoots" (255 : Nat) "SturmRoots$Interval" "lesser" "I" "SturmRoots") ∈ lw_tbl := lw_at lw_m7 94 rfl
theorem q1605 : (Jvm.Cond.fieldLinkNest "SturmRoots" (258 : Nat) "SturmRoots$Interval" "greater" "I" "SturmRoots") ∈ lw_tbl := lw_at lw_m7 96 rfl
theorem q1607 : (Jvm.Cond.fieldLinkNest "SturmRoots" (248 : Nat) "SturmRoots$Interval" "roots" "I" "SturmRoots") ∈ lw_tbl := lw_at lw_m7 98 rfl
theorem q1621 : (Jvm.Cond.instanceMethod ({ cls := "SturmRoots", name := "rootsIn", desc := "(I)I" } : Jvm.MethodName)) ∈ lw_all := lw_g (lw_at lw_m7 112 rfl) rfl
theorem q1622 : (Jvm.Cond.selects "SturmRoots" ({ cls := "SturmRoots", name := "rootsIn", desc := "(I)I" } : Jvm.MethodName) ({ cls := "SturmRoots", name := "rootsIn", desc := "(I)I" } : Jvm.MethodName)) ∈ lw_all := lw_g (lw_at lw_m7 113 rfl) rfl
theorem q1623 : (Jvm.Cond.code ({ cls := "SturmRoots", name := "rootsIn", desc := "(I)I" } : Jvm.MethodName) prog_1_method_48_code (2 : Nat) (Option.some Jvm.ClassFile.FieldType.int)) ∈ lw_all := lw_g (lw_at lw_m7 114 rfl) rfl
theorem q1624 : (Jvm.Cond.methodLink "SturmRoots" (244 : Nat) ({ cls := "SturmRoots", name := "mustBeInterval", desc := "(I)LSturmRoots$Interval;" } : Jvm.MethodName)) ∈ lw_all := lw_g (lw_at lw_m7 115 rfl) rfl
theorem q1625 : (Jvm.Cond.privateMethod ({ cls := "SturmRoots", name := "mustBeInterval", desc := "(I)LSturmRoots$Interval;" } : Jvm.MethodName)) ∈ lw_tbl := lw_at lw_m7 116 rfl
theorem q1626 : (Jvm.Cond.instanceMethod ({ cls := "SturmRoots", name := "mustBeInterval", desc := "(I)LSturmRoots$Interval;" } : Jvm.MethodName)) ∈ lw_all := lw_g (lw_at lw_m7 117 rfl) rfl
theorem q1627 : (Jvm.Cond.code ({ cls := "SturmRoots", name := "mustBeInterval", desc := "(I)LSturmRoots$Interval;" } : Jvm.MethodName) prog_1_method_47_code (2 : Nat) (Option.some (Jvm.ClassFile.FieldType.object "SturmRoots$Interval"))) ∈ lw_all := lw_g (lw_at lw_m7 118 rfl) rfl
theorem q1632 : (Jvm.Cond.instanceMethod ({ cls := "SturmRoots", name := "interval", desc := "(IC)I" } : Jvm.MethodName)) ∈ lw_all := lw_g (lw_at lw_m7 123 rfl) rfl
theorem q1633 : (Jvm.Cond.selects "SturmRoots" ({ cls := "SturmRoots", name := "interval", desc := "(IC)I" } : Jvm.MethodName) ({ cls := "SturmRoots", name := "interval", desc := "(IC)I" } : Jvm.MethodName)) ∈ lw_all := lw_g (lw_at lw_m7 124 rfl) rfl
theorem q1634 : (Jvm.Cond.code ({ cls := "SturmRoots", name := "interval", desc := "(IC)I" } : Jvm.MethodName) prog_1_method_49_code (4 : Nat) (Option.some Jvm.ClassFile.FieldType.int)) ∈ lw_all := lw_g (lw_at lw_m7 125 rfl) rfl
theorem q1639 : (Jvm.Cond.instanceMethod ({ cls := "SturmRoots", name := "bisect", desc := "(I)I" } : Jvm.MethodName)) ∈ lw_all := lw_g (lw_at lw_m7 130 rfl) rfl
theorem q1640 : (Jvm.Cond.selects "SturmRoots" ({ cls := "SturmRoots", name := "bisect", desc := "(I)I" } : Jvm.MethodName) ({ cls := "SturmRoots", name := "bisect", desc := "(I)I" } : Jvm.MethodName)) ∈ lw_all := lw_g (lw_at lw_m7 131 rfl) rfl
theorem q1641 : (Jvm.Cond.code ({ cls := "SturmRoots", name := "bisect", desc := "(I)I" } : Jvm.MethodName) prog_1_method_51_code (10 : Nat) (Option.some Jvm.ClassFile.FieldType.int)) ∈ lw_all := lw_g (lw_at lw_m7 132 rfl) rfl
theorem q1642 : (Jvm.Cond.methodLink "SturmRoots" (261 : Nat) ({ cls := "SturmRoots", name := "isRoot", desc := "(JI)Z" } : Jvm.MethodName)) ∈ lw_all := lw_g (lw_at lw_m7 133 rfl) rfl
theorem q1643 : (Jvm.Cond.privateMethod ({ cls := "SturmRoots", name := "isRoot", desc := "(JI)Z" } : Jvm.MethodName)) ∈ lw_tbl := lw_at lw_m7 134 rfl
theorem q1644 : (Jvm.Cond.instanceMethod ({ cls := "SturmRoots", name := "isRoot", desc := "(JI)Z" } : Jvm.MethodName)) ∈ lw_all := lw_g (lw_at lw_m7 135 rfl) rfl
theorem q1645 : (Jvm.Cond.code ({ cls := "SturmRoots", name := "isRoot", desc := "(JI)Z" } : Jvm.MethodName) prog_1_method_50_code (4 : Nat) (Option.some Jvm.ClassFile.FieldType.boolean)) ∈ lw_all := lw_g (lw_at lw_m7 136 rfl) rfl
theorem q1646 : (Jvm.Cond.methodLink "SturmRoots" (265 : Nat) ({ cls := "SturmRoots$Known", name := "freeSequence", desc := "()Ljava/util/ArrayList;" } : Jvm.MethodName)) ∈ lw_all := lw_g (lw_at lw_m7 137 rfl) rfl
theorem q1652 : (Jvm.Cond.methodLink "SturmRoots" (268 : Nat) ({ cls := "java/util/ArrayList", name := "listIterator", desc := "()Ljava/util/ListIterator;" } : Jvm.MethodName)) ∈ lw_all := lw_g (lw_at lw_m7 143 rfl) rfl
theorem q1670 : (Jvm.Cond.interfaceEntry "SturmRoots" (272 : Nat)) ∈ lw_tbl := lw_at lw_m7 161 rfl
theorem q1671 : (Jvm.Cond.methodLink "SturmRoots" (272 : Nat) ({ cls := "java/util/ListIterator", name := "next", desc := "()Ljava/lang/Object;" } : Jvm.MethodName)) ∈ lw_all := lw_g (lw_at lw_m7 162 rfl) rfl
theorem q1676 : (Jvm.Cond.interfaceEntry "SturmRoots" (275 : Nat)) ∈ lw_tbl := lw_at lw_m7 167 rfl
theorem q1677 : (Jvm.Cond.methodLink "SturmRoots" (275 : Nat) ({ cls := "java/util/ListIterator", name := "set", desc := "(Ljava/lang/Object;)V" } : Jvm.MethodName)) ∈ lw_all := lw_g (lw_at lw_m7 168 rfl) rfl
theorem q1694 : (Jvm.Cond.interfaceEntry "SturmRoots" (278 : Nat)) ∈ lw_tbl := lw_at lw_m7 185 rfl
theorem q1695 : (Jvm.Cond.methodLink "SturmRoots" (278 : Nat) ({ cls := "java/util/ListIterator", name := "add", desc := "(Ljava/lang/Object;)V" } : Jvm.MethodName)) ∈ lw_all := lw_g (lw_at lw_m7 186 rfl) rfl
theorem q1728 : (Jvm.Cond.instanceMethod ({ cls := "SturmRoots", name := "refine", desc := "(II)I" } : Jvm.MethodName)) ∈ lw_all := lw_g (lw_at lw_m7 219 rfl) rfl
theorem q1729 : (Jvm.Cond.selects "SturmRoots" ({ cls := "SturmRoots", name := "refine", desc := "(II)I" } : Jvm.MethodName) ({ cls := "SturmRoots", name := "refine", desc := "(II)I" } : Jvm.MethodName)) ∈ lw_all := lw_g (lw_at lw_m7 220 rfl) rfl
theorem q1730 : (Jvm.Cond.code ({ cls := "SturmRoots", name := "refine", desc := "(II)I" } : Jvm.MethodName) prog_1_method_52_code (11 : Nat) (Option.some Jvm.ClassFile.FieldType.int)) ∈ lw_all := lw_g (lw_at lw_m7 221 rfl) rfl
theorem q1735 : (Jvm.Cond.instanceMethod ({ cls := "SturmRoots", name := "multiplicity", desc := "(I)I" } : Jvm.MethodName)) ∈ lw_all := lw_g (lw_at lw_m7 226 rfl) rfl
theorem q1736 : (Jvm.Cond.selects "SturmRoots" ({ cls := "SturmRoots", name := "multiplicity", desc := "(I)I" } : Jvm.MethodName) ({ cls := "SturmRoots", name := "multiplicity", desc := "(I)I" } : Jvm.MethodName)) ∈ lw_all := lw_g (lw_at lw_m7 227 rfl) rfl
theorem q1737 : (Jvm.Cond.code ({ cls := "SturmRoots", name := "multiplicity", desc := "(I)I" } : Jvm.MethodName) prog_1_method_54_code (5 : Nat) (Option.some Jvm.ClassFile.FieldType.int)) ∈ lw_all := lw_g (lw_at lw_m7 228 rfl) rfl
theorem q1738 : (Jvm.Cond.methodLink "SturmRoots" (283 : Nat) ({ cls := "SturmRoots", name := "hasRoot", desc := "(LSturmRoots$Known;LSturmRoots$Interval;)Z" } : Jvm.MethodName)) ∈ lw_all := lw_g (lw_at lw_m7 229 rfl) rfl
theorem q1739 : (Jvm.Cond.static ({ cls := "SturmRoots", name := "hasRoot", desc := "(LSturmRoots$Known;LSturmRoots$Interval;)Z" } : Jvm.MethodName)) ∈ lw_all := lw_g (lw_at lw_m7 230 rfl) rfl
theorem q1740 : (Jvm.Cond.code ({ cls := "SturmRoots", name := "hasRoot", desc := "(LSturmRoots$Known;LSturmRoots$Interval;)Z" } : Jvm.MethodName) prog_1_method_55_code (4 : Nat) (Option.some Jvm.ClassFile.FieldType.boolean)) ∈ lw_all := lw_g (lw_at lw_m7 231 rfl) rfl
theorem q1745 : (Jvm.Cond.instanceMethod ({ cls := "SturmRoots", name := "isTrue", desc := "(I)Z" } : Jvm.MethodName)) ∈ lw_all := lw_g (lw_at lw_m7 236 rfl) rfl
theorem q1746 : (Jvm.Cond.selects "SturmRoots" ({ cls := "SturmRoots", name := "isTrue", desc := "(I)Z" } : Jvm.MethodName) ({ cls := "SturmRoots", name := "isTrue", desc := "(I)Z" } : Jvm.MethodName)) ∈ lw_all := lw_g (lw_at lw_m7 237 rfl) rfl
theorem q1747 : (Jvm.Cond.code ({ cls := "SturmRoots", name := "isTrue", desc := "(I)Z" } : Jvm.MethodName) prog_1_method_56_code (8 : Nat) (Option.some Jvm.ClassFile.FieldType.boolean)) ∈ lw_all := lw_g (lw_at lw_m7 238 rfl) rfl
theorem q1748 : (Jvm.Cond.constantLong "SturmRoots" (287 : Nat) (32768 : Int64)) ∈ lw_all := lw_g (lw_at lw_m7 239 rfl) rfl
theorem q1749 : (Jvm.Cond.constantLong "SturmRoots" (289 : Nat) (-32768 : Int64)) ∈ lw_all := lw_g (lw_at lw_m8 0 rfl) rfl
theorem q2171 : (Jvm.Cond.castable "SturmRoots" "java/lang/Object") ∈ lw_tbl := lw_at lw_m9 182 rfl
theorem in_X1 : ∀ w ∈ wsX10, w ∈ lw_all := lw_in wsX10 [275, 277, 279] (by decide +kernel) (by decide +kernel)
/-! SturmRoots$Known -/
set_option maxRecDepth 100000
def RX2 : String := "SturmRoots$Known"
def TX2 : u_T := fun k => match k with
  | 0 => ("SturmRoots$Known", "poly", "LSturmRoots$Poly;", true)
  | 1 => ("SturmRoots$Known", "sequence", "Ljava/util/ArrayList;", false)
  | 2 => ("SturmRoots$Known", "free", "LSturmRoots$Poly;", false)
  | _ => ("SturmRoots$Known", "freeSequence", "Ljava/util/ArrayList;", false)
def tyX2 : Nat → FieldType := fun k => match k with
  | 0 => .object "SturmRoots$Poly"
  | 1 => .object "java/util/ArrayList"
  | 2 => .object "SturmRoots$Poly"
  | _ => .object "java/util/ArrayList"
abbrev wsX20 : List Cond := u_ws RX2 TX2 4
theorem nmX2 : ∀ a, a < 4 → ∀ b, b < 4 → a ≠ b → (TX2 a).2.1 ≠ (TX2 b).2.1 := by decide +kernel
theorem tyX2_ok : ∀ k, k < 4 → parseFieldDescriptor (TX2 k).2.2.1 = some (tyX2 k) := by decide +kernel
abbrev cX2_init : ByteArray := prog_3_method_1_code
def yX2_init : MethodName := ⟨RX2, "<init>", "(LSturmRoots$Poly;)V"⟩
def dkwX2_init_0 : List UInt8 := [42, 183, 0, 1, 42, 43, 181, 0, 7, 177]
abbrev dktX2_init_0 : List UInt8 := dkwX2_init_0 ++ []
theorem dksX2_init_0 : cX2_init.data.toList.drop 0 = dktX2_init_0 := by decide +kernel
theorem dX2_init_0 : decode cX2_init 0 = .ok (.aload_n 0, 1) := dk_42 (dk_at dksX2_init_0 0 rfl rfl)
theorem dX2_init_1 : decode cX2_init 1 = .ok (.invokespecial 1, 3) := dk_183 0 1 (dk_at dksX2_init_0 1 rfl rfl)
theorem dX2_init_4 : decode cX2_init 4 = .ok (.aload_n 0, 1) := dk_42 (dk_at dksX2_init_0 4 rfl rfl)
theorem dX2_init_5 : decode cX2_init 5 = .ok (.aload_n 1, 1) := dk_43 (dk_at dksX2_init_0 5 rfl rfl)
theorem dX2_init_6 : decode cX2_init 6 = .ok (.putfield 7, 3) := dk_181 0 7 (dk_at dksX2_init_0 6 rfl rfl)
theorem dX2_init_9 : decode cX2_init 9 = .ok (.return_, 1) := dk_177 (dk_at dksX2_init_0 9 rfl rfl)
abbrev cX2_free : ByteArray := prog_3_method_4_code
def yX2_free : MethodName := ⟨RX2, "free", "()LSturmRoots$Poly;"⟩
def dkwX2_free_1 : List UInt8 := [184, 0, 45, 184, 0, 49, 181, 0, 38, 42, 180, 0, 38, 176]
abbrev dktX2_free_1 : List UInt8 := dkwX2_free_1 ++ []
def dkwX2_free_0 : List UInt8 := [42, 180, 0, 38, 199, 0, 28, 42, 42, 182, 0, 23, 3, 182, 0, 32, 192, 0, 36, 42, 182, 0, 41]
abbrev dktX2_free_0 : List UInt8 := dkwX2_free_0 ++ dktX2_free_1
theorem dksX2_free_0 : cX2_free.data.toList.drop 0 = dktX2_free_0 := by decide +kernel
theorem dksX2_free_1 : cX2_free.data.toList.drop 23 = dktX2_free_1 := dk_seg dksX2_free_0 23 rfl rfl
theorem dX2_free_0 : decode cX2_free 0 = .ok (.aload_n 0, 1) := dk_42 (dk_at dksX2_free_0 0 rfl rfl)
theorem dX2_free_1 : decode cX2_free 1 = .ok (.getfield 38, 3) := dk_180 0 38 (dk_at dksX2_free_0 1 rfl rfl)
theorem dX2_free_4 : decode cX2_free 4 = .ok (.ifnonnull 28, 3) := dk_199 0 28 (dk_at dksX2_free_0 4 rfl rfl)
theorem dX2_free_7 : decode cX2_free 7 = .ok (.aload_n 0, 1) := dk_42 (dk_at dksX2_free_0 7 rfl rfl)
theorem dX2_free_8 : decode cX2_free 8 = .ok (.aload_n 0, 1) := dk_42 (dk_at dksX2_free_0 8 rfl rfl)
theorem dX2_free_9 : decode cX2_free 9 = .ok (.invokevirtual 23, 3) := dk_182 0 23 (dk_at dksX2_free_0 9 rfl rfl)
theorem dX2_free_12 : decode cX2_free 12 = .ok (.iconst 0, 1) := dk_3 (dk_at dksX2_free_0 12 rfl rfl)
theorem dX2_free_13 : decode cX2_free 13 = .ok (.invokevirtual 32, 3) := dk_182 0 32 (dk_at dksX2_free_0 13 rfl rfl)
theorem dX2_free_16 : decode cX2_free 16 = .ok (.checkcast 36, 3) := dk_192 0 36 (dk_at dksX2_free_0 16 rfl rfl)
theorem dX2_free_19 : decode cX2_free 19 = .ok (.aload_n 0, 1) := dk_42 (dk_at dksX2_free_0 19 rfl rfl)
theorem dX2_free_20 : decode cX2_free 20 = .ok (.invokevirtual 41, 3) := dk_182 0 41 (dk_at dksX2_free_0 20 rfl rfl)
theorem dX2_free_23 : decode cX2_free 23 = .ok (.invokestatic 45, 3) := dk_184 0 45 (dk_at dksX2_free_1 0 rfl rfl)
theorem dX2_free_26 : decode cX2_free 26 = .ok (.invokestatic 49, 3) := dk_184 0 49 (dk_at dksX2_free_1 3 rfl rfl)
theorem dX2_free_29 : decode cX2_free 29 = .ok (.putfield 38, 3) := dk_181 0 38 (dk_at dksX2_free_1 6 rfl rfl)
theorem dX2_free_32 : decode cX2_free 32 = .ok (.aload_n 0, 1) := dk_42 (dk_at dksX2_free_1 9 rfl rfl)
theorem dX2_free_33 : decode cX2_free 33 = .ok (.getfield 38, 3) := dk_180 0 38 (dk_at dksX2_free_1 10 rfl rfl)
theorem dX2_free_36 : decode cX2_free 36 = .ok (.areturn, 1) := dk_176 (dk_at dksX2_free_1 13 rfl rfl)
abbrev cX2_sequence : ByteArray := prog_3_method_2_code
def yX2_sequence : MethodName := ⟨RX2, "sequence", "()Ljava/util/ArrayList;"⟩
def dkwX2_sequence_0 : List UInt8 := [42, 180, 0, 13, 199, 0, 14, 42, 42, 180, 0, 7, 184, 0, 17, 181, 0, 13, 42, 180, 0, 13, 176]
abbrev dktX2_sequence_0 : List UInt8 := dkwX2_sequence_0 ++ []
theorem dksX2_sequence_0 : cX2_sequence.data.toList.drop 0 = dktX2_sequence_0 := by decide +kernel
theorem dX2_sequence_0 : decode cX2_sequence 0 = .ok (.aload_n 0, 1) := dk_42 (dk_at dksX2_sequence_0 0 rfl rfl)
theorem dX2_sequence_1 : decode cX2_sequence 1 = .ok (.getfield 13, 3) := dk_180 0 13 (dk_at dksX2_sequence_0 1 rfl rfl)
theorem dX2_sequence_4 : decode cX2_sequence 4 = .ok (.ifnonnull 14, 3) := dk_199 0 14 (dk_at dksX2_sequence_0 4 rfl rfl)
theorem dX2_sequence_7 : decode cX2_sequence 7 = .ok (.aload_n 0, 1) := dk_42 (dk_at dksX2_sequence_0 7 rfl rfl)
theorem dX2_sequence_8 : decode cX2_sequence 8 = .ok (.aload_n 0, 1) := dk_42 (dk_at dksX2_sequence_0 8 rfl rfl)
theorem dX2_sequence_9 : decode cX2_sequence 9 = .ok (.getfield 7, 3) := dk_180 0 7 (dk_at dksX2_sequence_0 9 rfl rfl)
theorem dX2_sequence_12 : decode cX2_sequence 12 = .ok (.invokestatic 17, 3) := dk_184 0 17 (dk_at dksX2_sequence_0 12 rfl rfl)
theorem dX2_sequence_15 : decode cX2_sequence 15 = .ok (.putfield 13, 3) := dk_181 0 13 (dk_at dksX2_sequence_0 15 rfl rfl)
theorem dX2_sequence_18 : decode cX2_sequence 18 = .ok (.aload_n 0, 1) := dk_42 (dk_at dksX2_sequence_0 18 rfl rfl)
theorem dX2_sequence_19 : decode cX2_sequence 19 = .ok (.getfield 13, 3) := dk_180 0 13 (dk_at dksX2_sequence_0 19 rfl rfl)
theorem dX2_sequence_22 : decode cX2_sequence 22 = .ok (.areturn, 1) := dk_176 (dk_at dksX2_sequence_0 22 rfl rfl)
abbrev cX2_divisor : ByteArray := prog_3_method_3_code
def yX2_divisor : MethodName := ⟨RX2, "divisor", "()LSturmRoots$Poly;"⟩
def dkwX2_divisor_0 : List UInt8 := [42, 182, 0, 23, 42, 182, 0, 23, 182, 0, 26, 4, 100, 182, 0, 32, 192, 0, 36, 176]
abbrev dktX2_divisor_0 : List UInt8 := dkwX2_divisor_0 ++ []
theorem dksX2_divisor_0 : cX2_divisor.data.toList.drop 0 = dktX2_divisor_0 := by decide +kernel
theorem dX2_divisor_0 : decode cX2_divisor 0 = .ok (.aload_n 0, 1) := dk_42 (dk_at dksX2_divisor_0 0 rfl rfl)
theorem dX2_divisor_1 : decode cX2_divisor 1 = .ok (.invokevirtual 23, 3) := dk_182 0 23 (dk_at dksX2_divisor_0 1 rfl rfl)
theorem dX2_divisor_4 : decode cX2_divisor 4 = .ok (.aload_n 0, 1) := dk_42 (dk_at dksX2_divisor_0 4 rfl rfl)
theorem dX2_divisor_5 : decode cX2_divisor 5 = .ok (.invokevirtual 23, 3) := dk_182 0 23 (dk_at dksX2_divisor_0 5 rfl rfl)
theorem dX2_divisor_8 : decode cX2_divisor 8 = .ok (.invokevirtual 26, 3) := dk_182 0 26 (dk_at dksX2_divisor_0 8 rfl rfl)
theorem dX2_divisor_11 : decode cX2_divisor 11 = .ok (.iconst 1, 1) := dk_4 (dk_at dksX2_divisor_0 11 rfl rfl)
theorem dX2_divisor_12 : decode cX2_divisor 12 = .ok (.isub, 1) := dk_100 (dk_at dksX2_divisor_0 12 rfl rfl)
theorem dX2_divisor_13 : decode cX2_divisor 13 = .ok (.invokevirtual 32, 3) := dk_182 0 32 (dk_at dksX2_divisor_0 13 rfl rfl)
theorem dX2_divisor_16 : decode cX2_divisor 16 = .ok (.checkcast 36, 3) := dk_192 0 36 (dk_at dksX2_divisor_0 16 rfl rfl)
theorem dX2_divisor_19 : decode cX2_divisor 19 = .ok (.areturn, 1) := dk_176 (dk_at dksX2_divisor_0 19 rfl rfl)
abbrev cX2_freeSequence : ByteArray := prog_3_method_5_code
def yX2_freeSequence : MethodName := ⟨RX2, "freeSequence", "()Ljava/util/ArrayList;"⟩
def dkwX2_freeSequence_1 : List UInt8 := [167, 0, 10, 42, 182, 0, 59, 184, 0, 17, 181, 0, 53, 42, 180, 0, 53, 176]
abbrev dktX2_freeSequence_1 : List UInt8 := dkwX2_freeSequence_1 ++ []
def dkwX2_freeSequence_0 : List UInt8 := [42, 180, 0, 53, 199, 0, 31, 42, 42, 182, 0, 41, 182, 0, 56, 154, 0, 10, 42, 182, 0, 23]
abbrev dktX2_freeSequence_0 : List UInt8 := dkwX2_freeSequence_0 ++ dktX2_freeSequence_1
theorem dksX2_freeSequence_0 : cX2_freeSequence.data.toList.drop 0 = dktX2_freeSequence_0 := by decide +kernel
theorem dksX2_freeSequence_1 : cX2_freeSequence.data.toList.drop 22 = dktX2_freeSequence_1 := dk_seg dksX2_freeSequence_0 22 rfl rfl
theorem dX2_freeSequence_0 : decode cX2_freeSequence 0 = .ok (.aload_n 0, 1) := dk_42 (dk_at dksX2_freeSequence_0 0 rfl rfl)
theorem dX2_freeSequence_1 : decode cX2_freeSequence 1 = .ok (.getfield 53, 3) := dk_180 0 53 (dk_at dksX2_freeSequence_0 1 rfl rfl)
theorem dX2_freeSequence_4 : decode cX2_freeSequence 4 = .ok (.ifnonnull 31, 3) := dk_199 0 31 (dk_at dksX2_freeSequence_0 4 rfl rfl)
theorem dX2_freeSequence_7 : decode cX2_freeSequence 7 = .ok (.aload_n 0, 1) := dk_42 (dk_at dksX2_freeSequence_0 7 rfl rfl)
theorem dX2_freeSequence_8 : decode cX2_freeSequence 8 = .ok (.aload_n 0, 1) := dk_42 (dk_at dksX2_freeSequence_0 8 rfl rfl)
theorem dX2_freeSequence_9 : decode cX2_freeSequence 9 = .ok (.invokevirtual 41, 3) := dk_182 0 41 (dk_at dksX2_freeSequence_0 9 rfl rfl)
theorem dX2_freeSequence_12 : decode cX2_freeSequence 12 = .ok (.invokevirtual 56, 3) := dk_182 0 56 (dk_at dksX2_freeSequence_0 12 rfl rfl)
theorem dX2_freeSequence_15 : decode cX2_freeSequence 15 = .ok (.ifCond .ne 10, 3) := dk_154 0 10 (dk_at dksX2_freeSequence_0 15 rfl rfl)
theorem dX2_freeSequence_18 : decode cX2_freeSequence 18 = .ok (.aload_n 0, 1) := dk_42 (dk_at dksX2_freeSequence_0 18 rfl rfl)
theorem dX2_freeSequence_19 : decode cX2_freeSequence 19 = .ok (.invokevirtual 23, 3) := dk_182 0 23 (dk_at dksX2_freeSequence_0 19 rfl rfl)
theorem dX2_freeSequence_22 : decode cX2_freeSequence 22 = .ok (.goto 10, 3) := dk_167 0 10 (dk_at dksX2_freeSequence_1 0 rfl rfl)
theorem dX2_freeSequence_25 : decode cX2_freeSequence 25 = .ok (.aload_n 0, 1) := dk_42 (dk_at dksX2_freeSequence_1 3 rfl rfl)
theorem dX2_freeSequence_26 : decode cX2_freeSequence 26 = .ok (.invokevirtual 59, 3) := dk_182 0 59 (dk_at dksX2_freeSequence_1 4 rfl rfl)
theorem dX2_freeSequence_29 : decode cX2_freeSequence 29 = .ok (.invokestatic 17, 3) := dk_184 0 17 (dk_at dksX2_freeSequence_1 7 rfl rfl)
theorem dX2_freeSequence_32 : decode cX2_freeSequence 32 = .ok (.putfield 53, 3) := dk_181 0 53 (dk_at dksX2_freeSequence_1 10 rfl rfl)
theorem dX2_freeSequence_35 : decode cX2_freeSequence 35 = .ok (.aload_n 0, 1) := dk_42 (dk_at dksX2_freeSequence_1 13 rfl rfl)
theorem dX2_freeSequence_36 : decode cX2_freeSequence 36 = .ok (.getfield 53, 3) := dk_180 0 53 (dk_at dksX2_freeSequence_1 14 rfl rfl)
theorem dX2_freeSequence_39 : decode cX2_freeSequence 39 = .ok (.areturn, 1) := dk_176 (dk_at dksX2_freeSequence_1 17 rfl rfl)
theorem q74 : (Jvm.Cond.initialized "SturmRoots$Known") ∈ lw_all := lw_g (lw_at lw_m1 5 rfl) rfl
theorem q144 : (Jvm.Cond.instantiable "SturmRoots$Known" (4 : Nat)) ∈ lw_all := lw_g (lw_at lw_m1 75 rfl) rfl
theorem q191 : (Jvm.Cond.instanceMethod ({ cls := "SturmRoots$Known", name := "<init>", desc := "(LSturmRoots$Poly;)V" } : Jvm.MethodName)) ∈ lw_all := lw_g (lw_at lw_m1 122 rfl) rfl
theorem q192 : (Jvm.Cond.code ({ cls := "SturmRoots$Known", name := "<init>", desc := "(LSturmRoots$Poly;)V" } : Jvm.MethodName) prog_3_method_1_code (2 : Nat) (Option.none : Option Jvm.ClassFile.FieldType)) ∈ lw_all := lw_g (lw_at lw_m1 123 rfl) rfl
theorem q193 : (Jvm.Cond.methodLink "SturmRoots$Known" (1 : Nat) ({ cls := "java/lang/Object", name := "<init>", desc := "()V" } : Jvm.MethodName)) ∈ lw_all := lw_g (lw_at lw_m1 124 rfl) rfl
theorem q194 : (Jvm.Cond.fieldLink "SturmRoots$Known" (7 : Nat) "SturmRoots$Known" "poly" "LSturmRoots$Poly;") ∈ lw_all := lw_g (lw_at lw_m1 125 rfl) rfl
theorem q196 : (Jvm.Cond.fieldLink "SturmRoots$Known" (13 : Nat) "SturmRoots$Known" "sequence" "Ljava/util/ArrayList;") ∈ lw_all := lw_g (lw_at lw_m1 127 rfl) rfl
theorem q197 : (Jvm.Cond.fieldLink "SturmRoots$Known" (38 : Nat) "SturmRoots$Known" "free" "LSturmRoots$Poly;") ∈ lw_all := lw_g (lw_at lw_m1 128 rfl) rfl
theorem q198 : (Jvm.Cond.fieldLink "SturmRoots$Known" (53 : Nat) "SturmRoots$Known" "freeSequence" "Ljava/util/ArrayList;") ∈ lw_all := lw_g (lw_at lw_m1 129 rfl) rfl
theorem q199 : (Jvm.Cond.laysFinal "SturmRoots$Known" "SturmRoots$Known" "poly" "LSturmRoots$Poly;") ∈ lw_all := lw_g (lw_at lw_m1 130 rfl) rfl
theorem q200 : (Jvm.Cond.soleField "SturmRoots$Known" "poly") ∈ lw_all := lw_g (lw_at lw_m1 131 rfl) rfl
theorem q201 : (Jvm.Cond.lays "SturmRoots$Known" "SturmRoots$Known" "sequence" "Ljava/util/ArrayList;") ∈ lw_all := lw_g (lw_at lw_m1 132 rfl) rfl
theorem q202 : (Jvm.Cond.soleField "SturmRoots$Known" "sequence") ∈ lw_all := lw_g (lw_at lw_m1 133 rfl) rfl
theorem q203 : (Jvm.Cond.lays "SturmRoots$Known" "SturmRoots$Known" "free" "LSturmRoots$Poly;") ∈ lw_all := lw_g (lw_at lw_m1 134 rfl) rfl
theorem q204 : (Jvm.Cond.soleField "SturmRoots$Known" "free") ∈ lw_all := lw_g (lw_at lw_m1 135 rfl) rfl
theorem q205 : (Jvm.Cond.lays "SturmRoots$Known" "SturmRoots$Known" "freeSequence" "Ljava/util/ArrayList;") ∈ lw_all := lw_g (lw_at lw_m1 136 rfl) rfl
theorem q206 : (Jvm.Cond.soleField "SturmRoots$Known" "freeSequence") ∈ lw_all := lw_g (lw_at lw_m1 137 rfl) rfl
theorem q207 : (Jvm.Cond.superclass "SturmRoots$Known" "java/lang/Object") ∈ lw_all := lw_g (lw_at lw_m1 138 rfl) rfl
theorem q242 : (Jvm.Cond.selects "SturmRoots$Known" ({ cls := "java/lang/Object", name := "getClass", desc := "()Ljava/lang/Class;" } : Jvm.MethodName) ({ cls := "java/lang/Object", name := "getClass", desc := "()Ljava/lang/Class;" } : Jvm.MethodName)) ∈ lw_all := lw_g (lw_at lw_m1 173 rfl) rfl
theorem q1468 : (Jvm.Cond.instanceMethod ({ cls := "SturmRoots$Known", name := "free", desc := "()LSturmRoots$Poly;" } : Jvm.MethodName)) ∈ lw_all := lw_g (lw_at lw_m6 199 rfl) rfl
theorem q1469 : (Jvm.Cond.selects "SturmRoots$Known" ({ cls := "SturmRoots$Known", name := "free", desc := "()LSturmRoots$Poly;" } : Jvm.MethodName) ({ cls := "SturmRoots$Known", name := "free", desc := "()LSturmRoots$Poly;" } : Jvm.MethodName)) ∈ lw_all := lw_g (lw_at lw_m6 200 rfl) rfl
theorem q1470 : (Jvm.Cond.code ({ cls := "SturmRoots$Known", name := "free", desc := "()LSturmRoots$Poly;" } : Jvm.MethodName) prog_3_method_4_code (1 : Nat) (Option.some (Jvm.ClassFile.FieldType.object "SturmRoots$Poly"))) ∈ lw_all := lw_g (lw_at lw_m6 201 rfl) rfl
theorem q1471 : (Jvm.Cond.methodLink "SturmRoots$Known" (23 : Nat) ({ cls := "SturmRoots$Known", name := "sequence", desc := "()Ljava/util/ArrayList;" } : Jvm.MethodName)) ∈ lw_all := lw_g (lw_at lw_m6 202 rfl) rfl
theorem q1472 : (Jvm.Cond.instanceMethod ({ cls := "SturmRoots$Known", name := "sequence", desc := "()Ljava/util/ArrayList;" } : Jvm.MethodName)) ∈ lw_all := lw_g (lw_at lw_m6 203 rfl) rfl
theorem q1473 : (Jvm.Cond.selects "SturmRoots$Known" ({ cls := "SturmRoots$Known", name := "sequence", desc := "()Ljava/util/ArrayList;" } : Jvm.MethodName) ({ cls := "SturmRoots$Known", name := "sequence", desc := "()Ljava/util/ArrayList;" } : Jvm.MethodName)) ∈ lw_all := lw_g (lw_at lw_m6 204 rfl) rfl
theorem q1474 : (Jvm.Cond.code ({ cls := "SturmRoots$Known", name := "sequence", desc := "()Ljava/util/ArrayList;" } : Jvm.MethodName) prog_3_method_2_code (1 : Nat) (Option.some (Jvm.ClassFile.FieldType.object "java/util/ArrayList"))) ∈ lw_all := lw_g (lw_at lw_m6 205 rfl) rfl
theorem q1475 : (Jvm.Cond.methodLinkNest "SturmRoots$Known" (17 : Nat) ({ cls := "SturmRoots", name := "sturm", desc := "(LSturmRoots$Poly;)Ljava/util/ArrayList;" } : Jvm.MethodName) "SturmRoots") ∈ lw_tbl := lw_at lw_m6 206 rfl
theorem q1478 : (Jvm.Cond.methodLink "SturmRoots$Known" (32 : Nat) ({ cls := "java/util/ArrayList", name := "get", desc := "(I)Ljava/lang/Object;" } : Jvm.MethodName)) ∈ lw_all := lw_g (lw_at lw_m6 209 rfl) rfl
theorem q1479 : (Jvm.Cond.classLink "SturmRoots$Known" (36 : Nat) "SturmRoots$Poly") ∈ lw_all := lw_g (lw_at lw_m6 210 rfl) rfl
theorem q1480 : (Jvm.Cond.methodLink "SturmRoots$Known" (41 : Nat) ({ cls := "SturmRoots$Known", name := "divisor", desc := "()LSturmRoots$Poly;" } : Jvm.MethodName)) ∈ lw_all := lw_g (lw_at lw_m6 211 rfl) rfl
theorem q1481 : (Jvm.Cond.instanceMethod ({ cls := "SturmRoots$Known", name := "divisor", desc := "()LSturmRoots$Poly;" } : Jvm.MethodName)) ∈ lw_all := lw_g (lw_at lw_m6 212 rfl) rfl
theorem q1482 : (Jvm.Cond.selects "SturmRoots$Known" ({ cls := "SturmRoots$Known", name := "divisor", desc := "()LSturmRoots$Poly;" } : Jvm.MethodName) ({ cls := "SturmRoots$Known", name := "divisor", desc := "()LSturmRoots$Poly;" } : Jvm.MethodName)) ∈ lw_all := lw_g (lw_at lw_m6 213 rfl) rfl
theorem q1483 : (Jvm.Cond.code ({ cls := "SturmRoots$Known", name := "divisor", desc := "()LSturmRoots$Poly;" } : Jvm.MethodName) prog_3_method_3_code (1 : Nat) (Option.some (Jvm.ClassFile.FieldType.object "SturmRoots$Poly"))) ∈ lw_all := lw_g (lw_at lw_m6 214 rfl) rfl
theorem q1484 : (Jvm.Cond.methodLink "SturmRoots$Known" (26 : Nat) ({ cls := "java/util/ArrayList", name := "size", desc := "()I" } : Jvm.MethodName)) ∈ lw_all := lw_g (lw_at lw_m6 215 rfl) rfl
theorem q1485 : (Jvm.Cond.methodLinkNest "SturmRoots$Known" (45 : Nat) ({ cls := "SturmRoots", name := "quotient", desc := "(LSturmRoots$Poly;LSturmRoots$Poly;)LSturmRoots$Poly;" } : Jvm.MethodName) "SturmRoots") ∈ lw_tbl := lw_at lw_m6 216 rfl
theorem q1488 : (Jvm.Cond.methodLinkNest "SturmRoots$Known" (49 : Nat) ({ cls := "SturmRoots", name := "positive", desc := "(LSturmRoots$Poly;)LSturmRoots$Poly;" } : Jvm.MethodName) "SturmRoots") ∈ lw_tbl := lw_at lw_m6 219 rfl
theorem q1647 : (Jvm.Cond.instanceMethod ({ cls := "SturmRoots$Known", name := "freeSequence", desc := "()Ljava/util/ArrayList;" } : Jvm.MethodName)) ∈ lw_all := lw_g (lw_at lw_m7 138 rfl) rfl
theorem q1648 : (Jvm.Cond.selects "SturmRoots$Known" ({ cls := "SturmRoots$Known", name := "freeSequence", desc := "()Ljava/util/ArrayList;" } : Jvm.MethodName) ({ cls := "SturmRoots$Known", name := "freeSequence", desc := "()Ljava/util/ArrayList;" } : Jvm.MethodName)) ∈ lw_all := lw_g (lw_at lw_m7 139 rfl) rfl
theorem q1649 : (Jvm.Cond.code ({ cls := "SturmRoots$Known", name := "freeSequence", desc := "()Ljava/util/ArrayList;" } : Jvm.MethodName) prog_3_method_5_code (1 : Nat) (Option.some (Jvm.ClassFile.FieldType.object "java/util/ArrayList"))) ∈ lw_all := lw_g (lw_at lw_m7 140 rfl) rfl
theorem q1650 : (Jvm.Cond.methodLink "SturmRoots$Known" (56 : Nat) ({ cls := "SturmRoots$Poly", name := "degree", desc := "()I" } : Jvm.MethodName)) ∈ lw_all := lw_g (lw_at lw_m7 141 rfl) rfl
theorem q1651 : (Jvm.Cond.methodLink "SturmRoots$Known" (59 : Nat) ({ cls := "SturmRoots$Known", name := "free", desc := "()LSturmRoots$Poly;" } : Jvm.MethodName)) ∈ lw_all := lw_g (lw_at lw_m7 142 rfl) rfl
theorem q2173 : (Jvm.Cond.castable "SturmRoots$Known" "java/lang/Object") ∈ lw_tbl := lw_at lw_m9 184 rfl
theorem in_X2 : ∀ w ∈ wsX20, w ∈ lw_all := lw_in wsX20 [199, 201, 203, 205] (by decide +kernel) (by decide +kernel)
/-! SturmRoots$Poly -/
set_option maxRecDepth 100000
def RX3 : String := "SturmRoots$Poly"
def TX3 : u_T := fun k => match k with
  | _ => ("SturmRoots$Poly", "row", "Ljava/util/ArrayList;", true)
def tyX3 : Nat → FieldType := fun k => match k with
  | _ => .object "java/util/ArrayList"
abbrev wsX30 : List Cond := u_ws RX3 TX3 1
theorem nmX3 : ∀ a, a < 1 → ∀ b, b < 1 → a ≠ b → (TX3 a).2.1 ≠ (TX3 b).2.1 := by decide +kernel
theorem tyX3_ok : ∀ k, k < 1 → parseFieldDescriptor (TX3 k).2.2.1 = some (tyX3 k) := by decide +kernel
abbrev cX3_init : ByteArray := prog_4_method_1_code
def yX3_init : MethodName := ⟨RX3, "<init>", "(Ljava/util/ArrayList;)V"⟩
def dkwX3_init_2 : List UInt8 := [167, 255, 219, 177]
abbrev dktX3_init_2 : List UInt8 := dkwX3_init_2 ++ []
def dkwX3_init_1 : List UInt8 := [182, 0, 19, 192, 0, 23, 182, 0, 25, 154, 0, 17, 43, 43, 182, 0, 13, 4, 100, 182, 0, 28, 87]
abbrev dktX3_init_1 : List UInt8 := dkwX3_init_1 ++ dktX3_init_2
def dkwX3_init_0 : List UInt8 := [42, 183, 0, 1, 42, 43, 181, 0, 7, 43, 182, 0, 13, 158, 0, 36, 43, 43, 182, 0, 13, 4, 100]
abbrev dktX3_init_0 : List UInt8 := dkwX3_init_0 ++ dktX3_init_1
theorem dksX3_init_0 : cX3_init.data.toList.drop 0 = dktX3_init_0 := by decide +kernel
theorem dksX3_init_1 : cX3_init.data.toList.drop 23 = dktX3_init_1 := dk_seg dksX3_init_0 23 rfl rfl
theorem dksX3_init_2 : cX3_init.data.toList.drop 46 = dktX3_init_2 := dk_seg dksX3_init_1 23 rfl rfl
theorem dX3_init_0 : decode cX3_init 0 = .ok (.aload_n 0, 1) := dk_42 (dk_at dksX3_init_0 0 rfl rfl)
theorem dX3_init_1 : decode cX3_init 1 = .ok (.invokespecial 1, 3) := dk_183 0 1 (dk_at dksX3_init_0 1 rfl rfl)
theorem dX3_init_4 : decode cX3_init 4 = .ok (.aload_n 0, 1) := dk_42 (dk_at dksX3_init_0 4 rfl rfl)
theorem dX3_init_5 : decode cX3_init 5 = .ok (.aload_n 1, 1) := dk_43 (dk_at dksX3_init_0 5 rfl rfl)
theorem dX3_init_6 : decode cX3_init 6 = .ok (.putfield 7, 3) := dk_181 0 7 (dk_at dksX3_init_0 6 rfl rfl)
theorem dX3_init_9 : decode cX3_init 9 = .ok (.aload_n 1, 1) := dk_43 (dk_at dksX3_init_0 9 rfl rfl)
theorem dX3_init_10 : decode cX3_init 10 = .ok (.invokevirtual 13, 3) := dk_182 0 13 (dk_at dksX3_init_0 10 rfl rfl)
theorem dX3_init_13 : decode cX3_init 13 = .ok (.ifCond .le 36, 3) := dk_158 0 36 (dk_at dksX3_init_0 13 rfl rfl)
theorem dX3_init_16 : decode cX3_init 16 = .ok (.aload_n 1, 1) := dk_43 (dk_at dksX3_init_0 16 rfl rfl)
theorem dX3_init_17 : decode cX3_init 17 = .ok (.aload_n 1, 1) := dk_43 (dk_at dksX3_init_0 17 rfl rfl)
theorem dX3_init_18 : decode cX3_init 18 = .ok (.invokevirtual 13, 3) := dk_182 0 13 (dk_at dksX3_init_0 18 rfl rfl)
theorem dX3_init_21 : decode cX3_init 21 = .ok (.iconst 1, 1) := dk_4 (dk_at dksX3_init_0 21 rfl rfl)
theorem dX3_init_22 : decode cX3_init 22 = .ok (.isub, 1) := dk_100 (dk_at dksX3_init_0 22 rfl rfl)
theorem dX3_init_23 : decode cX3_init 23 = .ok (.invokevirtual 19, 3) := dk_182 0 19 (dk_at dksX3_init_1 0 rfl rfl)
theorem dX3_init_26 : decode cX3_init 26 = .ok (.checkcast 23, 3) := dk_192 0 23 (dk_at dksX3_init_1 3 rfl rfl)
theorem dX3_init_29 : decode cX3_init 29 = .ok (.invokevirtual 25, 3) := dk_182 0 25 (dk_at dksX3_init_1 6 rfl rfl)
theorem dX3_init_32 : decode cX3_init 32 = .ok (.ifCond .ne 17, 3) := dk_154 0 17 (dk_at dksX3_init_1 9 rfl rfl)
theorem dX3_init_35 : decode cX3_init 35 = .ok (.aload_n 1, 1) := dk_43 (dk_at dksX3_init_1 12 rfl rfl)
theorem dX3_init_36 : decode cX3_init 36 = .ok (.aload_n 1, 1) := dk_43 (dk_at dksX3_init_1 13 rfl rfl)
theorem dX3_init_37 : decode cX3_init 37 = .ok (.invokevirtual 13, 3) := dk_182 0 13 (dk_at dksX3_init_1 14 rfl rfl)
theorem dX3_init_40 : decode cX3_init 40 = .ok (.iconst 1, 1) := dk_4 (dk_at dksX3_init_1 17 rfl rfl)
theorem dX3_init_41 : decode cX3_init 41 = .ok (.isub, 1) := dk_100 (dk_at dksX3_init_1 18 rfl rfl)
theorem dX3_init_42 : decode cX3_init 42 = .ok (.invokevirtual 28, 3) := dk_182 0 28 (dk_at dksX3_init_1 19 rfl rfl)
theorem dX3_init_45 : decode cX3_init 45 = .ok (.pop, 1) := dk_87 (dk_at dksX3_init_1 22 rfl rfl)
theorem dX3_init_46 : decode cX3_init 46 = .ok (.goto (-37), 3) := dk_167 255 219 (dk_at dksX3_init_2 0 rfl rfl)
theorem dX3_init_49 : decode cX3_init 49 = .ok (.return_, 1) := dk_177 (dk_at dksX3_init_2 3 rfl rfl)
abbrev cX3_at : ByteArray := prog_4_method_3_code
def yX3_at : MethodName := ⟨RX3, "at", "(I)Ljava/math/BigInteger;"⟩
def dkwX3_at_1 : List UInt8 := [167, 0, 7, 9, 184, 0, 31, 176]
abbrev dktX3_at_1 : List UInt8 := dkwX3_at_1 ++ []
def dkwX3_at_0 : List UInt8 := [27, 42, 180, 0, 7, 182, 0, 13, 162, 0, 17, 42, 180, 0, 7, 27, 182, 0, 19, 192, 0, 23]
abbrev dktX3_at_0 : List UInt8 := dkwX3_at_0 ++ dktX3_at_1
theorem dksX3_at_0 : cX3_at.data.toList.drop 0 = dktX3_at_0 := by decide +kernel
theorem dksX3_at_1 : cX3_at.data.toList.drop 22 = dktX3_at_1 := dk_seg dksX3_at_0 22 rfl rfl
theorem dX3_at_0 : decode cX3_at 0 = .ok (.iload_n 1, 1) := dk_27 (dk_at dksX3_at_0 0 rfl rfl)
theorem dX3_at_1 : decode cX3_at 1 = .ok (.aload_n 0, 1) := dk_42 (dk_at dksX3_at_0 1 rfl rfl)
theorem dX3_at_2 : decode cX3_at 2 = .ok (.getfield 7, 3) := dk_180 0 7 (dk_at dksX3_at_0 2 rfl rfl)
theorem dX3_at_5 : decode cX3_at 5 = .ok (.invokevirtual 13, 3) := dk_182 0 13 (dk_at dksX3_at_0 5 rfl rfl)
theorem dX3_at_8 : decode cX3_at 8 = .ok (.if_icmp .ge 17, 3) := dk_162 0 17 (dk_at dksX3_at_0 8 rfl rfl)
theorem dX3_at_11 : decode cX3_at 11 = .ok (.aload_n 0, 1) := dk_42 (dk_at dksX3_at_0 11 rfl rfl)
theorem dX3_at_12 : decode cX3_at 12 = .ok (.getfield 7, 3) := dk_180 0 7 (dk_at dksX3_at_0 12 rfl rfl)
theorem dX3_at_15 : decode cX3_at 15 = .ok (.iload_n 1, 1) := dk_27 (dk_at dksX3_at_0 15 rfl rfl)
theorem dX3_at_16 : decode cX3_at 16 = .ok (.invokevirtual 19, 3) := dk_182 0 19 (dk_at dksX3_at_0 16 rfl rfl)
theorem dX3_at_19 : decode cX3_at 19 = .ok (.checkcast 23, 3) := dk_192 0 23 (dk_at dksX3_at_0 19 rfl rfl)
theorem dX3_at_22 : decode cX3_at 22 = .ok (.goto 7, 3) := dk_167 0 7 (dk_at dksX3_at_1 0 rfl rfl)
theorem dX3_at_25 : decode cX3_at 25 = .ok (.lconst 0, 1) := dk_9 (dk_at dksX3_at_1 3 rfl rfl)
theorem dX3_at_26 : decode cX3_at 26 = .ok (.invokestatic 31, 3) := dk_184 0 31 (dk_at dksX3_at_1 4 rfl rfl)
theorem dX3_at_29 : decode cX3_at 29 = .ok (.areturn, 1) := dk_176 (dk_at dksX3_at_1 7 rfl rfl)
abbrev cX3_degree : ByteArray := prog_4_method_2_code
def yX3_degree : MethodName := ⟨RX3, "degree", "()I"⟩
def dkwX3_degree_0 : List UInt8 := [42, 180, 0, 7, 182, 0, 13, 4, 100, 172]
abbrev dktX3_degree_0 : List UInt8 := dkwX3_degree_0 ++ []
theorem dksX3_degree_0 : cX3_degree.data.toList.drop 0 = dktX3_degree_0 := by decide +kernel
theorem dX3_degree_0 : decode cX3_degree 0 = .ok (.aload_n 0, 1) := dk_42 (dk_at dksX3_degree_0 0 rfl rfl)
theorem dX3_degree_1 : decode cX3_degree 1 = .ok (.getfield 7, 3) := dk_180 0 7 (dk_at dksX3_degree_0 1 rfl rfl)
theorem dX3_degree_4 : decode cX3_degree 4 = .ok (.invokevirtual 13, 3) := dk_182 0 13 (dk_at dksX3_degree_0 4 rfl rfl)
theorem dX3_degree_7 : decode cX3_degree 7 = .ok (.iconst 1, 1) := dk_4 (dk_at dksX3_degree_0 7 rfl rfl)
theorem dX3_degree_8 : decode cX3_degree 8 = .ok (.isub, 1) := dk_100 (dk_at dksX3_degree_0 8 rfl rfl)
theorem dX3_degree_9 : decode cX3_degree 9 = .ok (.ireturn, 1) := dk_172 (dk_at dksX3_degree_0 9 rfl rfl)
abbrev cX3_leading : ByteArray := prog_4_method_4_code
def yX3_leading : MethodName := ⟨RX3, "leading", "()Ljava/math/BigInteger;"⟩
def dkwX3_leading_0 : List UInt8 := [42, 180, 0, 7, 42, 180, 0, 7, 182, 0, 13, 4, 100, 182, 0, 19, 192, 0, 23, 176]
abbrev dktX3_leading_0 : List UInt8 := dkwX3_leading_0 ++ []
theorem dksX3_leading_0 : cX3_leading.data.toList.drop 0 = dktX3_leading_0 := by decide +kernel
theorem dX3_leading_0 : decode cX3_leading 0 = .ok (.aload_n 0, 1) := dk_42 (dk_at dksX3_leading_0 0 rfl rfl)
theorem dX3_leading_1 : decode cX3_leading 1 = .ok (.getfield 7, 3) := dk_180 0 7 (dk_at dksX3_leading_0 1 rfl rfl)
theorem dX3_leading_4 : decode cX3_leading 4 = .ok (.aload_n 0, 1) := dk_42 (dk_at dksX3_leading_0 4 rfl rfl)
theorem dX3_leading_5 : decode cX3_leading 5 = .ok (.getfield 7, 3) := dk_180 0 7 (dk_at dksX3_leading_0 5 rfl rfl)
theorem dX3_leading_8 : decode cX3_leading 8 = .ok (.invokevirtual 13, 3) := dk_182 0 13 (dk_at dksX3_leading_0 8 rfl rfl)
theorem dX3_leading_11 : decode cX3_leading 11 = .ok (.iconst 1, 1) := dk_4 (dk_at dksX3_leading_0 11 rfl rfl)
theorem dX3_leading_12 : decode cX3_leading 12 = .ok (.isub, 1) := dk_100 (dk_at dksX3_leading_0 12 rfl rfl)
theorem dX3_leading_13 : decode cX3_leading 13 = .ok (.invokevirtual 19, 3) := dk_182 0 19 (dk_at dksX3_leading_0 13 rfl rfl)
theorem dX3_leading_16 : decode cX3_leading 16 = .ok (.checkcast 23, 3) := dk_192 0 23 (dk_at dksX3_leading_0 16 rfl rfl)
theorem dX3_leading_19 : decode cX3_leading 19 = .ok (.areturn, 1) := dk_176 (dk_at dksX3_leading_0 19 rfl rfl)
theorem q75 : (Jvm.Cond.initialized "SturmRoots$Poly") ∈ lw_all := lw_g (lw_at lw_m1 6 rfl) rfl
theorem q146 : (Jvm.Cond.instantiable "SturmRoots$Poly" (1 : Nat)) ∈ lw_all := lw_g (lw_at lw_m1 77 rfl) rfl
theorem q148 : (Jvm.Cond.instanceMethod ({ cls := "SturmRoots$Poly", name := "<init>", desc := "(Ljava/util/ArrayList;)V" } : Jvm.MethodName)) ∈ lw_all := lw_g (lw_at lw_m1 79 rfl) rfl
theorem q149 : (Jvm.Cond.code ({ cls := "SturmRoots$Poly", name := "<init>", desc := "(Ljava/util/ArrayList;)V" } : Jvm.MethodName) prog_4_method_1_code (2 : Nat) (Option.none : Option Jvm.ClassFile.FieldType)) ∈ lw_all := lw_g (lw_at lw_m1 80 rfl) rfl
theorem q150 : (Jvm.Cond.methodLink "SturmRoots$Poly" (1 : Nat) ({ cls := "java/lang/Object", name := "<init>", desc := "()V" } : Jvm.MethodName)) ∈ lw_all := lw_g (lw_at lw_m1 81 rfl) rfl
theorem q151 : (Jvm.Cond.methodLink "SturmRoots$Poly" (13 : Nat) ({ cls := "java/util/ArrayList", name := "size", desc := "()I" } : Jvm.MethodName)) ∈ lw_all := lw_g (lw_at lw_m1 82 rfl) rfl
theorem q155 : (Jvm.Cond.methodLink "SturmRoots$Poly" (19 : Nat) ({ cls := "java/util/ArrayList", name := "get", desc := "(I)Ljava/lang/Object;" } : Jvm.MethodName)) ∈ lw_all := lw_g (lw_at lw_m1 86 rfl) rfl
theorem q169 : (Jvm.Cond.classLink "SturmRoots$Poly" (23 : Nat) "java/math/BigInteger") ∈ lw_all := lw_g (lw_at lw_m1 100 rfl) rfl
theorem q170 : (Jvm.Cond.methodLink "SturmRoots$Poly" (25 : Nat) ({ cls := "java/math/BigInteger", name := "signum", desc := "()I" } : Jvm.MethodName)) ∈ lw_all := lw_g (lw_at lw_m1 101 rfl) rfl
theorem q174 : (Jvm.Cond.methodLink "SturmRoots$Poly" (28 : Nat) ({ cls := "java/util/ArrayList", name := "remove", desc := "(I)Ljava/lang/Object;" } : Jvm.MethodName)) ∈ lw_all := lw_g (lw_at lw_m1 105 rfl) rfl
theorem q185 : (Jvm.Cond.fieldLink "SturmRoots$Poly" (7 : Nat) "SturmRoots$Poly" "row" "Ljava/util/ArrayList;") ∈ lw_all := lw_g (lw_at lw_m1 116 rfl) rfl
theorem q187 : (Jvm.Cond.laysFinal "SturmRoots$Poly" "SturmRoots$Poly" "row" "Ljava/util/ArrayList;") ∈ lw_all := lw_g (lw_at lw_m1 118 rfl) rfl
theorem q188 : (Jvm.Cond.soleField "SturmRoots$Poly" "row") ∈ lw_all := lw_g (lw_at lw_m1 119 rfl) rfl
theorem q189 : (Jvm.Cond.superclass "SturmRoots$Poly" "java/lang/Object") ∈ lw_all := lw_g (lw_at lw_m1 120 rfl) rfl
theorem q243 : (Jvm.Cond.selects "SturmRoots$Poly" ({ cls := "java/lang/Object", name := "getClass", desc := "()Ljava/lang/Class;" } : Jvm.MethodName) ({ cls := "java/lang/Object", name := "getClass", desc := "()Ljava/lang/Class;" } : Jvm.MethodName)) ∈ lw_all := lw_g (lw_at lw_m1 174 rfl) rfl
theorem q468 : (Jvm.Cond.instanceMethod ({ cls := "SturmRoots$Poly", name := "at", desc := "(I)Ljava/math/BigInteger;" } : Jvm.MethodName)) ∈ lw_all := lw_g (lw_at lw_m2 159 rfl) rfl
theorem q469 : (Jvm.Cond.selects "SturmRoots$Poly" ({ cls := "SturmRoots$Poly", name := "at", desc := "(I)Ljava/math/BigInteger;" } : Jvm.MethodName) ({ cls := "SturmRoots$Poly", name := "at", desc := "(I)Ljava/math/BigInteger;" } : Jvm.MethodName)) ∈ lw_all := lw_g (lw_at lw_m2 160 rfl) rfl
theorem q470 : (Jvm.Cond.code ({ cls := "SturmRoots$Poly", name := "at", desc := "(I)Ljava/math/BigInteger;" } : Jvm.MethodName) prog_4_method_3_code (2 : Nat) (Option.some (Jvm.ClassFile.FieldType.object "java/math/BigInteger"))) ∈ lw_all := lw_g (lw_at lw_m2 161 rfl) rfl
theorem q471 : (Jvm.Cond.methodLinkNest "SturmRoots$Poly" (31 : Nat) ({ cls := "SturmRoots", name := "number", desc := "(J)Ljava/math/BigInteger;" } : Jvm.MethodName) "SturmRoots") ∈ lw_tbl := lw_at lw_m2 162 rfl
theorem q618 : (Jvm.Cond.instanceMethod ({ cls := "SturmRoots$Poly", name := "degree", desc := "()I" } : Jvm.MethodName)) ∈ lw_all := lw_g (lw_at lw_m3 69 rfl) rfl
theorem q619 : (Jvm.Cond.selects "SturmRoots$Poly" ({ cls := "SturmRoots$Poly", name := "degree", desc := "()I" } : Jvm.MethodName) ({ cls := "SturmRoots$Poly", name := "degree", desc := "()I" } : Jvm.MethodName)) ∈ lw_all := lw_g (lw_at lw_m3 70 rfl) rfl
theorem q620 : (Jvm.Cond.code ({ cls := "SturmRoots$Poly", name := "degree", desc := "()I" } : Jvm.MethodName) prog_4_method_2_code (1 : Nat) (Option.some Jvm.ClassFile.FieldType.int)) ∈ lw_all := lw_g (lw_at lw_m3 71 rfl) rfl
theorem q1149 : (Jvm.Cond.instanceMethod ({ cls := "SturmRoots$Poly", name := "leading", desc := "()Ljava/math/BigInteger;" } : Jvm.MethodName)) ∈ lw_all := lw_g (lw_at lw_m5 120 rfl) rfl
theorem q1150 : (Jvm.Cond.selects "SturmRoots$Poly" ({ cls := "SturmRoots$Poly", name := "leading", desc := "()Ljava/math/BigInteger;" } : Jvm.MethodName) ({ cls := "SturmRoots$Poly", name := "leading", desc := "()Ljava/math/BigInteger;" } : Jvm.MethodName)) ∈ lw_all := lw_g (lw_at lw_m5 121 rfl) rfl
theorem q1151 : (Jvm.Cond.code ({ cls := "SturmRoots$Poly", name := "leading", desc := "()Ljava/math/BigInteger;" } : Jvm.MethodName) prog_4_method_4_code (1 : Nat) (Option.some (Jvm.ClassFile.FieldType.object "java/math/BigInteger"))) ∈ lw_all := lw_g (lw_at lw_m5 122 rfl) rfl
theorem q2174 : (Jvm.Cond.castable "SturmRoots$Poly" "java/lang/Object") ∈ lw_tbl := lw_at lw_m9 185 rfl
theorem in_X3 : ∀ w ∈ wsX30, w ∈ lw_all := lw_in wsX30 [187] (by decide +kernel) (by decide +kernel)
/-! SturmRoots$Interval -/
set_option maxRecDepth 100000
def RX5 : String := "SturmRoots$Interval"
def TX5 : u_T := fun k => match k with
  | 0 => ("SturmRoots$Interval", "level", "I", true)
  | 1 => ("SturmRoots$Interval", "lesser", "I", true)
  | 2 => ("SturmRoots$Interval", "greater", "I", true)
  | _ => ("SturmRoots$Interval", "roots", "I", true)
def tyX5 : Nat → FieldType := fun k => match k with
  | 0 => .int
  | 1 => .int
  | 2 => .int
  | _ => .int
abbrev wsX50 : List Cond := u_ws RX5 TX5 4
theorem nmX5 : ∀ a, a < 4 → ∀ b, b < 4 → a ≠ b → (TX5 a).2.1 ≠ (TX5 b).2.1 := by decide +kernel
theorem tyX5_ok : ∀ k, k < 4 → parseFieldDescriptor (TX5 k).2.2.1 = some (tyX5 k) := by decide +kernel
abbrev cX5_init : ByteArray := prog_2_method_1_code
def yX5_init : MethodName := ⟨RX5, "<init>", "(IIII)V"⟩
def dkwX5_init_1 : List UInt8 := [181, 0, 19, 177]
abbrev dktX5_init_1 : List UInt8 := dkwX5_init_1 ++ []
def dkwX5_init_0 : List UInt8 := [42, 183, 0, 1, 42, 27, 181, 0, 7, 42, 28, 181, 0, 13, 42, 29, 181, 0, 16, 42, 21, 4]
abbrev dktX5_init_0 : List UInt8 := dkwX5_init_0 ++ dktX5_init_1
theorem dksX5_init_0 : cX5_init.data.toList.drop 0 = dktX5_init_0 := by decide +kernel
theorem dksX5_init_1 : cX5_init.data.toList.drop 22 = dktX5_init_1 := dk_seg dksX5_init_0 22 rfl rfl
theorem dX5_init_0 : decode cX5_init 0 = .ok (.aload_n 0, 1) := dk_42 (dk_at dksX5_init_0 0 rfl rfl)
theorem dX5_init_1 : decode cX5_init 1 = .ok (.invokespecial 1, 3) := dk_183 0 1 (dk_at dksX5_init_0 1 rfl rfl)
theorem dX5_init_4 : decode cX5_init 4 = .ok (.aload_n 0, 1) := dk_42 (dk_at dksX5_init_0 4 rfl rfl)
theorem dX5_init_5 : decode cX5_init 5 = .ok (.iload_n 1, 1) := dk_27 (dk_at dksX5_init_0 5 rfl rfl)
theorem dX5_init_6 : decode cX5_init 6 = .ok (.putfield 7, 3) := dk_181 0 7 (dk_at dksX5_init_0 6 rfl rfl)
theorem dX5_init_9 : decode cX5_init 9 = .ok (.aload_n 0, 1) := dk_42 (dk_at dksX5_init_0 9 rfl rfl)
theorem dX5_init_10 : decode cX5_init 10 = .ok (.iload_n 2, 1) := dk_28 (dk_at dksX5_init_0 10 rfl rfl)
theorem dX5_init_11 : decode cX5_init 11 = .ok (.putfield 13, 3) := dk_181 0 13 (dk_at dksX5_init_0 11 rfl rfl)
theorem dX5_init_14 : decode cX5_init 14 = .ok (.aload_n 0, 1) := dk_42 (dk_at dksX5_init_0 14 rfl rfl)
theorem dX5_init_15 : decode cX5_init 15 = .ok (.iload_n 3, 1) := dk_29 (dk_at dksX5_init_0 15 rfl rfl)
theorem dX5_init_16 : decode cX5_init 16 = .ok (.putfield 16, 3) := dk_181 0 16 (dk_at dksX5_init_0 16 rfl rfl)
theorem dX5_init_19 : decode cX5_init 19 = .ok (.aload_n 0, 1) := dk_42 (dk_at dksX5_init_0 19 rfl rfl)
theorem dX5_init_20 : decode cX5_init 20 = .ok (.iload 4, 2) := dk_21 4 (dk_at dksX5_init_0 20 rfl rfl)
theorem dX5_init_22 : decode cX5_init 22 = .ok (.putfield 19, 3) := dk_181 0 19 (dk_at dksX5_init_1 0 rfl rfl)
theorem dX5_init_25 : decode cX5_init 25 = .ok (.return_, 1) := dk_177 (dk_at dksX5_init_1 3 rfl rfl)
theorem q102 : (Jvm.Cond.initialized "SturmRoots$Interval") ∈ lw_all := lw_g (lw_at lw_m1 33 rfl) rfl
theorem q241 : (Jvm.Cond.selects "SturmRoots$Interval" ({ cls := "java/lang/Object", name := "getClass", desc := "()Ljava/lang/Class;" } : Jvm.MethodName) ({ cls := "java/lang/Object", name := "getClass", desc := "()Ljava/lang/Class;" } : Jvm.MethodName)) ∈ lw_all := lw_g (lw_at lw_m1 172 rfl) rfl
theorem q1595 : (Jvm.Cond.instantiable "SturmRoots$Interval" (4 : Nat)) ∈ lw_all := lw_g (lw_at lw_m7 86 rfl) rfl
theorem q1597 : (Jvm.Cond.instanceMethod ({ cls := "SturmRoots$Interval", name := "<init>", desc := "(IIII)V" } : Jvm.MethodName)) ∈ lw_all := lw_g (lw_at lw_m7 88 rfl) rfl
theorem q1598 : (Jvm.Cond.code ({ cls := "SturmRoots$Interval", name := "<init>", desc := "(IIII)V" } : Jvm.MethodName) prog_2_method_1_code (5 : Nat) (Option.none : Option Jvm.ClassFile.FieldType)) ∈ lw_all := lw_g (lw_at lw_m7 89 rfl) rfl
theorem q1599 : (Jvm.Cond.methodLink "SturmRoots$Interval" (1 : Nat) ({ cls := "java/lang/Object", name := "<init>", desc := "()V" } : Jvm.MethodName)) ∈ lw_all := lw_g (lw_at lw_m7 90 rfl) rfl
theorem q1600 : (Jvm.Cond.fieldLink "SturmRoots$Interval" (7 : Nat) "SturmRoots$Interval" "level" "I") ∈ lw_all := lw_g (lw_at lw_m7 91 rfl) rfl
theorem q1602 : (Jvm.Cond.fieldLink "SturmRoots$Interval" (13 : Nat) "SturmRoots$Interval" "lesser" "I") ∈ lw_all := lw_g (lw_at lw_m7 93 rfl) rfl
theorem q1604 : (Jvm.Cond.fieldLink "SturmRoots$Interval" (16 : Nat) "SturmRoots$Interval" "greater" "I") ∈ lw_all := lw_g (lw_at lw_m7 95 rfl) rfl
theorem q1606 : (Jvm.Cond.fieldLink "SturmRoots$Interval" (19 : Nat) "SturmRoots$Interval" "roots" "I") ∈ lw_all := lw_g (lw_at lw_m7 97 rfl) rfl
theorem q1608 : (Jvm.Cond.laysFinal "SturmRoots$Interval" "SturmRoots$Interval" "level" "I") ∈ lw_all := lw_g (lw_at lw_m7 99 rfl) rfl
theorem q1609 : (Jvm.Cond.soleField "SturmRoots$Interval" "level") ∈ lw_all := lw_g (lw_at lw_m7 100 rfl) rfl
theorem q1610 : (Jvm.Cond.laysFinal "SturmRoots$Interval" "SturmRoots$Interval" "lesser" "I") ∈ lw_all := lw_g (lw_at lw_m7 101 rfl) rfl
theorem q1611 : (Jvm.Cond.soleField "SturmRoots$Interval" "lesser") ∈ lw_all := lw_g (lw_at lw_m7 102 rfl) rfl
theorem q1612 : (Jvm.Cond.laysFinal "SturmRoots$Interval" "SturmRoots$Interval" "greater" "I") ∈ lw_all := lw_g (lw_at lw_m7 103 rfl) rfl
theorem q1613 : (Jvm.Cond.soleField "SturmRoots$Interval" "greater") ∈ lw_all := lw_g (lw_at lw_m7 104 rfl) rfl
theorem q1614 : (Jvm.Cond.laysFinal "SturmRoots$Interval" "SturmRoots$Interval" "roots" "I") ∈ lw_all := lw_g (lw_at lw_m7 105 rfl) rfl
theorem q1615 : (Jvm.Cond.soleField "SturmRoots$Interval" "roots") ∈ lw_all := lw_g (lw_at lw_m7 106 rfl) rfl
theorem q1616 : (Jvm.Cond.superclass "SturmRoots$Interval" "java/lang/Object") ∈ lw_all := lw_g (lw_at lw_m7 107 rfl) rfl
theorem q2186 : (Jvm.Cond.castable "SturmRoots$Interval" "java/lang/Object") ∈ lw_tbl := lw_at lw_m9 197 rfl
theorem in_X5 : ∀ w ∈ wsX50, w ∈ lw_all := lw_in wsX50 [1608, 1610, 1612, 1614] (by decide +kernel) (by decide +kernel)
